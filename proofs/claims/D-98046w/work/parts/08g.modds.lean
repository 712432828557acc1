/-! 08g: the model's odds and nights (steps printed by src/walk.py) -/
set_option maxRecDepth 100000
set_option maxHeartbeats 4000000
/-- as FM, but for the cold -/
def FMk (n : Nat) (I I' : KI) : Prop := (∀ a, a ≠ 200 → (a < 337 ∨ 343 < a) → (a < 347 ∨ 351 < a) → a ≠ 356 → a ≠ 360 → a ≠ 361 → I' a = I a) ∧ (∀ m, m < n → I' 337 m = I 337 m ∧ I' 338 m = I 338 m ∧ I' 339 m = I 339 m) ∧ ∀ k, k ≠ 3 → k ≠ 45 → k ≠ 54 → k ≠ 55 → k ≠ 62 → I' 200 k = I 200 k
theorem FM.k {n : Nat} {I I' : KI} (h : FM n I I') : FMk n I I' := ⟨h.1, h.2.1, fun k k1 _ k3 k4 k5 => h.2.2 k k1 k3 k4 k5⟩
theorem FMk.tr {n : Nat} {I I1 I2 : KI} (h : FMk n I I1) (h2 : FMk n I1 I2) : FMk n I I2 :=
  ⟨fun a a1 a2 a3 a4 a5 a6 => (h2.1 a a1 a2 a3 a4 a5 a6).trans (h.1 a a1 a2 a3 a4 a5 a6), fun m hm => ⟨(h2.2.1 m hm).1.trans (h.2.1 m hm).1, (h2.2.1 m hm).2.1.trans (h.2.1 m hm).2.1, (h2.2.1 m hm).2.2.trans (h.2.1 m hm).2.2⟩, fun k k1 k2 k3 k4 k5 => (h2.2.2 k k1 k2 k3 k4 k5).trans (h.2.2 k k1 k2 k3 k4 k5)⟩
theorem FMk.w {n : Nat} {I I' : KI} {c : Int32} (h : FMk n I I') : FMk n I (w2 I' 200 45 c) :=
  ⟨fun a a1 a2 a3 a4 a5 a6 => (w2_r a1).trans (h.1 a a1 a2 a3 a4 a5 a6), fun m hm => by rw [w2_r (by omega), w2_r (by omega), w2_r (by omega)]; exact h.2.1 m hm, fun k k1 k2 k3 k4 k5 => (w2_n2 k2).trans (h.2.2 k k1 k2 k3 k4 k5)⟩
theorem FMk.back {n : Nat} {I I' : KI} {c : Int32} (h : FMk n I I') (hc : c = I 200 45) : FM n I (w2 I' 200 45 c) :=
  ⟨fun a a1 a2 a3 a4 a5 a6 => (w2_r a1).trans (h.1 a a1 a2 a3 a4 a5 a6), fun m hm => by rw [w2_r (by omega), w2_r (by omega), w2_r (by omega)]; exact h.2.1 m hm, fun k k1 k3 k4 k5 => by
    by_cases hk : k = 45
    · subst hk; rw [w2_s, hc]
    · exact (w2_n2 hk).trans (h.2.2 k k1 hk k3 k4 k5)⟩
theorem MS.fmk {T : KT} {I I' : KI} {R : KR} {N : KI} {k : Nat} (h : MS T I R N) (hf : FMk (nM N) I I') (hc : I' 200 45 = nI k) (hk : k < 10) : MS T I' R (coldN N (nI k)) := by
  obtain ⟨hT, hR, ⟨v1, v2, v3, v4⟩, hN, hM⟩ := h
  refine ⟨hT, hR, ⟨fun a a1 a2 => ?_, fun m hm => ?_, ?_, ?_⟩, hN.view (fun a a1 a2 => coldN_P a (by omega)), coldN_MOK hM hk⟩
  · rw [coldN_P a (by omega)]; exact (hf.1 a (by omega) (by omega) (by omega) (by omega) (by omega) (by omega)).trans (v1 a a1 a2)
  · rw [coldN_M] at hm
    rw [coldN_P 337 (by omega), coldN_P 338 (by omega), coldN_P 339 (by omega)]
    exact ⟨(hf.2.1 m hm).1.trans (v2 m hm).1, (hf.2.1 m hm).2.1.trans (v2 m hm).2.1, (hf.2.1 m hm).2.2.trans (v2 m hm).2.2⟩
  · rw [hf.2.2 44 (by omega) (by omega) (by omega) (by omega) (by omega), v3]; exact (w2_n2 (by omega)).symm
  · rw [hc]; exact (w2_s _ _ _ _).symm
section MG
variable {T : KT} {I : KI} {R : KR} {J : KJ} {N : KI}
theorem c_X5_common {a c : Nat} (ha : a < 2 ^ 31) (hc : c < 2 ^ 31) : MX5_common 0 0 [.int (nI a), .int (nI c)] T I R J (qR (some (.int (nI (Nat.gcd a c)))) T I R J) noX := by
  refine AMet.of (by decide) (Nat.le_of_ble_eq_true rfl) (cats1 rfl) fun cx X E => ?_
  show AW _ _ _ (_ :: _ :: _ :: _ :: _ :: []) _ _ _ _ _
  have lp : ∀ (n x z : Nat) (v4 : Value), z ≤ n → x < 2 ^ 31 → z < 2 ^ 31 → Nat.gcd x z = Nat.gcd a c → AW cx 0 4 [.int (nI a), .int (nI c), .int (nI x), .int (nI z), v4] [] T I R J := by
    intro n
    induction n with
    | zero =>
      intro x z v4 hz hx hz2 hg
      obtain rfl : z = 0 := Nat.le_zero.mp hz
      rw [Nat.gcd_zero_right] at hg
      rw [← hg] at E
      refine AW.iload_n X dX5_common_4 rfl rfl ?_
      refine AW.if_eq X (tgt := 21) dX5_common_5 rfl ?_ ?_
      · intro t5
        refine AW.iload_n X dX5_common_21 rfl rfl ?_
        exact AW.ireturn X E ⟨rfl, rfl, rfl, rfl, rfl⟩ dX5_common_22 
      · intro f5
        exact absurd rfl f5
    | succ n ih =>
      intro x z v4 hz hx hz2 hg
      by_cases h0 : z = 0
      · exact ih x z v4 (by omega) hx hz2 hg
      · have hm : x % z < z := Nat.mod_lt _ (by omega)
        have h9 := ih z (x % z) (.int (nI (x % z))) (by omega) hz2 (by omega) (by rw [← hg, Nat.gcd_comm z (x % z), ← Nat.gcd_rec, Nat.gcd_comm])
        refine AW.iload_n X dX5_common_4 rfl rfl ?_
        refine AW.if_eq X (tgt := 21) dX5_common_5 rfl ?_ ?_
        · intro t5
          exact absurd t5 (nI_ne0 (by omega) hz2)
        · intro f5
          refine AW.iload_n X dX5_common_8 rfl rfl ?_
          refine AW.iload_n X dX5_common_9 rfl rfl ?_
          refine AW.irem X dX5_common_10 (nI_ne0 (by omega) hz2) ?_
          rw [nI_rem hx hz2]
          refine AW.istore4 X dX5_common_11 ?_
          refine AW.iload_n X dX5_common_13 rfl rfl ?_
          refine AW.istore2 X dX5_common_14 ?_
          refine AW.iload X dX5_common_15 rfl ?_
          refine AW.istore3 X dX5_common_17 ?_
          refine AW.goto X (tgt := 4) dX5_common_18 rfl ?_
          exact h9
  refine AW.iload_n X dX5_common_0 rfl rfl ?_
  refine AW.istore2 X dX5_common_1 ?_
  refine AW.iload_n X dX5_common_2 rfl rfl ?_
  refine AW.istore3 X dX5_common_3 ?_
  exact lp c a c _ (Nat.le_refl _) ha hc rfl
theorem c_X5_odds {s : Nat} {w : Int32} (hS : MS T I R N) (hs : s < nS N) (hw : w = 0 ∨ w = 1) : MX5_odds 10 0 [.ref 200, .int (nI s), .int w] T I R J (qM (some (.int (oddsV N s w))) (nM N) T I R J) noX := by
  have hS0 := hS
  have hS1 : MS T (w2 I 200 3 0) R N := hS.cod
  obtain ⟨hT, hR, hV, hN, hM⟩ := hS
  obtain ⟨⟨n1, n2, n3, n4, hnq, hne, hns, hnh⟩, -⟩ := id hN
  obtain ⟨hw1, hw2⟩ := wN_b hN 10 (by omega)
  have v319 := hV.1 319 (by omega) (by omega)
  refine AMet.of (by decide) (Nat.le_of_ble_eq_true rfl) (cats1 rfl) fun cx X E => ?_
  show AW _ _ _ (_ :: _ :: _ :: _ :: _ :: _ :: _ :: []) _ _ _ _ _
  have fin : ∀ x I', x = oddsV N s w → I' 200 3 = 0 → FM (nM N) I I' → ∀ l3 l4 l5 l6, AW cx 0 160 [.ref 200, .int (nI s), .int w, l3, l4, l5, l6] [.int x] T I' R J := by
    intro x I' hx h3 hf l3 l4 l5 l6
    rw [hx]
    refine AW.ireturn X E ?_ dX5_odds_160 
    exact ⟨rfl, rfl, rfl, rfl, h3, hf⟩
  have lp : ∀ j k (I' : KI) v6, k + j = 10 → FMk (nM N) I I' → I' 200 3 = 0 → I' 200 45 = nI k → AW cx 0 44 [.ref 200, .int (nI s), .int w, .int (I 200 45), .int (upW N s k), .int (sumW N k), v6] [] T I' R J := by
    intro j
    induction j with
    | zero =>
      intro k I' v6 hk hf h3 hc
      obtain rfl : k = 10 := by omega
      obtain ⟨u, hu, hul⟩ := upW_b (s := s) hN 10 (by omega)
      have hf2 := hf.back (c := I 200 45) rfl
      by_cases hz : sumW N 10 = 0
      · have hw0 : wN N 10 = 0 := (nI_eq (b := 0) (by omega) (by omega)).mp (hw1.symm.trans hz)
        have hu0 : upW N s 10 = 0 := by rw [hu, show u = 0 by omega]; rfl
        have hO : oddsV N s w = w := by unfold oddsV; rw [if_pos hz]
        rw [hz, hu0]
        first | refine AW.aload_n X dX5_odds_44 rfl rfl ?_ | refine AW.aloadN_n X dX5_odds_44 rfl rfl ?_
        refine AW.getI X f_X5_340_18 (by first | assumption | exact hT _ _ rfl) dX5_odds_45 ?_
        rw [hc]
        refine AW.bipush X (v := 10) dX5_odds_48 rfl ?_
        refine AW.icmp_ge X (tgt := 111) dX5_odds_50 rfl ?_ ?_
        · intro t50
          first | refine AW.aload_n X dX5_odds_111 rfl rfl ?_ | refine AW.aloadN_n X dX5_odds_111 rfl rfl ?_
          refine AW.iload_n X dX5_odds_112 rfl rfl ?_
          refine AW.putI X g_X5_odds_340_18 (by omega) (by first | assumption | exact hT _ _ rfl) dX5_odds_113 ?_ 
          refine AW.iload X dX5_odds_116 rfl ?_
          refine AW.if_ne X (tgt := 125) dX5_odds_118 rfl ?_ ?_
          · intro t118
            exact absurd rfl t118
          · intro f118
            refine AW.iconst X (v := 1) dX5_odds_121 rfl ?_
            refine AW.goto X (tgt := 132) dX5_odds_122 rfl ?_
            refine AW.istore6 X dX5_odds_132 ?_
            refine AW.iload_n X dX5_odds_134 rfl rfl ?_
            refine AW.if_ne X (tgt := 146) dX5_odds_135 rfl ?_ ?_
            · intro t135
              refine AW.iload X dX5_odds_146 rfl ?_
              refine AW.if_ne X (tgt := 155) dX5_odds_148 rfl ?_ ?_
              · intro t148
                exact absurd rfl t148
              · intro f148
                refine AW.iconst X (v := 1) dX5_odds_151 rfl ?_
                refine AW.goto X (tgt := 160) dX5_odds_152 rfl ?_
                first | exact fin _ _ (by rw [hO, f135]; decide) ((w2_n2 (by omega)).trans h3) hf2 _ _ _ _ | exact fin _ _ (by rw [hO]; exact (hw.resolve_left t135).symm) ((w2_n2 (by omega)).trans h3) hf2 _ _ _ _
            · intro f135
              refine AW.iload X dX5_odds_138 rfl ?_
              refine AW.iload X dX5_odds_140 rfl ?_
              refine AW.idiv X dX5_odds_142 (by decide) ?_
              refine AW.goto X (tgt := 160) dX5_odds_143 rfl ?_
              first | exact fin _ _ (by rw [hO, f135]; decide) ((w2_n2 (by omega)).trans h3) hf2 _ _ _ _ | exact fin _ _ (by rw [hO]; exact (hw.resolve_left t135).symm) ((w2_n2 (by omega)).trans h3) hf2 _ _ _ _
        · intro f50
          exact absurd (by decide) f50
      · have hu2 : (upW N s 10).toNatClampNeg = u := by rw [hu]; exact nI_clamp (by omega)
        have hg : oddsV N s w = (if w = 0 then nI u else nI (wN N 10)) / nI (Nat.gcd (wN N 10) u) := by unfold oddsV; rw [if_neg hz, hu2, hu, hw1]
        have hg0 : 0 < Nat.gcd (wN N 10) u := Nat.gcd_pos_of_pos_left _ (Nat.pos_of_ne_zero (fun z => hz (by rw [hw1, z]; rfl)))
        have hg1 : Nat.gcd (wN N 10) u ≤ wN N 10 := Nat.gcd_le_left _ (Nat.pos_of_ne_zero (fun z => hz (by rw [hw1, z]; rfl)))
        have hz2 : ¬ nI (wN N 10) = 0 := fun z => hz (hw1.trans z)
        rw [hu, hw1]
        first | refine AW.aload_n X dX5_odds_44 rfl rfl ?_ | refine AW.aloadN_n X dX5_odds_44 rfl rfl ?_
        refine AW.getI X f_X5_340_18 (by first | assumption | exact hT _ _ rfl) dX5_odds_45 ?_
        rw [hc]
        refine AW.bipush X (v := 10) dX5_odds_48 rfl ?_
        refine AW.icmp_ge X (tgt := 111) dX5_odds_50 rfl ?_ ?_
        · intro t50
          first | refine AW.aload_n X dX5_odds_111 rfl rfl ?_ | refine AW.aloadN_n X dX5_odds_111 rfl rfl ?_
          refine AW.iload_n X dX5_odds_112 rfl rfl ?_
          refine AW.putI X g_X5_odds_340_18 (by omega) (by first | assumption | exact hT _ _ rfl) dX5_odds_113 ?_ 
          refine AW.iload X dX5_odds_116 rfl ?_
          refine AW.if_ne X (tgt := 125) dX5_odds_118 rfl ?_ ?_
          · intro t118
            refine AW.iload X dX5_odds_125 rfl ?_
            refine AW.iload X dX5_odds_127 rfl ?_
            refine AW.callS_r X (c_X5_common (a := wN N 10) (c := u) (by omega) (by omega)) s_X5_431 (by omega) (Nat.le_of_ble_eq_true rfl) rfl rfl (Nat.le_of_ble_eq_true rfl) dX5_odds_129 ?_
            refine AW.istore6 X dX5_odds_132 ?_
            refine AW.iload_n X dX5_odds_134 rfl rfl ?_
            refine AW.if_ne X (tgt := 146) dX5_odds_135 rfl ?_ ?_
            · intro t135
              rw [if_neg t135] at hg
              refine AW.iload X dX5_odds_146 rfl ?_
              refine AW.if_ne X (tgt := 155) dX5_odds_148 rfl ?_ ?_
              · intro t148
                refine AW.iload X dX5_odds_155 rfl ?_
                refine AW.iload X dX5_odds_157 rfl ?_
                refine AW.idiv X dX5_odds_159 (nI_ne0 hg0 (by omega)) ?_
                exact fin _ _ hg.symm ((w2_n2 (by omega)).trans h3) hf2 _ _ _ _
              · intro f148
                exact absurd f148 hz2
            · intro f135
              rw [if_pos f135] at hg
              refine AW.iload X dX5_odds_138 rfl ?_
              refine AW.iload X dX5_odds_140 rfl ?_
              refine AW.idiv X dX5_odds_142 (nI_ne0 hg0 (by omega)) ?_
              refine AW.goto X (tgt := 160) dX5_odds_143 rfl ?_
              exact fin _ _ hg.symm ((w2_n2 (by omega)).trans h3) hf2 _ _ _ _
          · intro f118
            exact absurd f118 hz2
        · intro f50
          exact absurd (by decide) f50
    | succ j ih =>
      intro k I' v6 hk hf h3 hc
      have hS2 := hS0.fmk hf hc (show k < 10 by omega)
      have hs2 : s < nS (coldN N (nI k)) := by rw [show nS (coldN N (nI k)) = nS N from nat_eq (coldN_P 304 (by omega))]; exact hs
      have hst : upW N s (k + 1) = if nEnd (coldN N (nI k)) s = 2 then upW N s k + N 319 k else upW N s k := rfl
      have hsu : sumW N (k + 1) = sumW N k + N 319 k := rfl
      have e2 := endK_le (coldN N (nI k)) (posAt (coldN N (nI k)) (Lig (coldN N (nI k))) (hRow (coldN N (nI k))) s 24)
      have nx : ∀ I2 v6 z, z = upW N s (k + 1) → FMk (nM N) I' I2 → I2 200 3 = 0 → I2 200 45 = nI k → AW cx 0 82 [.ref 200, .int (nI s), .int w, .int (I 200 45), .int (upW N s k), .int (sumW N k), v6] [.int z] T I2 R J := by
        intro I2 v6 z hz hf2 g3 gc
        have w319 : I2 319 = N 319 := (hf2.1 319 (by omega) (by omega) (by omega) (by omega) (by omega) (by omega)).trans ((hf.1 319 (by omega) (by omega) (by omega) (by omega) (by omega) (by omega)).trans v319)
        refine AW.istore4 X dX5_odds_82 ?_
        refine AW.iload X dX5_odds_84 rfl ?_
        first | refine AW.aload_n X dX5_odds_86 rfl rfl ?_ | refine AW.aloadN_n X dX5_odds_86 rfl rfl ?_
        refine AW.getR X f_X5_91_18 (by first | assumption | exact hT _ _ rfl) (by first | assumption | exact hR _ _ _ rfl) dX5_odds_87 ?_
        first | refine AW.aload_n X dX5_odds_90 rfl rfl ?_ | refine AW.aloadN_n X dX5_odds_90 rfl rfl ?_
        refine AW.getI X f_X5_340_18 (by first | assumption | exact hT _ _ rfl) dX5_odds_91 ?_
        rw [gc]
        refine AW.iald X (j := k) (by first | assumption | exact hT _ _ rfl) (by repeat (first | with_reducible exact rfl | assumption | exact ix_l _ | apply ix_add | apply ix_mul)) (by omega) dX5_odds_94 ?_
        rw [w319]
        refine AW.iadd X dX5_odds_95 ?_
        refine AW.istore5 X dX5_odds_96 ?_
        first | refine AW.aload_n X dX5_odds_98 rfl rfl ?_ | refine AW.aloadN_n X dX5_odds_98 rfl rfl ?_
        refine AW.dup X dX5_odds_99 rfl ?_
        refine AW.getI X f_X5_340_18 (by first | assumption | exact hT _ _ rfl) dX5_odds_100 ?_
        rw [gc]
        refine AW.iconst X (v := 1) dX5_odds_103 rfl ?_
        refine AW.iadd X dX5_odds_104 ?_
        rw [nI_1]
        refine AW.putI X g_X5_odds_340_18 (by omega) (by first | assumption | exact hT _ _ rfl) dX5_odds_105 ?_ 
        refine AW.goto X (tgt := 44) dX5_odds_108 rfl ?_
        rw [hz, ← hsu]
        exact ih (k + 1) _ _ (by omega) ((hf.tr hf2).w) ((w2_n2 (by omega)).trans g3) (w2_s _ _ _ _)
      first | refine AW.aload_n X dX5_odds_44 rfl rfl ?_ | refine AW.aloadN_n X dX5_odds_44 rfl rfl ?_
      refine AW.getI X f_X5_340_18 (by first | assumption | exact hT _ _ rfl) dX5_odds_45 ?_
      rw [hc]
      refine AW.bipush X (v := 10) dX5_odds_48 rfl ?_
      refine AW.icmp_ge X (tgt := 111) dX5_odds_50 rfl ?_ ?_
      · intro t50
        exact absurd t50 (nI_ge (b := 10) (by omega) (by omega))
      · intro f50
        first | refine AW.aload_n X dX5_odds_53 rfl rfl ?_ | refine AW.aloadN_n X dX5_odds_53 rfl rfl ?_
        refine AW.callV_i X (c_X5_tellNight hS2) (ci := 18) (q := (RX5, TX5, 74)) (by first | assumption | exact hT _ _ rfl) rfl s_X5_392_18 (by omega) (Nat.le_of_ble_eq_true rfl) rfl rfl (Nat.le_of_ble_eq_true rfl) dX5_odds_54 ?_
        intro r54 I54 h54
        obtain ⟨rfl, hf3, hn⟩ := h54
        refine AW.iload X dX5_odds_57 rfl ?_
        first | refine AW.aload_n X dX5_odds_59 rfl rfl ?_ | refine AW.aloadN_n X dX5_odds_59 rfl rfl ?_
        refine AW.iload_n X dX5_odds_60 rfl rfl ?_
        refine AW.callV_i X (c_X5_endOf (hS2.fe hf3) hn hs2) (ci := 18) (q := (RX5, TX5, 74)) (by first | assumption | exact hT _ _ rfl) rfl s_X5_414_18 (by omega) (Nat.le_of_ble_eq_true rfl) rfl rfl (Nat.le_of_ble_eq_true rfl) dX5_odds_61 ?_
        intro r61 I61 h61
        obtain ⟨rfl, hf4, hl⟩ := h61
        have g3 : I61 200 3 = 0 := (congrFun (hf4 200 (by omega)) 3).trans ((congrFun hf3.s 3).trans h3)
        have gc : I61 200 45 = nI k := (congrFun (hf4 200 (by omega)) 45).trans ((congrFun hf3.s 45).trans hc)
        have hfk : FMk (nM N) I' I61 := ((hf3.fm).tr (FM.w349 hf4)).k
        refine AW.iconst X (v := 2) dX5_odds_64 rfl ?_
        refine AW.icmp_ne X (tgt := 80) dX5_odds_65 rfl ?_ ?_
        · intro t65
          rw [if_neg (fun hc => t65 (congrArg nI hc))] at hst
          refine AW.iconst X (v := 0) dX5_odds_80 rfl ?_
          refine AW.iadd X dX5_odds_81 ?_
          first | exact nx _ _ _ hst.symm hfk g3 gc | (rw [Int32.add_zero]; exact nx _ _ _ hst.symm hfk g3 gc)
        · intro f65
          rw [if_pos ((nI_eq (b := 2) (by unfold nEnd; omega) (by omega)).mp f65)] at hst
          first | refine AW.aload_n X dX5_odds_68 rfl rfl ?_ | refine AW.aloadN_n X dX5_odds_68 rfl rfl ?_
          refine AW.getR X f_X5_91_18 (by first | assumption | exact hT _ _ rfl) (by first | assumption | exact hR _ _ _ rfl) dX5_odds_69 ?_
          first | refine AW.aload_n X dX5_odds_72 rfl rfl ?_ | refine AW.aloadN_n X dX5_odds_72 rfl rfl ?_
          refine AW.getI X f_X5_340_18 (by first | assumption | exact hT _ _ rfl) dX5_odds_73 ?_
          rw [gc]
          refine AW.iald X (j := k) (by first | assumption | exact hT _ _ rfl) (by repeat (first | with_reducible exact rfl | assumption | exact ix_l _ | apply ix_add | apply ix_mul)) (by omega) dX5_odds_76 ?_
          rw [hfk.1 319 (by omega) (by omega) (by omega) (by omega) (by omega) (by omega), hf.1 319 (by omega) (by omega) (by omega) (by omega) (by omega) (by omega), v319]
          refine AW.goto X (tgt := 81) dX5_odds_77 rfl ?_
          refine AW.iadd X dX5_odds_81 ?_
          first | exact nx _ _ _ hst.symm hfk g3 gc | (rw [Int32.add_zero]; exact nx _ _ _ hst.symm hfk g3 gc)
  first | refine AW.aload_n X dX5_odds_0 rfl rfl ?_ | refine AW.aloadN_n X dX5_odds_0 rfl rfl ?_
  refine AW.iconst X (v := 0) dX5_odds_1 rfl ?_
  refine AW.putI X g_X5_odds_194_18 (by omega) (by first | assumption | exact hT _ _ rfl) dX5_odds_2 ?_ 
  first | refine AW.aload_n X dX5_odds_5 rfl rfl ?_ | refine AW.aloadN_n X dX5_odds_5 rfl rfl ?_
  refine AW.iload_n X dX5_odds_6 rfl rfl ?_
  refine AW.callV_r X (c_X5_isShip (nI s) hS1) (ci := 18) (q := (RX5, TX5, 74)) (by first | assumption | exact hT _ _ rfl) rfl s_X5_382_18 (by omega) (Nat.le_of_ble_eq_true rfl) rfl rfl (Nat.le_of_ble_eq_true rfl) dX5_odds_7 ?_
  rw [bI_t ⟨nI_pos' (by omega), nI_lt hs (by omega)⟩]
  refine AW.if_eq X (tgt := 22) dX5_odds_10 rfl ?_ ?_
  · intro t10
    exact absurd t10 (by decide)
  · intro f10
    refine AW.iload_n X dX5_odds_13 rfl rfl ?_
    refine AW.if_lt X (tgt := 22) dX5_odds_14 rfl ?_ ?_
    · intro t14
      exact absurd t14 (by rcases hw with rfl | rfl <;> decide)
    · intro f14
      refine AW.iload_n X dX5_odds_17 rfl rfl ?_
      refine AW.iconst X (v := 1) dX5_odds_18 rfl ?_
      refine AW.icmp_le X (tgt := 28) dX5_odds_19 rfl ?_ ?_
      · intro t19
        first | refine AW.aload_n X dX5_odds_28 rfl rfl ?_ | refine AW.aloadN_n X dX5_odds_28 rfl rfl ?_
        refine AW.getI X f_X5_340_18 (by first | assumption | exact hT _ _ rfl) dX5_odds_29 ?_
        rw [w2_n2 (by omega)]
        refine AW.istore3 X dX5_odds_32 ?_
        refine AW.iconst X (v := 0) dX5_odds_33 rfl ?_
        refine AW.istore4 X dX5_odds_34 ?_
        refine AW.iconst X (v := 0) dX5_odds_36 rfl ?_
        refine AW.istore5 X dX5_odds_37 ?_
        first | refine AW.aload_n X dX5_odds_39 rfl rfl ?_ | refine AW.aloadN_n X dX5_odds_39 rfl rfl ?_
        refine AW.iconst X (v := 0) dX5_odds_40 rfl ?_
        refine AW.putI X g_X5_odds_340_18 (by omega) (by first | assumption | exact hT _ _ rfl) dX5_odds_41 ?_ 
        exact lp 10 0 _ _ rfl (FM.cod.k.w) (by rw [w2_n2 (by omega), w2_s]) (w2_s _ _ _ _)
      · intro f19
        exact absurd (show w ≤ 1 by rcases hw with rfl | rfl <;> decide) f19
theorem c_X5_odds_bad {e w : Int32} (hS : MS T I R N) (hb : ¬ ((0 ≤ e ∧ e < nI (nS N)) ∧ (w = 0 ∨ w = 1))) : MX5_odds 10 0 [.ref 200, .int e, .int w] T I R J (qF 1 (nM N) T I R J) noX := by
  have hS1 : MS T (w2 I 200 3 0) R N := hS.cod
  obtain ⟨hT, hR, hV, hN, hM⟩ := hS
  refine AMet.of (by decide) (Nat.le_of_ble_eq_true rfl) (cats1 rfl) fun cx X E => ?_
  show AW _ _ _ (_ :: _ :: _ :: _ :: _ :: _ :: _ :: []) _ _ _ _ _
  by_cases hi : 0 ≤ e ∧ e < nI (nS N)
  · skip
    first | refine AW.aload_n X dX5_odds_0 rfl rfl ?_ | refine AW.aloadN_n X dX5_odds_0 rfl rfl ?_
    refine AW.iconst X (v := 0) dX5_odds_1 rfl ?_
    refine AW.putI X g_X5_odds_194_18 (by omega) (by first | assumption | exact hT _ _ rfl) dX5_odds_2 ?_ 
    first | refine AW.aload_n X dX5_odds_5 rfl rfl ?_ | refine AW.aloadN_n X dX5_odds_5 rfl rfl ?_
    refine AW.iload_n X dX5_odds_6 rfl rfl ?_
    refine AW.callV_r X (c_X5_isShip e hS1) (ci := 18) (q := (RX5, TX5, 74)) (by first | assumption | exact hT _ _ rfl) rfl s_X5_382_18 (by omega) (Nat.le_of_ble_eq_true rfl) rfl rfl (Nat.le_of_ble_eq_true rfl) dX5_odds_7 ?_
    rw [bI_t hi]
    refine AW.if_eq X (tgt := 22) dX5_odds_10 rfl ?_ ?_
    · intro t10
      exact absurd t10 (by decide)
    · intro f10
      refine AW.iload_n X dX5_odds_13 rfl rfl ?_
      refine AW.if_lt X (tgt := 22) dX5_odds_14 rfl ?_ ?_
      · intro t14
        first | refine AW.aload_n X dX5_odds_22 rfl rfl ?_ | refine AW.aloadN_n X dX5_odds_22 rfl rfl ?_
        refine AW.iconst X (v := 1) dX5_odds_23 rfl ?_
        refine AW.callV_i X (c_X5_fail hT 1) (ci := 18) (q := (RX5, TX5, 74)) (by first | assumption | exact hT _ _ rfl) rfl s_X5_323_18 (by omega) (Nat.le_of_ble_eq_true rfl) rfl rfl (Nat.le_of_ble_eq_true rfl) dX5_odds_24 ?_
        intro r24 I24 h24
        obtain ⟨rfl, rfl⟩ := h24
        refine AW.ireturn X E ?_ dX5_odds_27 
        exact ⟨rfl, rfl, rfl, ⟨_, rfl⟩, w2_s _ _ _ _, FM.cod.tr FM.cod⟩
      · intro f14
        refine AW.iload_n X dX5_odds_17 rfl rfl ?_
        refine AW.iconst X (v := 1) dX5_odds_18 rfl ?_
        refine AW.icmp_le X (tgt := 28) dX5_odds_19 rfl ?_ ?_
        · intro t19
          exact absurd ⟨hi, in01 (Int32.not_lt.mp f14) t19⟩ hb
        · intro f19
          first | refine AW.aload_n X dX5_odds_22 rfl rfl ?_ | refine AW.aloadN_n X dX5_odds_22 rfl rfl ?_
          refine AW.iconst X (v := 1) dX5_odds_23 rfl ?_
          refine AW.callV_i X (c_X5_fail hT 1) (ci := 18) (q := (RX5, TX5, 74)) (by first | assumption | exact hT _ _ rfl) rfl s_X5_323_18 (by omega) (Nat.le_of_ble_eq_true rfl) rfl rfl (Nat.le_of_ble_eq_true rfl) dX5_odds_24 ?_
          intro r24 I24 h24
          obtain ⟨rfl, rfl⟩ := h24
          refine AW.ireturn X E ?_ dX5_odds_27 
          exact ⟨rfl, rfl, rfl, ⟨_, rfl⟩, w2_s _ _ _ _, FM.cod.tr FM.cod⟩
  · skip
    first | refine AW.aload_n X dX5_odds_0 rfl rfl ?_ | refine AW.aloadN_n X dX5_odds_0 rfl rfl ?_
    refine AW.iconst X (v := 0) dX5_odds_1 rfl ?_
    refine AW.putI X g_X5_odds_194_18 (by omega) (by first | assumption | exact hT _ _ rfl) dX5_odds_2 ?_ 
    first | refine AW.aload_n X dX5_odds_5 rfl rfl ?_ | refine AW.aloadN_n X dX5_odds_5 rfl rfl ?_
    refine AW.iload_n X dX5_odds_6 rfl rfl ?_
    refine AW.callV_r X (c_X5_isShip e hS1) (ci := 18) (q := (RX5, TX5, 74)) (by first | assumption | exact hT _ _ rfl) rfl s_X5_382_18 (by omega) (Nat.le_of_ble_eq_true rfl) rfl rfl (Nat.le_of_ble_eq_true rfl) dX5_odds_7 ?_
    rw [bI_f hi]
    refine AW.if_eq X (tgt := 22) dX5_odds_10 rfl ?_ ?_
    · intro t10
      first | refine AW.aload_n X dX5_odds_22 rfl rfl ?_ | refine AW.aloadN_n X dX5_odds_22 rfl rfl ?_
      refine AW.iconst X (v := 1) dX5_odds_23 rfl ?_
      refine AW.callV_i X (c_X5_fail hT 1) (ci := 18) (q := (RX5, TX5, 74)) (by first | assumption | exact hT _ _ rfl) rfl s_X5_323_18 (by omega) (Nat.le_of_ble_eq_true rfl) rfl rfl (Nat.le_of_ble_eq_true rfl) dX5_odds_24 ?_
      intro r24 I24 h24
      obtain ⟨rfl, rfl⟩ := h24
      refine AW.ireturn X E ?_ dX5_odds_27 
      exact ⟨rfl, rfl, rfl, ⟨_, rfl⟩, w2_s _ _ _ _, FM.cod.tr FM.cod⟩
    · intro f10
      exact absurd rfl f10
theorem c_X5_nights {s n : Nat} {seed : Int32} (hS : MS T I R N) (hs : s < nS N) (hn : n ≤ 60) : MX5_nights 10 0 [.ref 200, .int (nI s), .int seed, .int (nI n)] T I R J (qM (some (.int (nst N s seed n).2)) (nM N) T I R J) noX := by
  have hS0 := hS
  have hS1 : MS T (w2 I 200 3 0) R N := hS.cod
  obtain ⟨hT, hR, hV, hN, hM⟩ := hS
  obtain ⟨⟨n1, n2, n3, n4, hnq, hne, hns, hnh⟩, -⟩ := id hN
  obtain ⟨hw1, hw2⟩ := wN_b hN 10 (by omega)
  have v319 := hV.1 319 (by omega) (by omega)
  refine AMet.of (by decide) (Nat.le_of_ble_eq_true rfl) (cats1 rfl) fun cx X E => ?_
  show AW _ _ _ (_ :: _ :: _ :: _ :: _ :: _ :: _ :: _ :: _ :: _ :: []) _ _ _ _ _
  have lp : ∀ j i (I' : KI) (v9 : Value), i + j = n → FMk (nM N) I I' → I' 200 3 = 0 → AW cx 0 81 [.ref 200, .int (nI s), .int seed, .int (nI n), .int (I 200 45), .int (sumW N 10), .int (nst N s seed i).1, .int (nst N s seed i).2, .int (nI i), v9] [] T I' R J := by
    intro j
    induction j with
    | zero =>
      intro i I' v9 hk hf h3
      obtain rfl : i = n := by omega
      refine AW.iload X dX5_nights_81 rfl ?_
      refine AW.iload_n X dX5_nights_83 rfl rfl ?_
      refine AW.icmp_ge X (tgt := 193) dX5_nights_84 rfl ?_ ?_
      · intro t84
        first | refine AW.aload_n X dX5_nights_193 rfl rfl ?_ | refine AW.aloadN_n X dX5_nights_193 rfl rfl ?_
        refine AW.iload X dX5_nights_194 rfl ?_
        refine AW.putI X g_X5_nights_340_18 (by omega) (by first | assumption | exact hT _ _ rfl) dX5_nights_196 ?_ 
        refine AW.iload X dX5_nights_199 rfl ?_
        refine AW.ireturn X E ?_ dX5_nights_201 
        exact ⟨rfl, rfl, rfl, rfl, (w2_n2 (by omega)).trans h3, hf.back rfl⟩
      · intro f84
        exact absurd (Int32.le_refl _) f84
    | succ j ih =>
      intro i I' v9 hk hf h3
      have fin : ∀ k (p1 : Int32) (v9 : Value) (I2 : KI), k < 10 → FMk (nM N) I I2 → I2 200 3 = 0 → I2 200 45 = nI k → nst N s seed (i + 1) = (p1, if nEnd (coldN N (nI k)) s = 1 then (nst N s seed i).2 + 1 else (nst N s seed i).2) → AW cx 0 164 [.ref 200, .int (nI s), .int seed, .int (nI n), .int (I 200 45), .int (sumW N 10), .int p1, .int (nst N s seed i).2, .int (nI i), v9] [] T I2 R J := by
        intro k p1 v9 I2 hk10 hf2 g3 gc hst
        have hS2 := hS0.fmk hf2 gc hk10
        have hs2 : s < nS (coldN N (nI k)) := by rw [show nS (coldN N (nI k)) = nS N from nat_eq (coldN_P 304 (by omega))]; exact hs
        have e2 := endK_le (coldN N (nI k)) (posAt (coldN N (nI k)) (Lig (coldN N (nI k))) (hRow (coldN N (nI k))) s 24)
        have nx : ∀ I3 v9, FMk (nM N) I I3 → I3 200 3 = 0 → AW cx 0 81 [.ref 200, .int (nI s), .int seed, .int (nI n), .int (I 200 45), .int (sumW N 10), .int (nst N s seed (i + 1)).1, .int (nst N s seed (i + 1)).2, .int (nI (i + 1)), v9] [] T I3 R J := fun I3 v9 h1 h2 => ih (i + 1) I3 v9 (by omega) h1 h2
        rw [hst] at nx
        first | refine AW.aload_n X dX5_nights_164 rfl rfl ?_ | refine AW.aloadN_n X dX5_nights_164 rfl rfl ?_
        refine AW.callV_i X (c_X5_tellNight hS2) (ci := 18) (q := (RX5, TX5, 74)) (by first | assumption | exact hT _ _ rfl) rfl s_X5_392_18 (by omega) (Nat.le_of_ble_eq_true rfl) rfl rfl (Nat.le_of_ble_eq_true rfl) dX5_nights_165 ?_
        intro r165 I165 h165
        obtain ⟨rfl, hf3, hnn⟩ := h165
        refine AW.iload X dX5_nights_168 rfl ?_
        first | refine AW.aload_n X dX5_nights_170 rfl rfl ?_ | refine AW.aloadN_n X dX5_nights_170 rfl rfl ?_
        refine AW.iload_n X dX5_nights_171 rfl rfl ?_
        refine AW.callV_i X (c_X5_endOf (hS2.fe hf3) hnn hs2) (ci := 18) (q := (RX5, TX5, 74)) (by first | assumption | exact hT _ _ rfl) rfl s_X5_414_18 (by omega) (Nat.le_of_ble_eq_true rfl) rfl rfl (Nat.le_of_ble_eq_true rfl) dX5_nights_172 ?_
        intro r172 I172 h172
        obtain ⟨rfl, hf4, hl⟩ := h172
        have hN3 := nx I172 v9 (hf2.tr ((hf3.fm).tr (FM.w349 hf4)).k) ((congrFun (hf4 200 (by omega)) 3).trans ((congrFun hf3.s 3).trans g3))
        refine AW.iconst X (v := 1) dX5_nights_175 rfl ?_
        refine AW.icmp_ne X (tgt := 183) dX5_nights_176 rfl ?_ ?_
        · intro t176
          rw [if_neg (fun hc => t176 (congrArg nI hc))] at hN3
          refine AW.iconst X (v := 0) dX5_nights_183 rfl ?_
          refine AW.iadd X dX5_nights_184 ?_
          refine AW.istore7 X dX5_nights_185 ?_
          refine AW.iinc8 X (v := _ + 1) dX5_nights_187 rfl ?_
          refine AW.goto X (tgt := 81) dX5_nights_190 rfl ?_
          rw [nI_1]; first | exact hN3 | (rw [Int32.add_zero]; exact hN3)
        · intro f176
          rw [if_pos ((nI_eq (b := 1) (by unfold nEnd; omega) (by omega)).mp f176)] at hN3
          refine AW.iconst X (v := 1) dX5_nights_179 rfl ?_
          refine AW.goto X (tgt := 184) dX5_nights_180 rfl ?_
          refine AW.iadd X dX5_nights_184 ?_
          refine AW.istore7 X dX5_nights_185 ?_
          refine AW.iinc8 X (v := _ + 1) dX5_nights_187 rfl ?_
          refine AW.goto X (tgt := 81) dX5_nights_190 rfl ?_
          rw [nI_1]; first | exact hN3 | (rw [Int32.add_zero]; exact hN3)
      have pick : ¬ sumW N 10 ≤ 0 → ∀ j k l I2, k + j = 10 → l + wN N k < wN N 10 → FMk (nM N) I I2 → I2 200 3 = 0 → I2 200 45 = nI k → pkc N j k (nI l) = pkc N 10 0 (lft (lcg (nst N s seed i).1) (sumW N 10)) → AW cx 0 123 [.ref 200, .int (nI s), .int seed, .int (nI n), .int (I 200 45), .int (sumW N 10), .int (lcg (nst N s seed i).1), .int (nst N s seed i).2, .int (nI i), .int (nI l)] [] T I2 R J := by
        intro hall j
        have hst0 : nst N s seed (i + 1) = (lcg (nst N s seed i).1, if nEnd (coldN N (nI (pkc N 10 0 (lft (lcg (nst N s seed i).1) (sumW N 10))))) s = 1 then (nst N s seed i).2 + 1 else (nst N s seed i).2) := if_neg hall
        induction j with
        | zero =>
          intro k l I2 hk hl
          obtain rfl : k = 10 := by omega
          omega
        | succ j ih2 =>
          intro k l I2 hk hl hf2 g3 gc hp
          obtain ⟨e1, e2⟩ := hN.2.2.2.2.2.1 k (by omega)
          have hst : pkc N (j + 1) k (nI l) = if N 319 k ≤ nI l then pkc N j (k + 1) (nI l - N 319 k) else k := rfl
          have hw3 : wN N (k + 1) = wN N k + nat N 319 k := rfl
          have w319 : I2 319 = N 319 := (hf2.1 319 (by omega) (by omega) (by omega) (by omega) (by omega) (by omega)).trans v319
          refine AW.iload X dX5_nights_123 rfl ?_
          first | refine AW.aload_n X dX5_nights_125 rfl rfl ?_ | refine AW.aloadN_n X dX5_nights_125 rfl rfl ?_
          refine AW.getR X f_X5_91_18 (by first | assumption | exact hT _ _ rfl) (by first | assumption | exact hR _ _ _ rfl) dX5_nights_126 ?_
          first | refine AW.aload_n X dX5_nights_129 rfl rfl ?_ | refine AW.aloadN_n X dX5_nights_129 rfl rfl ?_
          refine AW.getI X f_X5_340_18 (by first | assumption | exact hT _ _ rfl) dX5_nights_130 ?_
          rw [gc]
          refine AW.iald X (j := k) (by first | assumption | exact hT _ _ rfl) (by repeat (first | with_reducible exact rfl | assumption | exact ix_l _ | apply ix_add | apply ix_mul)) (by omega) dX5_nights_133 ?_
          rw [w319]
          refine AW.icmp_lt X (tgt := 164) dX5_nights_134 rfl ?_ ?_
          · intro t134
            rw [if_neg (Int32.not_le.mpr t134)] at hst
            exact fin k _ _ _ (by omega) hf2 g3 gc (by rw [hst0, ← hp, hst])
          · intro f134
            have hle := Int32.not_lt.mp f134
            rw [if_pos hle, e1] at hst
            rw [e1] at hle
            have hle2 := (nI_leI (by omega) (by omega)).mp hle
            rw [nI_sub hle2] at hst
            refine AW.iload X dX5_nights_137 rfl ?_
            first | refine AW.aload_n X dX5_nights_139 rfl rfl ?_ | refine AW.aloadN_n X dX5_nights_139 rfl rfl ?_
            refine AW.getR X f_X5_91_18 (by first | assumption | exact hT _ _ rfl) (by first | assumption | exact hR _ _ _ rfl) dX5_nights_140 ?_
            first | refine AW.aload_n X dX5_nights_143 rfl rfl ?_ | refine AW.aloadN_n X dX5_nights_143 rfl rfl ?_
            refine AW.getI X f_X5_340_18 (by first | assumption | exact hT _ _ rfl) dX5_nights_144 ?_
            rw [gc]
            refine AW.iald X (j := k) (by first | assumption | exact hT _ _ rfl) (by repeat (first | with_reducible exact rfl | assumption | exact ix_l _ | apply ix_add | apply ix_mul)) (by omega) dX5_nights_147 ?_
            rw [w319]
            refine AW.isub X dX5_nights_148 ?_
            rw [e1, nI_sub hle2]
            refine AW.istore9 X dX5_nights_149 ?_
            first | refine AW.aload_n X dX5_nights_151 rfl rfl ?_ | refine AW.aloadN_n X dX5_nights_151 rfl rfl ?_
            refine AW.dup X dX5_nights_152 rfl ?_
            refine AW.getI X f_X5_340_18 (by first | assumption | exact hT _ _ rfl) dX5_nights_153 ?_
            rw [gc]
            refine AW.iconst X (v := 1) dX5_nights_156 rfl ?_
            refine AW.iadd X dX5_nights_157 ?_
            rw [nI_1]
            refine AW.putI X g_X5_nights_340_18 (by omega) (by first | assumption | exact hT _ _ rfl) dX5_nights_158 ?_ 
            refine AW.goto X (tgt := 123) dX5_nights_161 rfl ?_
            exact ih2 (k + 1) (l - nat N 319 k) _ (by omega) (by omega) hf2.w ((w2_n2 (by omega)).trans g3) (w2_s _ _ _ _) (by rw [← hst]; exact hp)
      refine AW.iload X dX5_nights_81 rfl ?_
      refine AW.iload_n X dX5_nights_83 rfl rfl ?_
      refine AW.icmp_ge X (tgt := 193) dX5_nights_84 rfl ?_ ?_
      · intro t84
        exact absurd t84 (nI_ge (by omega) (by omega))
      · intro f84
        first | refine AW.aload_n X dX5_nights_87 rfl rfl ?_ | refine AW.aloadN_n X dX5_nights_87 rfl rfl ?_
        refine AW.iconst X (v := 0) dX5_nights_88 rfl ?_
        refine AW.putI X g_X5_nights_340_18 (by omega) (by first | assumption | exact hT _ _ rfl) dX5_nights_89 ?_ 
        refine AW.iload X dX5_nights_92 rfl ?_
        refine AW.if_le X (tgt := 164) dX5_nights_94 rfl ?_ ?_
        · intro t94
          have hst0 : nst N s seed (i + 1) = ((nst N s seed i).1, if nEnd (coldN N (nI 0)) s = 1 then (nst N s seed i).2 + 1 else (nst N s seed i).2) := if_pos t94
          exact fin 0 _ _ _ (by omega) hf.w ((w2_n2 (by omega)).trans h3) (w2_s _ _ _ _) hst0
        · intro f94
          have hall0 : ¬ wN N 10 = 0 := fun hc => f94 (by rw [hw1, hc]; exact Int32.le_refl _)
          refine AW.iload X dX5_nights_97 rfl ?_
          refine AW.ldcw X (idx := 461) q2162 dX5_nights_99 ?_
          refine AW.imul X dX5_nights_102 ?_
          refine AW.sipush X (v := 12345) dX5_nights_103 rfl ?_
          refine AW.iadd X dX5_nights_106 ?_
          refine AW.istore6 X dX5_nights_107 ?_
          refine AW.iload X dX5_nights_109 rfl ?_
          refine AW.bipush X (v := 16) dX5_nights_111 rfl ?_
          refine AW.ishr X dX5_nights_113 ?_
          refine AW.sipush X (v := 32767) dX5_nights_114 rfl ?_
          refine AW.iand X dX5_nights_117 ?_
          refine AW.iload X dX5_nights_118 rfl ?_
          refine AW.irem X dX5_nights_120 (by rw [hw1]; exact nI_ne0 (by omega) (by omega)) ?_
          obtain ⟨x, hx32, hxx⟩ := and_nI (lcg (nst N s seed i).1 >>> ((16 : Int32) &&& 31)) (m := 32767) (by omega)
          have hlf : lft (lcg (nst N s seed i).1) (sumW N 10) = nI (x % wN N 10) := by
            unfold lft
            rw [show (32767 : Int32) = nI 32767 from rfl, hxx, hw1, nI_rem (by omega) (by omega)]
          have hlt := Nat.mod_lt x (Nat.pos_of_ne_zero hall0)
          show AW cx 0 _ [.ref 200, .int (nI s), .int seed, .int (nI n), .int (I 200 45), .int (sumW N 10), .int (lcg (nst N s seed i).1), .int (nst N s seed i).2, .int (nI i), v9] [.int (lft (lcg (nst N s seed i).1) (sumW N 10))] T _ R J
          rw [hlf]
          refine AW.istore9 X dX5_nights_121 ?_
          exact pick f94 10 0 (x % wN N 10) _ rfl (by show x % wN N 10 + 0 < _; omega) hf.w ((w2_n2 (by omega)).trans h3) (w2_s _ _ _ _) (by rw [hlf])
  have l0 : ∀ j c v7 v8 v9, c + j = 10 → AW cx 0 47 [.ref 200, .int (nI s), .int seed, .int (nI n), .int (I 200 45), .int (sumW N c), .int (nI c), v7, v8, v9] [] T (w2 I 200 3 0) R J := by
    intro j
    induction j with
    | zero =>
      intro c v7 v8 v9 hc
      obtain rfl : c = 10 := by omega
      refine AW.iload X dX5_nights_47 rfl ?_
      refine AW.bipush X (v := 10) dX5_nights_49 rfl ?_
      refine AW.icmp_ge X (tgt := 72) dX5_nights_51 rfl ?_ ?_
      · intro t51
        refine AW.iload_n X dX5_nights_72 rfl rfl ?_
        refine AW.istore6 X dX5_nights_73 ?_
        refine AW.iconst X (v := 0) dX5_nights_75 rfl ?_
        refine AW.istore7 X dX5_nights_76 ?_
        refine AW.iconst X (v := 0) dX5_nights_78 rfl ?_
        refine AW.istore8 X dX5_nights_79 ?_
        exact lp n 0 _ _ (by omega) (FM.cod.k) (w2_s _ _ _ _)
      · intro f51
        exact absurd (by decide) f51
    | succ j ih =>
      intro c v7 v8 v9 hc
      refine AW.iload X dX5_nights_47 rfl ?_
      refine AW.bipush X (v := 10) dX5_nights_49 rfl ?_
      refine AW.icmp_ge X (tgt := 72) dX5_nights_51 rfl ?_ ?_
      · intro t51
        exact absurd t51 (nI_ge (b := 10) (by omega) (by omega))
      · intro f51
        refine AW.iload X dX5_nights_54 rfl ?_
        first | refine AW.aload_n X dX5_nights_56 rfl rfl ?_ | refine AW.aloadN_n X dX5_nights_56 rfl rfl ?_
        refine AW.getR X f_X5_91_18 (by first | assumption | exact hT _ _ rfl) (by first | assumption | exact hR _ _ _ rfl) dX5_nights_57 ?_
        refine AW.iload X dX5_nights_60 rfl ?_
        refine AW.iald X (j := c) (by first | assumption | exact hT _ _ rfl) (by repeat (first | with_reducible exact rfl | assumption | exact ix_l _ | apply ix_add | apply ix_mul)) (by omega) dX5_nights_62 ?_
        rw [w2_r (by omega), v319]
        refine AW.iadd X dX5_nights_63 ?_
        refine AW.istore5 X dX5_nights_64 ?_
        refine AW.iinc6 X (v := _ + 1) dX5_nights_66 rfl ?_
        refine AW.goto X (tgt := 47) dX5_nights_69 rfl ?_
        rw [nI_1]; exact ih (c + 1) _ _ _ (by omega)
  first | refine AW.aload_n X dX5_nights_0 rfl rfl ?_ | refine AW.aloadN_n X dX5_nights_0 rfl rfl ?_
  refine AW.iconst X (v := 0) dX5_nights_1 rfl ?_
  refine AW.putI X g_X5_nights_194_18 (by omega) (by first | assumption | exact hT _ _ rfl) dX5_nights_2 ?_ 
  first | refine AW.aload_n X dX5_nights_5 rfl rfl ?_ | refine AW.aloadN_n X dX5_nights_5 rfl rfl ?_
  refine AW.iload_n X dX5_nights_6 rfl rfl ?_
  refine AW.callV_r X (c_X5_isShip (nI s) hS1) (ci := 18) (q := (RX5, TX5, 74)) (by first | assumption | exact hT _ _ rfl) rfl s_X5_382_18 (by omega) (Nat.le_of_ble_eq_true rfl) rfl rfl (Nat.le_of_ble_eq_true rfl) dX5_nights_7 ?_
  rw [bI_t ⟨nI_pos' (by omega), nI_lt hs (by omega)⟩]
  refine AW.if_ne X (tgt := 19) dX5_nights_10 rfl ?_ ?_
  · intro t10
    refine AW.iload_n X dX5_nights_19 rfl rfl ?_
    refine AW.iconst X (v := 0) dX5_nights_20 rfl ?_
    refine AW.bipush X (v := 60) dX5_nights_21 rfl ?_
    refine AW.callS_r X (c_X5_isIn (nI n) 0 60) s_X5_197 (by omega) (Nat.le_of_ble_eq_true rfl) rfl rfl (Nat.le_of_ble_eq_true rfl) dX5_nights_23 ?_
    rw [bI_t ⟨nI_pos' (by omega), nI_le (b := 60) hn (by omega)⟩]
    refine AW.if_ne X (tgt := 35) dX5_nights_26 rfl ?_ ?_
    · intro t26
      first | refine AW.aload_n X dX5_nights_35 rfl rfl ?_ | refine AW.aloadN_n X dX5_nights_35 rfl rfl ?_
      refine AW.getI X f_X5_340_18 (by first | assumption | exact hT _ _ rfl) dX5_nights_36 ?_
      rw [w2_n2 (by omega)]
      refine AW.istore4 X dX5_nights_39 ?_
      refine AW.iconst X (v := 0) dX5_nights_41 rfl ?_
      refine AW.istore5 X dX5_nights_42 ?_
      refine AW.iconst X (v := 0) dX5_nights_44 rfl ?_
      refine AW.istore6 X dX5_nights_45 ?_
      exact l0 10 0 _ _ _ rfl
    · intro f26
      exact absurd f26 (by decide)
  · intro f10
    exact absurd f10 (by decide)
theorem c_X5_nights_bad1 {e seed n : Int32} (hS : MS T I R N) (hb : ¬ (0 ≤ e ∧ e < nI (nS N))) : MX5_nights 10 0 [.ref 200, .int e, .int seed, .int n] T I R J (qF 1 (nM N) T I R J) noX := by
  have hS1 : MS T (w2 I 200 3 0) R N := hS.cod
  obtain ⟨hT, hR, hV, hN, hM⟩ := hS
  refine AMet.of (by decide) (Nat.le_of_ble_eq_true rfl) (cats1 rfl) fun cx X E => ?_
  show AW _ _ _ (_ :: _ :: _ :: _ :: _ :: _ :: _ :: _ :: _ :: _ :: []) _ _ _ _ _
  first | refine AW.aload_n X dX5_nights_0 rfl rfl ?_ | refine AW.aloadN_n X dX5_nights_0 rfl rfl ?_
  refine AW.iconst X (v := 0) dX5_nights_1 rfl ?_
  refine AW.putI X g_X5_nights_194_18 (by omega) (by first | assumption | exact hT _ _ rfl) dX5_nights_2 ?_ 
  first | refine AW.aload_n X dX5_nights_5 rfl rfl ?_ | refine AW.aloadN_n X dX5_nights_5 rfl rfl ?_
  refine AW.iload_n X dX5_nights_6 rfl rfl ?_
  refine AW.callV_r X (c_X5_isShip e hS1) (ci := 18) (q := (RX5, TX5, 74)) (by first | assumption | exact hT _ _ rfl) rfl s_X5_382_18 (by omega) (Nat.le_of_ble_eq_true rfl) rfl rfl (Nat.le_of_ble_eq_true rfl) dX5_nights_7 ?_
  rw [bI_f hb]
  refine AW.if_ne X (tgt := 19) dX5_nights_10 rfl ?_ ?_
  · intro t10
    exact absurd rfl t10
  · intro f10
    first | refine AW.aload_n X dX5_nights_13 rfl rfl ?_ | refine AW.aloadN_n X dX5_nights_13 rfl rfl ?_
    refine AW.iconst X (v := 1) dX5_nights_14 rfl ?_
    refine AW.callV_i X (c_X5_fail hT 1) (ci := 18) (q := (RX5, TX5, 74)) (by first | assumption | exact hT _ _ rfl) rfl s_X5_323_18 (by omega) (Nat.le_of_ble_eq_true rfl) rfl rfl (Nat.le_of_ble_eq_true rfl) dX5_nights_15 ?_
    intro r15 I15 h15
    obtain ⟨rfl, rfl⟩ := h15
    refine AW.ireturn X E ?_ dX5_nights_18 
    exact ⟨rfl, rfl, rfl, ⟨_, rfl⟩, w2_s _ _ _ _, FM.cod.tr FM.cod⟩
theorem c_X5_nights_bad2 {e seed n : Int32} (hS : MS T I R N) (hi : 0 ≤ e ∧ e < nI (nS N)) (hb : ¬ (0 ≤ n ∧ n ≤ 60)) : MX5_nights 10 0 [.ref 200, .int e, .int seed, .int n] T I R J (qF 2 (nM N) T I R J) noX := by
  have hS1 : MS T (w2 I 200 3 0) R N := hS.cod
  obtain ⟨hT, hR, hV, hN, hM⟩ := hS
  refine AMet.of (by decide) (Nat.le_of_ble_eq_true rfl) (cats1 rfl) fun cx X E => ?_
  show AW _ _ _ (_ :: _ :: _ :: _ :: _ :: _ :: _ :: _ :: _ :: _ :: []) _ _ _ _ _
  first | refine AW.aload_n X dX5_nights_0 rfl rfl ?_ | refine AW.aloadN_n X dX5_nights_0 rfl rfl ?_
  refine AW.iconst X (v := 0) dX5_nights_1 rfl ?_
  refine AW.putI X g_X5_nights_194_18 (by omega) (by first | assumption | exact hT _ _ rfl) dX5_nights_2 ?_ 
  first | refine AW.aload_n X dX5_nights_5 rfl rfl ?_ | refine AW.aloadN_n X dX5_nights_5 rfl rfl ?_
  refine AW.iload_n X dX5_nights_6 rfl rfl ?_
  refine AW.callV_r X (c_X5_isShip e hS1) (ci := 18) (q := (RX5, TX5, 74)) (by first | assumption | exact hT _ _ rfl) rfl s_X5_382_18 (by omega) (Nat.le_of_ble_eq_true rfl) rfl rfl (Nat.le_of_ble_eq_true rfl) dX5_nights_7 ?_
  rw [bI_t hi]
  refine AW.if_ne X (tgt := 19) dX5_nights_10 rfl ?_ ?_
  · intro t10
    refine AW.iload_n X dX5_nights_19 rfl rfl ?_
    refine AW.iconst X (v := 0) dX5_nights_20 rfl ?_
    refine AW.bipush X (v := 60) dX5_nights_21 rfl ?_
    refine AW.callS_r X (c_X5_isIn n 0 60) s_X5_197 (by omega) (Nat.le_of_ble_eq_true rfl) rfl rfl (Nat.le_of_ble_eq_true rfl) dX5_nights_23 ?_
    rw [bI_f hb]
    refine AW.if_ne X (tgt := 35) dX5_nights_26 rfl ?_ ?_
    · intro t26
      exact absurd rfl t26
    · intro f26
      first | refine AW.aload_n X dX5_nights_29 rfl rfl ?_ | refine AW.aloadN_n X dX5_nights_29 rfl rfl ?_
      refine AW.iconst X (v := 2) dX5_nights_30 rfl ?_
      refine AW.callV_i X (c_X5_fail hT 2) (ci := 18) (q := (RX5, TX5, 74)) (by first | assumption | exact hT _ _ rfl) rfl s_X5_323_18 (by omega) (Nat.le_of_ble_eq_true rfl) rfl rfl (Nat.le_of_ble_eq_true rfl) dX5_nights_31 ?_
      intro r31 I31 h31
      obtain ⟨rfl, rfl⟩ := h31
      refine AW.ireturn X E ?_ dX5_nights_34 
      exact ⟨rfl, rfl, rfl, ⟨_, rfl⟩, w2_s _ _ _ _, FM.cod.tr FM.cod⟩
  · intro f10
    exact absurd f10 (by decide)
end MG
