/-! 08i: the model's plan (steps printed by src/walk.py) -/
set_option maxRecDepth 100000
set_option maxHeartbeats 4000000
/-- as FM, but for the plan that is kept -/
def FMp (n : Nat) (I I' : KI) : Prop := (∀ a, a ≠ 200 → (a < 337 ∨ 343 < a) → (a < 347 ∨ 352 < a) → a ≠ 356 → a ≠ 360 → a ≠ 361 → I' a = I a) ∧ (∀ m, m < n → I' 337 m = I 337 m ∧ I' 338 m = I 338 m ∧ I' 339 m = I 339 m) ∧ ∀ k, k ≠ 3 → k ≠ 53 → k ≠ 54 → k ≠ 55 → k ≠ 62 → I' 200 k = I 200 k
theorem FM.p {n : Nat} {I I' : KI} (h : FM n I I') : FMp n I I' := ⟨fun a a1 a2 a3 => h.1 a a1 a2 (by omega), h.2.1, fun k k1 _ k3 k4 k5 => h.2.2 k k1 k3 k4 k5⟩
theorem MS.fmp {T : KT} {I I' : KI} {R : KR} {N : KI} (h : MS T I R N) (hf : FMp (nM N) I I') : MS T I' R N := by
  obtain ⟨hT, hR, ⟨v1, v2, v3, v4⟩, hN, hM⟩ := h
  exact ⟨hT, hR, ⟨fun a a1 a2 => (hf.1 a (by omega) (by omega) (by omega) (by omega) (by omega) (by omega)).trans (v1 a a1 a2), fun m hm => ⟨(hf.2.1 m hm).1.trans (v2 m hm).1, (hf.2.1 m hm).2.1.trans (v2 m hm).2.1, (hf.2.1 m hm).2.2.trans (v2 m hm).2.2⟩, (hf.2.2 44 (by omega) (by omega) (by omega) (by omega) (by omega)).trans v3, (hf.2.2 45 (by omega) (by omega) (by omega) (by omega) (by omega)).trans v4⟩, hN, hM⟩
/-- the plan that is kept -/
def PkM (many : Nat) (st : Int32 × List Nat) (I I' : KI) : Prop := (st = (-1, []) ∧ I' 352 = I 352 ∧ I' 200 53 = I 200 53) ∨ (¬ st.1 = -1 ∧ st.2.length = many ∧ I' 200 53 = nI many ∧ ∀ i, i < many → I' 352 i = nI (st.2.getD i 0))
section MPM
variable {T : KT} {I : KI} {R : KR} {J : KJ} {N : KI}
theorem c_X5_plan {s o a b : Nat} (hS : MS T I R N) (h20 : nM N ≤ 20) (hpr : PrOK N) (hs : s < nS N) (ho : o < nS N) (ha : a < 24) (hb : b < 24) (hab : a ≤ b) (hb3 : b ≤ a + 3) (hso : ¬ s = o) : MX5_plan 15 0 [.ref 200, .int (nI s), .int (nI o), .int (nI a), .int (nI b)] T I R J (qI (fun r I' => r = some (.int (plnF s o (b - a + 1) N [] a 0 (-1, [])).1) ∧ I' 200 3 = 0 ∧ FMp (nM N) I I' ∧ PkM (b - a + 1) (plnF s o (b - a + 1) N [] a 0 (-1, [])) I I') T R J) noX := by
  have hS0 := hS
  have hS1 : MS T (w2 I 200 3 0) R N := hS.cod
  obtain ⟨hT, hR, hV, hN, hM⟩ := hS
  obtain ⟨⟨n1, n2, n3, n4, hnq, hne, hns, hnh⟩, -⟩ := id hN
  have v44 : w2 (w2 I 200 3 0) 200 54 (-1) 200 44 = nI (nM N) := ((w2_n2 (by omega)).trans (w2_n2 (by omega))).trans (hV.2.2.1.trans hM.1)
  have f0 : FM (nM N) I (w2 (w2 (w2 I 200 3 0) 200 54 (-1)) 200 55 (nI (nM N))) := FM.cod.tr ⟨fun a a1 _ _ _ _ _ => by rw [w2_r a1, w2_r a1], fun m _ => by rw [w2_r (by omega), w2_r (by omega), w2_r (by omega), w2_r (by omega), w2_r (by omega), w2_r (by omega)]; exact ⟨rfl, rfl, rfl⟩, fun k k1 k2 k3 k4 => by rw [w2_n2 k3, w2_n2 k2]⟩
  have hS2 := hS0.fm f0
  have hpl0 : PlM [] (b - a + 1) (-1, []) (w2 (w2 (w2 I 200 3 0) 200 54 (-1)) 200 55 (nI (nM N))) := ⟨fun i hi => absurd hi (Nat.not_lt_zero i), (w2_n2 (by omega)).trans (w2_s _ _ _ _), Or.inl rfl⟩
  have hcall := c_X5_planOn (J := J) (m0 := nM N) hs ho hpr (b - a + 1) (many := b - a + 1) (k := 0) (h := a) (b := b) (p := 0) (cs := []) hS2 (fun _ _ _ => rfl) (by omega) (by omega) (by omega) rfl (by omega) hb (Nat.le_refl _) (w2_s _ _ _ _) (by rw [Nat.sub_self]; rfl) hpl0
  generalize plnF s o (b - a + 1) N [] a 0 (-1, []) = st at hcall ⊢
  refine AMet.of (by decide) (Nat.le_of_ble_eq_true rfl) (cats1 rfl) fun cx X E => ?_
  show AW _ _ _ (_ :: _ :: _ :: _ :: _ :: _ :: []) _ _ _ _ _
  have lp : ∀ I1 : KI, FM (nM N) I I1 → I1 200 3 = 0 → PlM [] (b - a + 1) st I1 → ¬ st.1 = -1 → ∀ j i (I' : KI), i + j = b - a + 1 → (∀ x, x ≠ 352 → I' x = w2 I1 200 53 (nI (b - a + 1)) x) → (∀ i', i' < i → I' 352 i' = I1 351 i') → AW cx 0 111 [.ref 200, .int (nI s), .int (nI o), .int (nI a), .int (nI b), .int (nI i)] [] T I' R J := by
    intro I1 hf1 h3 hp hne j
    induction j with
    | zero =>
      intro i I' hij hf hl
      obtain rfl : i = b - a + 1 := by omega
      obtain ⟨-, p2, p3⟩ := hp
      obtain ⟨-, p5, p6⟩ := p3.resolve_left (fun z => hne (by rw [z]))
      refine AW.iload X dX5_plan_111 rfl ?_
      first | refine AW.aload_n X dX5_plan_113 rfl rfl ?_ | refine AW.aloadN_n X dX5_plan_113 rfl rfl ?_
      refine AW.getI X f_X5_152_18 (by first | assumption | exact hT _ _ rfl) dX5_plan_114 ?_
      rw [hf 200 (by omega), w2_s]
      refine AW.icmp_ge X (tgt := 140) dX5_plan_117 rfl ?_ ?_
      · intro t117
        first | refine AW.aload_n X dX5_plan_140 rfl rfl ?_ | refine AW.aloadN_n X dX5_plan_140 rfl rfl ?_
        refine AW.getI X f_X5_420_18 (by first | assumption | exact hT _ _ rfl) dX5_plan_141 ?_
        rw [hf 200 (by omega), w2_n2 (by omega), p2]
        refine AW.ireturn X E ?_ dX5_plan_144 
        refine ⟨rfl, rfl, rfl, rfl, ?_, ⟨fun x x1 x2 x3 x4 x5 x6 => ?_, fun m hm => ?_, fun k k1 k2 k3 k4 k5 => ?_⟩, Or.inr ⟨hne, p5, ?_, fun i hi => (hl i hi).trans (p6 i hi)⟩⟩
        · rw [hf 200 (by omega), w2_n2 (by omega)]; exact h3
        · rw [hf x (by omega), w2_r x1]; exact hf1.1 x x1 x2 (by omega) x4 x5 x6
        · rw [hf 337 (by omega), hf 338 (by omega), hf 339 (by omega), w2_r (by omega), w2_r (by omega), w2_r (by omega)]; exact hf1.2.1 m hm
        · rw [hf 200 (by omega), w2_n2 k2]; exact hf1.2.2 k k1 k3 k4 k5
        · rw [hf 200 (by omega), w2_s]
      · intro f117
        exact absurd (Int32.le_refl _) f117
    | succ j ih =>
      intro i I' hij hf hl
      refine AW.iload X dX5_plan_111 rfl ?_
      first | refine AW.aload_n X dX5_plan_113 rfl rfl ?_ | refine AW.aloadN_n X dX5_plan_113 rfl rfl ?_
      refine AW.getI X f_X5_152_18 (by first | assumption | exact hT _ _ rfl) dX5_plan_114 ?_
      rw [hf 200 (by omega), w2_s]
      refine AW.icmp_ge X (tgt := 140) dX5_plan_117 rfl ?_ ?_
      · intro t117
        exact absurd t117 (nI_ge (by omega) (by omega))
      · intro f117
        first | refine AW.aload_n X dX5_plan_120 rfl rfl ?_ | refine AW.aloadN_n X dX5_plan_120 rfl rfl ?_
        refine AW.getR X f_X5_149_18 (by first | assumption | exact hT _ _ rfl) (by first | assumption | exact hR _ _ _ rfl) dX5_plan_121 ?_
        refine AW.iload X dX5_plan_124 rfl ?_
        first | refine AW.aload_n X dX5_plan_126 rfl rfl ?_ | refine AW.aloadN_n X dX5_plan_126 rfl rfl ?_
        refine AW.getR X f_X5_146_18 (by first | assumption | exact hT _ _ rfl) (by first | assumption | exact hR _ _ _ rfl) dX5_plan_127 ?_
        refine AW.iload X dX5_plan_130 rfl ?_
        refine AW.iald X (j := i) (by first | assumption | exact hT _ _ rfl) (by repeat (first | with_reducible exact rfl | assumption | exact ix_l _ | apply ix_add | apply ix_mul)) (by omega) dX5_plan_132 ?_
        rw [hf 351 (by omega), w2_r (by omega)]
        refine AW.iast X (j := i) (by omega) (by first | assumption | exact hT _ _ rfl) (by repeat (first | with_reducible exact rfl | assumption | exact ix_l _ | apply ix_add | apply ix_mul)) (by omega) dX5_plan_133 ?_
        refine AW.iinc5 X (v := _ + 1) dX5_plan_134 rfl ?_
        refine AW.goto X (tgt := 111) dX5_plan_137 rfl ?_
        rw [nI_1]
        refine ih (i + 1) _ (by omega) (fun x hx => by rw [w2_r hx]; exact hf x hx) (fun i' hi => ?_)
        by_cases hx : i' = i
        · subst hx; rw [w2_s]
        · rw [w2_n2 hx]; exact hl i' (by omega)
  first | refine AW.aload_n X dX5_plan_0 rfl rfl ?_ | refine AW.aloadN_n X dX5_plan_0 rfl rfl ?_
  refine AW.iconst X (v := 0) dX5_plan_1 rfl ?_
  refine AW.putI X g_X5_plan_194_18 (by omega) (by first | assumption | exact hT _ _ rfl) dX5_plan_2 ?_ 
  first | refine AW.aload_n X dX5_plan_5 rfl rfl ?_ | refine AW.aloadN_n X dX5_plan_5 rfl rfl ?_
  refine AW.iload_n X dX5_plan_6 rfl rfl ?_
  refine AW.callV_r X (c_X5_isShip (nI s) hS1) (ci := 18) (q := (RX5, TX5, 74)) (by first | assumption | exact hT _ _ rfl) rfl s_X5_382_18 (by omega) (Nat.le_of_ble_eq_true rfl) rfl rfl (Nat.le_of_ble_eq_true rfl) dX5_plan_7 ?_
  rw [bI_t ⟨nI_pos' (by omega), nI_lt hs (by omega)⟩]
  refine AW.if_eq X (tgt := 36) dX5_plan_10 rfl ?_ ?_
  · intro t10
    exact absurd t10 (by decide)
  · intro f10
    first | refine AW.aload_n X dX5_plan_13 rfl rfl ?_ | refine AW.aloadN_n X dX5_plan_13 rfl rfl ?_
    refine AW.iload_n X dX5_plan_14 rfl rfl ?_
    refine AW.callV_r X (c_X5_isShip (nI o) hS1) (ci := 18) (q := (RX5, TX5, 74)) (by first | assumption | exact hT _ _ rfl) rfl s_X5_382_18 (by omega) (Nat.le_of_ble_eq_true rfl) rfl rfl (Nat.le_of_ble_eq_true rfl) dX5_plan_15 ?_
    rw [bI_t ⟨nI_pos' (by omega), nI_lt ho (by omega)⟩]
    refine AW.if_eq X (tgt := 36) dX5_plan_18 rfl ?_ ?_
    · intro t18
      exact absurd t18 (by decide)
    · intro f18
      refine AW.iload_n X dX5_plan_21 rfl rfl ?_
      refine AW.callS_r X (c_X5_isHour (nI a)) s_X5_385 (by omega) (Nat.le_of_ble_eq_true rfl) rfl rfl (Nat.le_of_ble_eq_true rfl) dX5_plan_22 ?_
      rw [bI_t ⟨nI_pos' (by omega), nI_le (b := 23) (by omega) (by omega)⟩]
      refine AW.if_eq X (tgt := 36) dX5_plan_25 rfl ?_ ?_
      · intro t25
        exact absurd t25 (by decide)
      · intro f25
        refine AW.iload X dX5_plan_28 rfl ?_
        refine AW.callS_r X (c_X5_isHour (nI b)) s_X5_385 (by omega) (Nat.le_of_ble_eq_true rfl) rfl rfl (Nat.le_of_ble_eq_true rfl) dX5_plan_30 ?_
        rw [bI_t ⟨nI_pos' (by omega), nI_le (b := 23) (by omega) (by omega)⟩]
        refine AW.if_ne X (tgt := 42) dX5_plan_33 rfl ?_ ?_
        · intro t33
          refine AW.iload_n X dX5_plan_42 rfl rfl ?_
          refine AW.iload_n X dX5_plan_43 rfl rfl ?_
          refine AW.icmp_eq X (tgt := 61) dX5_plan_44 rfl ?_ ?_
          · intro t44
            exact absurd ((nI_eq (by omega) (by omega)).mp t44) hso
          · intro f44
            refine AW.iload X dX5_plan_47 rfl ?_
            refine AW.iload_n X dX5_plan_49 rfl rfl ?_
            refine AW.icmp_lt X (tgt := 61) dX5_plan_50 rfl ?_ ?_
            · intro t50
              exact absurd t50 (nI_nlt hab (by omega))
            · intro f50
              refine AW.iload X dX5_plan_53 rfl ?_
              refine AW.iload_n X dX5_plan_55 rfl rfl ?_
              refine AW.iconst X (v := 3) dX5_plan_56 rfl ?_
              refine AW.iadd X dX5_plan_57 ?_
              rw [show nI a + 3 = nI (a + 3) from nI_add a 3]
              refine AW.icmp_le X (tgt := 67) dX5_plan_58 rfl ?_ ?_
              · intro t58
                first | refine AW.aload_n X dX5_plan_67 rfl rfl ?_ | refine AW.aloadN_n X dX5_plan_67 rfl rfl ?_
                refine AW.iconst X (v := -1) dX5_plan_68 rfl ?_
                refine AW.putI X g_X5_plan_420_18 (by omega) (by first | assumption | exact hT _ _ rfl) dX5_plan_69 ?_ 
                first | refine AW.aload_n X dX5_plan_72 rfl rfl ?_ | refine AW.aloadN_n X dX5_plan_72 rfl rfl ?_
                first | refine AW.aload_n X dX5_plan_73 rfl rfl ?_ | refine AW.aloadN_n X dX5_plan_73 rfl rfl ?_
                refine AW.getI X f_X5_337_18 (by first | assumption | exact hT _ _ rfl) dX5_plan_74 ?_
                rw [v44]
                refine AW.putI X g_X5_plan_417_18 (by omega) (by first | assumption | exact hT _ _ rfl) dX5_plan_77 ?_ 
                first | refine AW.aload_n X dX5_plan_80 rfl rfl ?_ | refine AW.aloadN_n X dX5_plan_80 rfl rfl ?_
                refine AW.iload_n X dX5_plan_81 rfl rfl ?_
                refine AW.iload_n X dX5_plan_82 rfl rfl ?_
                refine AW.iload_n X dX5_plan_83 rfl rfl ?_
                refine AW.iload X dX5_plan_84 rfl ?_
                refine AW.iconst X (v := 0) dX5_plan_86 rfl ?_
                refine AW.callV_i X (hcall) (ci := 18) (q := (RX5, TX5, 74)) (by first | assumption | exact hT _ _ rfl) rfl s_X5_427_18 (by omega) (Nat.le_of_ble_eq_true rfl) rfl rfl (Nat.le_of_ble_eq_true rfl) dX5_plan_87 ?_
                intro r87 I87 h87
                obtain ⟨rfl, q1, q2, q3, q4⟩ := h87
                have hq1 := f0.tr q1
                have hq2 : I87 200 3 = 0 := q2.trans ((w2_n2 (by omega)).trans ((w2_n2 (by omega)).trans (w2_s _ _ _ _)))
                first | refine AW.aload_n X dX5_plan_90 rfl rfl ?_ | refine AW.aloadN_n X dX5_plan_90 rfl rfl ?_
                refine AW.getI X f_X5_420_18 (by first | assumption | exact hT _ _ rfl) dX5_plan_91 ?_
                rw [q4.2.1]
                refine AW.iconst X (v := -1) dX5_plan_94 rfl ?_
                refine AW.icmp_eq X (tgt := 140) dX5_plan_95 rfl ?_ ?_
                · intro t95
                  have hst : st = (-1, []) := q4.2.2.elim id (fun z => absurd t95 z.1)
                  first | refine AW.aload_n X dX5_plan_140 rfl rfl ?_ | refine AW.aloadN_n X dX5_plan_140 rfl rfl ?_
                  refine AW.getI X f_X5_420_18 (by first | assumption | exact hT _ _ rfl) dX5_plan_141 ?_
                  rw [q4.2.1]
                  refine AW.ireturn X E ?_ dX5_plan_144 
                  exact ⟨rfl, rfl, rfl, rfl, hq2, hq1.p, Or.inl ⟨hst, hq1.1 352 (by omega) (by omega) (by omega) (by omega) (by omega) (by omega), hq1.2.2 53 (by omega) (by omega) (by omega) (by omega)⟩⟩
                · intro f95
                  first | refine AW.aload_n X dX5_plan_98 rfl rfl ?_ | refine AW.aloadN_n X dX5_plan_98 rfl rfl ?_
                  refine AW.iload X dX5_plan_99 rfl ?_
                  refine AW.iload_n X dX5_plan_101 rfl rfl ?_
                  refine AW.isub X dX5_plan_102 ?_
                  rw [nI_sub hab]
                  refine AW.iconst X (v := 1) dX5_plan_103 rfl ?_
                  refine AW.iadd X dX5_plan_104 ?_
                  rw [nI_1]
                  refine AW.putI X g_X5_plan_152_18 (by omega) (by first | assumption | exact hT _ _ rfl) dX5_plan_105 ?_ 
                  refine AW.iconst X (v := 0) dX5_plan_108 rfl ?_
                  refine AW.istore5 X dX5_plan_109 ?_
                  exact lp I87 hq1 hq2 q4 f95 (b - a + 1) 0 _ (by omega) (fun _ _ => rfl) (fun _ h => absurd h (Nat.not_lt_zero _))
              · intro f58
                exact absurd (nI_le hb3 (by omega)) f58
        · intro f33
          exact absurd f33 (by decide)
theorem c_X5_plan_bad1 {e f a c : Int32} (hS : MS T I R N) (hb : ¬ ((0 ≤ e ∧ e < nI (nS N)) ∧ (0 ≤ f ∧ f < nI (nS N)) ∧ (0 ≤ a ∧ a ≤ 23) ∧ (0 ≤ c ∧ c ≤ 23))) : MX5_plan 15 0 [.ref 200, .int e, .int f, .int a, .int c] T I R J (qF 1 (nM N) T I R J) noX := by
  have hS1 : MS T (w2 I 200 3 0) R N := hS.cod
  obtain ⟨hT, hR, hV, hN, hM⟩ := hS
  refine AMet.of (by decide) (Nat.le_of_ble_eq_true rfl) (cats1 rfl) fun cx X E => ?_
  show AW _ _ _ (_ :: _ :: _ :: _ :: _ :: _ :: []) _ _ _ _ _
  have fin : AW cx 0 36 [.ref 200, .int e, .int f, .int a, .int c, .retAddr 0] [] T (w2 I 200 3 0) R J := by
    first | refine AW.aload_n X dX5_plan_36 rfl rfl ?_ | refine AW.aloadN_n X dX5_plan_36 rfl rfl ?_
    refine AW.iconst X (v := 1) dX5_plan_37 rfl ?_
    refine AW.callV_i X (c_X5_fail hT 1) (ci := 18) (q := (RX5, TX5, 74)) (by first | assumption | exact hT _ _ rfl) rfl s_X5_323_18 (by omega) (Nat.le_of_ble_eq_true rfl) rfl rfl (Nat.le_of_ble_eq_true rfl) dX5_plan_38 ?_
    intro r38 I38 h38
    obtain ⟨rfl, rfl⟩ := h38
    refine AW.ireturn X E ?_ dX5_plan_41 
    exact ⟨rfl, rfl, rfl, ⟨_, rfl⟩, w2_s _ _ _ _, FM.cod.tr FM.cod⟩
  first | refine AW.aload_n X dX5_plan_0 rfl rfl ?_ | refine AW.aloadN_n X dX5_plan_0 rfl rfl ?_
  refine AW.iconst X (v := 0) dX5_plan_1 rfl ?_
  refine AW.putI X g_X5_plan_194_18 (by omega) (by first | assumption | exact hT _ _ rfl) dX5_plan_2 ?_ 
  first | refine AW.aload_n X dX5_plan_5 rfl rfl ?_ | refine AW.aloadN_n X dX5_plan_5 rfl rfl ?_
  refine AW.iload_n X dX5_plan_6 rfl rfl ?_
  refine AW.callV_r X (c_X5_isShip e hS1) (ci := 18) (q := (RX5, TX5, 74)) (by first | assumption | exact hT _ _ rfl) rfl s_X5_382_18 (by omega) (Nat.le_of_ble_eq_true rfl) rfl rfl (Nat.le_of_ble_eq_true rfl) dX5_plan_7 ?_
  refine AW.if_eq X (tgt := 36) dX5_plan_10 rfl ?_ ?_
  · intro t10
    exact fin
  · intro f10
    first | refine AW.aload_n X dX5_plan_13 rfl rfl ?_ | refine AW.aloadN_n X dX5_plan_13 rfl rfl ?_
    refine AW.iload_n X dX5_plan_14 rfl rfl ?_
    refine AW.callV_r X (c_X5_isShip f hS1) (ci := 18) (q := (RX5, TX5, 74)) (by first | assumption | exact hT _ _ rfl) rfl s_X5_382_18 (by omega) (Nat.le_of_ble_eq_true rfl) rfl rfl (Nat.le_of_ble_eq_true rfl) dX5_plan_15 ?_
    refine AW.if_eq X (tgt := 36) dX5_plan_18 rfl ?_ ?_
    · intro t18
      exact fin
    · intro f18
      refine AW.iload_n X dX5_plan_21 rfl rfl ?_
      refine AW.callS_r X (c_X5_isHour a) s_X5_385 (by omega) (Nat.le_of_ble_eq_true rfl) rfl rfl (Nat.le_of_ble_eq_true rfl) dX5_plan_22 ?_
      refine AW.if_eq X (tgt := 36) dX5_plan_25 rfl ?_ ?_
      · intro t25
        exact fin
      · intro f25
        refine AW.iload X dX5_plan_28 rfl ?_
        refine AW.callS_r X (c_X5_isHour c) s_X5_385 (by omega) (Nat.le_of_ble_eq_true rfl) rfl rfl (Nat.le_of_ble_eq_true rfl) dX5_plan_30 ?_
        refine AW.if_ne X (tgt := 42) dX5_plan_33 rfl ?_ ?_
        · intro t33
          exact absurd ⟨Decidable.of_not_not fun z => f10 (bI_z.mpr z), Decidable.of_not_not fun z => f18 (bI_z.mpr z), Decidable.of_not_not fun z => f25 (bI_z.mpr z), Decidable.of_not_not fun z => t33 (bI_z.mpr z)⟩ hb
        · intro f33
          exact fin
theorem c_X5_plan_bad2 {s o a b : Nat} (hS : MS T I R N) (hs : s < nS N) (ho : o < nS N) (ha : a < 24) (hb : b < 24) (hbad : ¬ (a ≤ b ∧ b ≤ a + 3 ∧ ¬ s = o)) : MX5_plan 15 0 [.ref 200, .int (nI s), .int (nI o), .int (nI a), .int (nI b)] T I R J (qF 2 (nM N) T I R J) noX := by
  have hS1 : MS T (w2 I 200 3 0) R N := hS.cod
  obtain ⟨hT, hR, hV, hN, hM⟩ := hS
  obtain ⟨⟨n1, n2, n3, n4, hnq, hne, hns, hnh⟩, -⟩ := id hN
  refine AMet.of (by decide) (Nat.le_of_ble_eq_true rfl) (cats1 rfl) fun cx X E => ?_
  show AW _ _ _ (_ :: _ :: _ :: _ :: _ :: _ :: []) _ _ _ _ _
  have fin : AW cx 0 61 [.ref 200, .int (nI s), .int (nI o), .int (nI a), .int (nI b), .retAddr 0] [] T (w2 I 200 3 0) R J := by
    first | refine AW.aload_n X dX5_plan_61 rfl rfl ?_ | refine AW.aloadN_n X dX5_plan_61 rfl rfl ?_
    refine AW.iconst X (v := 2) dX5_plan_62 rfl ?_
    refine AW.callV_i X (c_X5_fail hT 2) (ci := 18) (q := (RX5, TX5, 74)) (by first | assumption | exact hT _ _ rfl) rfl s_X5_323_18 (by omega) (Nat.le_of_ble_eq_true rfl) rfl rfl (Nat.le_of_ble_eq_true rfl) dX5_plan_63 ?_
    intro r63 I63 h63
    obtain ⟨rfl, rfl⟩ := h63
    refine AW.ireturn X E ?_ dX5_plan_66 
    exact ⟨rfl, rfl, rfl, ⟨_, rfl⟩, w2_s _ _ _ _, FM.cod.tr FM.cod⟩
  first | refine AW.aload_n X dX5_plan_0 rfl rfl ?_ | refine AW.aloadN_n X dX5_plan_0 rfl rfl ?_
  refine AW.iconst X (v := 0) dX5_plan_1 rfl ?_
  refine AW.putI X g_X5_plan_194_18 (by omega) (by first | assumption | exact hT _ _ rfl) dX5_plan_2 ?_ 
  first | refine AW.aload_n X dX5_plan_5 rfl rfl ?_ | refine AW.aloadN_n X dX5_plan_5 rfl rfl ?_
  refine AW.iload_n X dX5_plan_6 rfl rfl ?_
  refine AW.callV_r X (c_X5_isShip (nI s) hS1) (ci := 18) (q := (RX5, TX5, 74)) (by first | assumption | exact hT _ _ rfl) rfl s_X5_382_18 (by omega) (Nat.le_of_ble_eq_true rfl) rfl rfl (Nat.le_of_ble_eq_true rfl) dX5_plan_7 ?_
  rw [bI_t ⟨nI_pos' (by omega), nI_lt hs (by omega)⟩]
  refine AW.if_eq X (tgt := 36) dX5_plan_10 rfl ?_ ?_
  · intro t10
    exact absurd t10 (by decide)
  · intro f10
    first | refine AW.aload_n X dX5_plan_13 rfl rfl ?_ | refine AW.aloadN_n X dX5_plan_13 rfl rfl ?_
    refine AW.iload_n X dX5_plan_14 rfl rfl ?_
    refine AW.callV_r X (c_X5_isShip (nI o) hS1) (ci := 18) (q := (RX5, TX5, 74)) (by first | assumption | exact hT _ _ rfl) rfl s_X5_382_18 (by omega) (Nat.le_of_ble_eq_true rfl) rfl rfl (Nat.le_of_ble_eq_true rfl) dX5_plan_15 ?_
    rw [bI_t ⟨nI_pos' (by omega), nI_lt ho (by omega)⟩]
    refine AW.if_eq X (tgt := 36) dX5_plan_18 rfl ?_ ?_
    · intro t18
      exact absurd t18 (by decide)
    · intro f18
      refine AW.iload_n X dX5_plan_21 rfl rfl ?_
      refine AW.callS_r X (c_X5_isHour (nI a)) s_X5_385 (by omega) (Nat.le_of_ble_eq_true rfl) rfl rfl (Nat.le_of_ble_eq_true rfl) dX5_plan_22 ?_
      rw [bI_t ⟨nI_pos' (by omega), nI_le (b := 23) (by omega) (by omega)⟩]
      refine AW.if_eq X (tgt := 36) dX5_plan_25 rfl ?_ ?_
      · intro t25
        exact absurd t25 (by decide)
      · intro f25
        refine AW.iload X dX5_plan_28 rfl ?_
        refine AW.callS_r X (c_X5_isHour (nI b)) s_X5_385 (by omega) (Nat.le_of_ble_eq_true rfl) rfl rfl (Nat.le_of_ble_eq_true rfl) dX5_plan_30 ?_
        rw [bI_t ⟨nI_pos' (by omega), nI_le (b := 23) (by omega) (by omega)⟩]
        refine AW.if_ne X (tgt := 42) dX5_plan_33 rfl ?_ ?_
        · intro t33
          refine AW.iload_n X dX5_plan_42 rfl rfl ?_
          refine AW.iload_n X dX5_plan_43 rfl rfl ?_
          refine AW.icmp_eq X (tgt := 61) dX5_plan_44 rfl ?_ ?_
          · intro t44
            exact fin
          · intro f44
            refine AW.iload X dX5_plan_47 rfl ?_
            refine AW.iload_n X dX5_plan_49 rfl rfl ?_
            refine AW.icmp_lt X (tgt := 61) dX5_plan_50 rfl ?_ ?_
            · intro t50
              exact fin
            · intro f50
              refine AW.iload X dX5_plan_53 rfl ?_
              refine AW.iload_n X dX5_plan_55 rfl rfl ?_
              refine AW.iconst X (v := 3) dX5_plan_56 rfl ?_
              refine AW.iadd X dX5_plan_57 ?_
              rw [show nI a + 3 = nI (a + 3) from nI_add a 3]
              refine AW.icmp_le X (tgt := 67) dX5_plan_58 rfl ?_ ?_
              · intro t58
                exact absurd ⟨(by rcases Nat.lt_or_ge b a with h | h; exact absurd (nI_lt h (by omega)) f50; exact h), (nI_leI (by omega) (by omega)).mp t58, fun z => f44 (by rw [z])⟩ hbad
              · intro f58
                exact fin
        · intro f33
          exact absurd f33 (by decide)
end MPM
