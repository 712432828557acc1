/-! 07v: keeps, bright (written by src/gen07v.py and src/walk.py) -/
set_option maxRecDepth 100000
theorem LR.ml {la pb : Nat} {T : KT} {I : KI} {R : KR} {N : KI} (h : LR la pb T I R N) : I la 1 = N 200 44 := by
  obtain ⟨l1, l2, l3, l4, l5, l6, l7, l8, l9, l10, l11, l12, l13, l14, l15, l16, l17⟩ := h
  exact l15
theorem TS.ml {pb : Nat} {T : KT} {I : KI} {R : KR} {N1 : KI} {e h s : Int32} (t : TS pb T I R (addN N1 e h s)) : I 105 1 = nI (nM N1 + 1) := t.2.2.2.1.ml.trans (w2_s _ _ _ _)
/-- the first that is found, of n from c on -/
def fs1 (f : Nat → Option Int32) : Nat → Nat → Option Int32
  | _, 0 => none
  | c, n + 1 => match f c with
    | some v => some v
    | none => fs1 f (c + 1) n
def livN (N : KI) (c h : Nat) : KI := if c = 0 then N else addN N (nI (c - 1)) (nI h) 0
def kpF (q : Nat) (lt : Int32) : Nat → KI → Nat → Nat → Int32 → Option Int32
  | 0, _, _, left, fig => if left = 0 then some fig else none
  | j + 1, N, h, left, fig => fs1 (fun c => if 0 < c ∧ ¬ N 311 (c - 1) = nI q then none else if lt ≤ Lig (livN N c h) q h then kpF q lt j (livN N c h) (h + 1) (left - (if c = 0 then 0 else 1)) (7 * fig + nI c) else none) 0 ((if left = 0 then 0 else nE N) + 1)
def oB : Option Int32 → Int32
  | none => 0
  | some _ => 1
def FK (I I' : KI) : Prop := (∀ a, a ≠ 100 → a ≠ 105 → (a < 153 ∨ 158 < a) → I' a = I a) ∧ ∀ k, k ≠ 12 → I' 100 k = I 100 k
theorem FK.rf {I : KI} : FK I I := ⟨fun _ _ _ _ => rfl, fun _ _ => rfl⟩
theorem FK.tr {I I1 I2 : KI} (h : FK I I1) (h2 : FK I1 I2) : FK I I2 := ⟨fun a a1 a2 a3 => (h2.1 a a1 a2 a3).trans (h.1 a a1 a2 a3), fun k k1 => (h2.2 k k1).trans (h.2 k k1)⟩
theorem FT.fk {I I' : KI} (h : FT I I') : FK I I' := ⟨fun a a1 a2 a3 => h a a2 a3, fun k k1 => congrFun (h 100 (by omega) (by omega)) k⟩
theorem XS.fk {pb : Nat} {T : KT} {I I' : KI} {R : KR} {N : KI} (hX : XS pb T I R N) (hf : FK I I') : XS pb T I' R N := by
  obtain ⟨x1, x2, x3, x4, x5, x6, x7, x8, x9⟩ := hX
  have e : ∀ k, 3 ≤ k → k ≤ 8 → I' (lA 103 k) = I (lA 103 k) := fun k h1 h2 => hf.1 _ (by unfold lA; omega) (by unfold lA; omega) (by unfold lA; omega)
  refine ⟨x1, x2, x3.keep (fun a ha => hf.1 a (by omega) (by omega) (by omega)), x4.keep (hf.1 _ (by omega) (by omega) (by omega)) (e 3 (by omega) (by omega)) (e 4 (by omega) (by omega)) (e 5 (by omega) (by omega)), x5, x6, x7, ?_, ?_⟩
  · intro a h ha hh
    rw [e 6 (by omega) (by omega), e 7 (by omega) (by omega)]
    exact x8 a h ha hh
  · intro q h hq hh
    rw [e 8 (by omega) (by omega)]
    exact x9 q h hq hh
section KP
variable {pb B : Nat} {T : KT} {R : KR} {J : KJ} {N : KI}
theorem c_X1_keeps {q to : Nat} {lt : Int32} (hq : q < nQ N) (hto : to < 24) : ∀ (j : Nat) {h left : Nat} {fig : Int32} {N1 I : KI}, XS pb T I R N → TS pb T I R N1 → (∀ a, 304 ≤ a → a ≤ 322 → N1 a = N a) → nM N1 + j ≤ 26 → h + j = to + 1 → left ≤ 6 →
    MX1_keeps (10 + j) 0 [.ref 100, .int (nI q), .int lt, .int (nI h), .int (nI to), .int (nI left), .int fig] T I R J (qI (fun r I' => r = some (.int (oB (kpF q lt j N1 h left fig))) ∧ FK I I' ∧ TS pb T I' R N1 ∧ ∀ v, kpF q lt j N1 h left fig = some v → I' 100 12 = v) T R J) noX := by
  intro j
  induction j with
  | zero =>
    intro h left fig N1 I hX ht hv hm hj hl
    obtain ⟨hT, hR, -⟩ := id ht
    have hkp : kpF q lt 0 N1 h left fig = if left = 0 then some fig else none := rfl
    have hft : FK I (w2 I 100 12 fig) := ⟨fun a a1 a2 a3 => w2_r a1, fun k k1 => w2_n2 k1⟩
    have htt : TS pb T (w2 I 100 12 fig) R N1 := ht.fr (fun a ha => w2_r (by omega))
    refine AMet.of (by decide) (Nat.le_of_ble_eq_true rfl) (cats1 rfl) fun cx X E => ?_
    show AW _ _ _ (_ :: _ :: _ :: _ :: _ :: _ :: _ :: _ :: _ :: []) _ _ _ _ _
    refine AW.iload_n X dX1_keeps_0 rfl rfl ?_
    refine AW.iload X dX1_keeps_1 rfl ?_
    refine AW.icmp_le X (tgt := 23) dX1_keeps_3 rfl ?_ ?_
    · intro t3
      exact absurd t3 (fun z => absurd ((nI_leI (by omega) (by omega)).mp z) (by omega))
    · intro f3
      first | refine AW.aload_n X dX1_keeps_6 rfl rfl ?_ | refine AW.aloadN_n X dX1_keeps_6 rfl rfl ?_
      refine AW.iload X dX1_keeps_7 rfl ?_
      refine AW.putI X g_X1_keeps_267_0 (by omega) (by first | assumption | exact hT _ _ rfl) dX1_keeps_9 ?_ 
      refine AW.iload X dX1_keeps_12 rfl ?_
      refine AW.if_ne X (tgt := 21) dX1_keeps_14 rfl ?_ ?_
      · intro t14
        rw [if_neg (fun z => t14 (by rw [z]; rfl))] at hkp
        refine AW.iconst X (v := 0) dX1_keeps_21 rfl ?_
        refine AW.ireturn X E ?_ dX1_keeps_22 
        exact ⟨rfl, rfl, rfl, by rw [hkp]; rfl, hft, htt, fun v hv => by rw [hkp] at hv; first | (cases hv; exact w2_s _ _ _ _) | cases hv⟩
      · intro f14
        rw [if_pos ((nI_eq (b := 0) (by omega) (by omega)).mp f14)] at hkp
        refine AW.iconst X (v := 1) dX1_keeps_17 rfl ?_
        refine AW.goto X (tgt := 22) dX1_keeps_18 rfl ?_
        refine AW.ireturn X E ?_ dX1_keeps_22 
        exact ⟨rfl, rfl, rfl, by rw [hkp]; rfl, hft, htt, fun v hv => by rw [hkp] at hv; first | (cases hv; exact w2_s _ _ _ _) | cases hv⟩
  | succ j ihj =>
    intro h left fig N1 I hX ht hv hm hj hl
    obtain ⟨hT, hR, hP, hL, hN, hM, h20, hG⟩ := id hX
    obtain ⟨⟨n1, n2, n3, n4, hnq, hne, hns, hnh⟩, -⟩ := id hN
    have hL0 := hL
    obtain ⟨l1, l2, -⟩ := hL
    have pT0 := hP.T0
    have prQ := hP.rQ
    have prE := hP.rE
    have prS := hP.rS
    have prM := hP.rM
    have prW := hP.rW
    have prHd := hP.rHd
    have prHf := hP.rHf
    have prHt := hP.rHt
    have ptM := hP.tM
    have ptW := hP.tW
    have ptHd := hP.tHd
    have ptHf := hP.tHf
    have ptHt := hP.tHt
    have plQ := hP.lQ.tl
    have plE := hP.lE.tl
    have plS := hP.lS.tl
    have hnE : nE N1 = nE N := nat_eq (hv 304 (by omega) (by omega))
    have hnQ1 : nQ N1 = nQ N := nat_eq (hv 304 (by omega) (by omega))
    generalize hf : (fun c => if 0 < c ∧ ¬ N1 311 (c - 1) = nI q then none else if lt ≤ Lig (livN N1 c h) q h then kpF q lt j (livN N1 c h) (h + 1) (left - (if c = 0 then 0 else 1)) (7 * fig + nI c) else none) = f
    have hkp : kpF q lt (j + 1) N1 h left fig = fs1 f 0 ((if left = 0 then 0 else nE N1) + 1) := by rw [← hf]; rfl
    rw [hkp]
    refine AMet.of (by decide) (Nat.le_of_ble_eq_true rfl) (cats1 rfl) fun cx X E => ?_
    show AW _ _ _ (_ :: _ :: _ :: _ :: _ :: _ :: _ :: _ :: _ :: []) _ _ _ _ _
    have lp : ∀ n c (I' : KI) (v8 : Value), c + n = (if left = 0 then 0 else nE N1) + 1 → FK I I' → TS pb T I' R N1 → fs1 f 0 ((if left = 0 then 0 else nE N1) + 1) = fs1 f c n → AW cx 0 26 [.ref 100, .int (nI q), .int lt, .int (nI h), .int (nI to), .int (nI left), .int fig, .int (nI c), v8] [] T I' R J := by
      intro n
      induction n with
      | zero =>
        intro c I' v8 hcn hfk ht' he
        have hX' := hX.fk hfk
        have hP' := hX'.2.2.1
        rw [he] at E
        by_cases h0 : left = 0
        · rw [if_pos h0] at hcn
          subst h0
          refine AW.iload X dX1_keeps_26 rfl ?_
          refine AW.iload X dX1_keeps_28 rfl ?_
          refine AW.if_le X (tgt := 49) dX1_keeps_30 rfl ?_ ?_
          · intro t30
            refine AW.iconst X (v := 0) dX1_keeps_49 rfl ?_
            refine AW.icmp_gt X (tgt := 200) dX1_keeps_50 rfl ?_ ?_
            · intro t50
              refine AW.iconst X (v := 0) dX1_keeps_200 rfl ?_
              refine AW.ireturn X E ?_ dX1_keeps_201 
              exact ⟨rfl, rfl, rfl, rfl, hfk, ht', fun v hv => by cases hv⟩
            · intro f50
              exact absurd (nI_lt (a := 0) (by omega) (by omega)) f50
          · intro f30
            exact absurd (Int32.le_refl _) f30
        · rw [if_neg h0] at hcn
          refine AW.iload X dX1_keeps_26 rfl ?_
          refine AW.iload X dX1_keeps_28 rfl ?_
          refine AW.if_le X (tgt := 49) dX1_keeps_30 rfl ?_ ?_
          · intro t30
            exact absurd t30 (nI_nle (by omega) (by omega))
          · intro f30
            first | refine AW.aload_n X dX1_keeps_33 rfl rfl ?_ | refine AW.aloadN_n X dX1_keeps_33 rfl rfl ?_
            refine AW.getR X f_X1_23_0 (by first | assumption | exact hT _ _ rfl) (by first | assumption | exact hR _ _ _ rfl) dX1_keeps_34 ?_
            refine AW.getR X f_X1_65_2 (by first | assumption | exact hT _ _ rfl) (by first | assumption | exact hR _ _ _ rfl) dX1_keeps_37 ?_
            refine AW.getR X f_X1_87_3 (by first | assumption | exact hT _ _ rfl) (by first | assumption | exact hR _ _ _ rfl) dX1_keeps_40 ?_
            refine AW.callV_r X (hP'.lE.size) (ci := 19) (q := (RJ2, TJ2, 3)) (by first | assumption | exact hT _ _ rfl) rfl s_X1_75_19 (by omega) (Nat.le_of_ble_eq_true rfl) rfl rfl (Nat.le_of_ble_eq_true rfl) dX1_keeps_43 ?_
            refine AW.goto X (tgt := 50) dX1_keeps_46 rfl ?_
            refine AW.icmp_gt X (tgt := 200) dX1_keeps_50 rfl ?_ ?_
            · intro t50
              refine AW.iconst X (v := 0) dX1_keeps_200 rfl ?_
              refine AW.ireturn X E ?_ dX1_keeps_201 
              exact ⟨rfl, rfl, rfl, rfl, hfk, ht', fun v hv => by cases hv⟩
            · intro f50
              exact absurd (nI_lt (by omega) (by omega)) f50
      | succ n ih =>
        intro c I' v8 hcn hfk ht' he
        have hX' := hX.fk hfk
        have hP' := hX'.2.2.1
        have hfc : fs1 f c (n + 1) = match f c with
          | some v => some v
          | none => fs1 f (c + 1) n := rfl
        have hfcc : f c = if 0 < c ∧ ¬ N1 311 (c - 1) = nI q then none else if lt ≤ Lig (livN N1 c h) q h then kpF q lt j (livN N1 c h) (h + 1) (left - (if c = 0 then 0 else 1)) (7 * fig + nI c) else none := by rw [← hf]
        -- what is behind the test of the count
        have aft : ∀ v8, (c = 0 ∨ (0 < left ∧ c ≤ nE N)) → AW cx 0 53 [.ref 100, .int (nI q), .int lt, .int (nI h), .int (nI to), .int (nI left), .int fig, .int (nI c), v8] [] T I' R J := by
          intro v8 hcc
          have cont : ∀ (I2 : KI) (r : Option Int32) (v : Int32), f c = r → v = oB r → FK I I2 → TS pb T I2 R N1 → (∀ v, r = some v → I2 100 12 = v) → AW cx 0 187 [.ref 100, .int (nI q), .int lt, .int (nI h), .int (nI to), .int (nI left), .int fig, .int (nI c), .int v] [] T I2 R J := by
            intro I2 r v hr hvr h1 h2 h3
            subst hvr
            rw [hr] at hfc
            cases r with
            | none =>
              have h4 := ih (c + 1) I2 (.int (oB none)) (by omega) h1 h2 (by rw [he, hfc])
              refine AW.iload X dX1_keeps_187 rfl ?_
              refine AW.if_eq X (tgt := 194) dX1_keeps_189 rfl ?_ ?_
              · intro t189
                refine AW.iinc7 X (v := _ + 1) dX1_keeps_194 rfl ?_
                refine AW.goto X (tgt := 26) dX1_keeps_197 rfl ?_
                rw [nI_1]; exact h4
              · intro f189
                exact absurd rfl f189
            | some w =>
              rw [he, hfc] at E
              refine AW.iload X dX1_keeps_187 rfl ?_
              refine AW.if_eq X (tgt := 194) dX1_keeps_189 rfl ?_ ?_
              · intro t189
                exact absurd t189 (by show ¬ (1 : Int32) = 0; decide)
              · intro f189
                refine AW.iconst X (v := 1) dX1_keeps_192 rfl ?_
                refine AW.ireturn X E ?_ dX1_keeps_193 
                exact ⟨rfl, rfl, rfl, rfl, h1, h2, h3⟩
          by_cases hc0 : c = 0
          · subst hc0
            have hlv : livN N1 0 h = N1 := rfl
            rw [if_neg (fun z => absurd z.1 (Nat.lt_irrefl 0)), hlv] at hfcc
            refine AW.iload X dX1_keeps_53 rfl ?_
            refine AW.if_le X (tgt := 88) dX1_keeps_55 rfl ?_ ?_
            · intro t55
              refine AW.iload X dX1_keeps_88 rfl ?_
              refine AW.if_le X (tgt := 106) dX1_keeps_90 rfl ?_ ?_
              · intro t90
                first | refine AW.aload_n X dX1_keeps_106 rfl rfl ?_ | refine AW.aloadN_n X dX1_keeps_106 rfl rfl ?_
                refine AW.getR X f_X1_27_0 (by first | assumption | exact hT _ _ rfl) (by first | assumption | exact hR _ _ _ rfl) dX1_keeps_107 ?_
                refine AW.iload_n X dX1_keeps_110 rfl rfl ?_
                refine AW.callV_i X (c_X3_shinesAt (la := 105) (by omega) ht'.2.2.1 ht'.2.2.2.1 ht'.2.2.2.2.1 ht'.2.2.2.2.2 (by omega)) (ci := 2) (q := (RX3, TX3, 9)) (by first | assumption | exact hT _ _ rfl) rfl s_X1_270_2 (by omega) (Nat.le_of_ble_eq_true rfl) rfl rfl (Nat.le_of_ble_eq_true rfl) dX1_keeps_111 ?_
                intro r111 I111 h111
                obtain ⟨rfl, g1, g2⟩ := h111
                have ht2 := ht'.sh g1
                have hfk2 := hfk.tr g1.ft.fk
                first | refine AW.aload_n X dX1_keeps_114 rfl rfl ?_ | refine AW.aloadN_n X dX1_keeps_114 rfl rfl ?_
                refine AW.getR X f_X1_27_0 (by first | assumption | exact hT _ _ rfl) (by first | assumption | exact hR _ _ _ rfl) dX1_keeps_115 ?_
                refine AW.iload_n X dX1_keeps_118 rfl rfl ?_
                refine AW.iload_n X dX1_keeps_119 rfl rfl ?_
                refine AW.callV_r X (c_X3_light (G := gRow N1) ht2.2.2.1 ht2.2.2.2.1 ht2.2.2.2.2.1 (by omega) (show h < 24 by omega) g2) (ci := 2) (q := (RX3, TX3, 9)) (by first | assumption | exact hT _ _ rfl) rfl s_X1_233_2 (by omega) (Nat.le_of_ble_eq_true rfl) rfl rfl (Nat.le_of_ble_eq_true rfl) dX1_keeps_120 ?_
                refine AW.iload_n X dX1_keeps_123 rfl rfl ?_
                refine AW.icmp_lt X (tgt := 166) dX1_keeps_124 rfl ?_ ?_
                · intro t124
                  rw [if_neg (show ¬ lt ≤ Lig N1 q h from Int32.not_le.mpr t124)] at hfcc
                  refine AW.iconst X (v := 0) dX1_keeps_166 rfl ?_
                  refine AW.istore8 X dX1_keeps_167 ?_
                  refine AW.iload X dX1_keeps_169 rfl ?_
                  refine AW.if_le X (tgt := 187) dX1_keeps_171 rfl ?_ ?_
                  · intro t171
                    first
                      | exact cont _ none 0 hfcc rfl hfk2 ht2 (fun v hv => by cases hv)
                      | (cases kr with
                         | none => exact cont _ none 0 hfcc rfl (hfk2.tr q1) q2 (fun v hv => by cases hv)
                         | some w => exact absurd t159 (by show ¬ (1 : Int32) = 0; decide))
                      | (cases kr with
                         | none => exact absurd rfl f159
                         | some w => exact cont _ (some w) 1 hfcc rfl (hfk2.tr q1) q2 q3)
                  · intro f171
                    exact absurd (Int32.le_refl _) f171
                · intro f124
                  rw [if_pos (show lt ≤ Lig N1 q h from Int32.not_lt.mp f124)] at hfcc
                  first | refine AW.aload_n X dX1_keeps_127 rfl rfl ?_ | refine AW.aloadN_n X dX1_keeps_127 rfl rfl ?_
                  refine AW.iload_n X dX1_keeps_128 rfl rfl ?_
                  refine AW.iload_n X dX1_keeps_129 rfl rfl ?_
                  refine AW.iload_n X dX1_keeps_130 rfl rfl ?_
                  refine AW.iconst X (v := 1) dX1_keeps_131 rfl ?_
                  refine AW.iadd X dX1_keeps_132 ?_
                  rw [nI_1]
                  refine AW.iload X dX1_keeps_133 rfl ?_
                  refine AW.iload X dX1_keeps_135 rfl ?_
                  refine AW.iload X dX1_keeps_137 rfl ?_
                  refine AW.if_le X (tgt := 146) dX1_keeps_139 rfl ?_ ?_
                  · intro t139
                    refine AW.iconst X (v := 0) dX1_keeps_146 rfl ?_
                    refine AW.isub X dX1_keeps_147 ?_
                    rw [show nI left - 0 = nI (left - 0) from nI_sub (c := 0) (Nat.zero_le _)]
                    refine AW.bipush X (v := 7) dX1_keeps_148 rfl ?_
                    refine AW.iload X dX1_keeps_150 rfl ?_
                    refine AW.imul X dX1_keeps_152 ?_
                    refine AW.iload X dX1_keeps_153 rfl ?_
                    refine AW.iadd X dX1_keeps_155 ?_
                    refine AW.callV_i X (ihj (h := h + 1) (left := left - 0) (fig := 7 * fig + nI 0) (hX.fk hfk2) ht2 hv (by omega) (by omega) (by omega)) (ci := 0) (q := (RX1, TX1, 14)) (by first | assumption | exact hT _ _ rfl) rfl s_X1_273_0 (by omega) (Nat.le_of_ble_eq_true rfl) rfl rfl (Nat.le_of_ble_eq_true rfl) dX1_keeps_156 ?_
                    intro r156 I156 h156
                    obtain ⟨rfl, q1, q2, q3⟩ := h156
                    generalize hkr : kpF q lt j N1 (h + 1) (left - 0) (7 * fig + nI 0) = kr at q3 ⊢
                    rw [show (if 0 = 0 then 0 else 1) = 0 from rfl, hkr] at hfcc
                    refine AW.if_eq X (tgt := 166) dX1_keeps_159 rfl ?_ ?_
                    · intro t159
                      refine AW.iconst X (v := 0) dX1_keeps_166 rfl ?_
                      refine AW.istore8 X dX1_keeps_167 ?_
                      refine AW.iload X dX1_keeps_169 rfl ?_
                      refine AW.if_le X (tgt := 187) dX1_keeps_171 rfl ?_ ?_
                      · intro t171
                        first
                          | exact cont _ none 0 hfcc rfl hfk2 ht2 (fun v hv => by cases hv)
                          | (cases kr with
                             | none => exact cont _ none 0 hfcc rfl (hfk2.tr q1) q2 (fun v hv => by cases hv)
                             | some w => exact absurd t159 (by show ¬ (1 : Int32) = 0; decide))
                          | (cases kr with
                             | none => exact absurd rfl f159
                             | some w => exact cont _ (some w) 1 hfcc rfl (hfk2.tr q1) q2 q3)
                      · intro f171
                        exact absurd (Int32.le_refl _) f171
                    · intro f159
                      refine AW.iconst X (v := 1) dX1_keeps_162 rfl ?_
                      refine AW.goto X (tgt := 167) dX1_keeps_163 rfl ?_
                      refine AW.istore8 X dX1_keeps_167 ?_
                      refine AW.iload X dX1_keeps_169 rfl ?_
                      refine AW.if_le X (tgt := 187) dX1_keeps_171 rfl ?_ ?_
                      · intro t171
                        first
                          | exact cont _ none 0 hfcc rfl hfk2 ht2 (fun v hv => by cases hv)
                          | (cases kr with
                             | none => exact cont _ none 0 hfcc rfl (hfk2.tr q1) q2 (fun v hv => by cases hv)
                             | some w => exact absurd t159 (by show ¬ (1 : Int32) = 0; decide))
                          | (cases kr with
                             | none => exact absurd rfl f159
                             | some w => exact cont _ (some w) 1 hfcc rfl (hfk2.tr q1) q2 q3)
                      · intro f171
                        exact absurd (Int32.le_refl _) f171
                  · intro f139
                    exact absurd (Int32.le_refl _) f139
              · intro f90
                exact absurd (Int32.le_refl _) f90
            · intro f55
              exact absurd (Int32.le_refl _) f55
          · obtain ⟨hl0, hce⟩ := hcc.resolve_left hc0
            have hcle : ¬ nI c ≤ 0 := nI_nle (by omega) (by omega)
            have hsub : nI c - 1 = nI (c - 1) := nI_sub (c := 1) (by omega)
            have hcE : c - 1 < nE N := by omega
            have hlv : livN N1 c h = addN N1 (nI (c - 1)) (nI h) 0 := if_neg hc0
            obtain ⟨c1, c2, c3, c4, c5⟩ := hP'.e hcE
            have hke := (hN.2.2.1 (c - 1) hcE).2.1
            have h311 : N1 311 = N 311 := hv 311 (by omega) (by omega)
            have hadd := c_X3_adds (la := 105) (x := nI (c - 1)) (z := nI h) (w := 0) (J := J) (by omega) ht'.2.2.2.1 ht'.2.2.2.2.2 (by omega)
            refine AW.iload X dX1_keeps_53 rfl ?_
            refine AW.if_le X (tgt := 88) dX1_keeps_55 rfl ?_ ?_
            · intro t55
              exact absurd t55 hcle
            · intro f55
              first | refine AW.aload_n X dX1_keeps_58 rfl rfl ?_ | refine AW.aloadN_n X dX1_keeps_58 rfl rfl ?_
              refine AW.getR X f_X1_23_0 (by first | assumption | exact hT _ _ rfl) (by first | assumption | exact hR _ _ _ rfl) dX1_keeps_59 ?_
              refine AW.getR X f_X1_65_2 (by first | assumption | exact hT _ _ rfl) (by first | assumption | exact hR _ _ _ rfl) dX1_keeps_62 ?_
              refine AW.getR X f_X1_87_3 (by first | assumption | exact hT _ _ rfl) (by first | assumption | exact hR _ _ _ rfl) dX1_keeps_65 ?_
              refine AW.iload X dX1_keeps_68 rfl ?_
              refine AW.iconst X (v := 1) dX1_keeps_70 rfl ?_
              refine AW.isub X dX1_keeps_71 ?_
              rw [hsub]
              refine AW.callV_r X (hP'.lE.get hcE (by omega)) (ci := 19) (q := (RJ2, TJ2, 3)) (by first | assumption | exact hT _ _ rfl) rfl s_X1_81_19 (by omega) (Nat.le_of_ble_eq_true rfl) rfl rfl (Nat.le_of_ble_eq_true rfl) dX1_keeps_72 ?_
              refine AW.castK X (idx := 90) ck_Eel (by first | assumption | omega) (by first | assumption | exact hT _ _ rfl) q1256 dX1_keeps_75 ?_
              refine AW.getK X fk_X1_162 (by first | assumption | omega) (by first | assumption | exact hT _ _ rfl) dX1_keeps_78 ?_
              rw [c3]
              refine AW.iload_n X dX1_keeps_81 rfl rfl ?_
              refine AW.icmp_eq X (tgt := 88) dX1_keeps_82 rfl ?_ ?_
              · intro t82
                rw [if_neg (fun z => z.2 (by rw [h311]; exact t82)), hlv] at hfcc
                refine AW.iload X dX1_keeps_88 rfl ?_
                refine AW.if_le X (tgt := 106) dX1_keeps_90 rfl ?_ ?_
                · intro t90
                  exact absurd t90 hcle
                · intro f90
                  first | refine AW.aload_n X dX1_keeps_93 rfl rfl ?_ | refine AW.aloadN_n X dX1_keeps_93 rfl rfl ?_
                  refine AW.getR X f_X1_27_0 (by first | assumption | exact hT _ _ rfl) (by first | assumption | exact hR _ _ _ rfl) dX1_keeps_94 ?_
                  refine AW.iload X dX1_keeps_97 rfl ?_
                  refine AW.iconst X (v := 1) dX1_keeps_99 rfl ?_
                  refine AW.isub X dX1_keeps_100 ?_
                  rw [hsub]
                  refine AW.iload_n X dX1_keeps_101 rfl rfl ?_
                  refine AW.iconst X (v := 0) dX1_keeps_102 rfl ?_
                  refine AW.callV_i X (hadd) (ci := 2) (q := (RX3, TX3, 9)) (by first | assumption | exact hT _ _ rfl) rfl s_X1_207_2 (by omega) (Nat.le_of_ble_eq_true rfl) rfl rfl (Nat.le_of_ble_eq_true rfl) dX1_keeps_103 ?_
                  intro r103 I103 h103
                  obtain ⟨rfl, q1, q2⟩ := h103
                  have qf : FT I' I103 := fun a a1 a2 => q1 a a1 (by unfold lA; omega) (by unfold lA; omega) (by unfold lA; omega)
                  have hta : TS pb T I103 R (addN N1 (nI (c - 1)) (nI h) 0) := ht'.adds (by omega) (by rw [hnE]; omega) (by omega) (Or.inl rfl) q2 (fun a ha => qf a (by omega) (by omega))
                  have hqa : q < nQ (addN N1 (nI (c - 1)) (nI h) 0) := by rw [show nQ (addN N1 (nI (c - 1)) (nI h) 0) = nQ N1 from nat_eq (addN_P 304 (by omega) (by omega))]; omega
                  first | refine AW.aload_n X dX1_keeps_106 rfl rfl ?_ | refine AW.aloadN_n X dX1_keeps_106 rfl rfl ?_
                  refine AW.getR X f_X1_27_0 (by first | assumption | exact hT _ _ rfl) (by first | assumption | exact hR _ _ _ rfl) dX1_keeps_107 ?_
                  refine AW.iload_n X dX1_keeps_110 rfl rfl ?_
                  refine AW.callV_i X (c_X3_shinesAt (la := 105) (by omega) hta.2.2.1 hta.2.2.2.1 hta.2.2.2.2.1 hta.2.2.2.2.2 hqa) (ci := 2) (q := (RX3, TX3, 9)) (by first | assumption | exact hT _ _ rfl) rfl s_X1_270_2 (by omega) (Nat.le_of_ble_eq_true rfl) rfl rfl (Nat.le_of_ble_eq_true rfl) dX1_keeps_111 ?_
                  intro r111 I111 h111
                  obtain ⟨rfl, g1, g2⟩ := h111
                  have ht2 := hta.sh g1
                  have hfk2 := hfk.tr (qf.tr g1.ft).fk
                  first | refine AW.aload_n X dX1_keeps_114 rfl rfl ?_ | refine AW.aloadN_n X dX1_keeps_114 rfl rfl ?_
                  refine AW.getR X f_X1_27_0 (by first | assumption | exact hT _ _ rfl) (by first | assumption | exact hR _ _ _ rfl) dX1_keeps_115 ?_
                  refine AW.iload_n X dX1_keeps_118 rfl rfl ?_
                  refine AW.iload_n X dX1_keeps_119 rfl rfl ?_
                  refine AW.callV_r X (c_X3_light (G := gRow (addN N1 (nI (c - 1)) (nI h) 0)) ht2.2.2.1 ht2.2.2.2.1 ht2.2.2.2.2.1 hqa (show h < 24 by omega) g2) (ci := 2) (q := (RX3, TX3, 9)) (by first | assumption | exact hT _ _ rfl) rfl s_X1_233_2 (by omega) (Nat.le_of_ble_eq_true rfl) rfl rfl (Nat.le_of_ble_eq_true rfl) dX1_keeps_120 ?_
                  refine AW.iload_n X dX1_keeps_123 rfl rfl ?_
                  refine AW.icmp_lt X (tgt := 166) dX1_keeps_124 rfl ?_ ?_
                  · intro t124
                    rw [if_neg (show ¬ lt ≤ Lig (addN N1 (nI (c - 1)) (nI h) 0) q h from Int32.not_le.mpr t124)] at hfcc
                    refine AW.iconst X (v := 0) dX1_keeps_166 rfl ?_
                    refine AW.istore8 X dX1_keeps_167 ?_
                    refine AW.iload X dX1_keeps_169 rfl ?_
                    refine AW.if_le X (tgt := 187) dX1_keeps_171 rfl ?_ ?_
                    · intro t171
                      exact absurd t171 hcle
                    · intro f171
                      first | refine AW.aload_n X dX1_keeps_174 rfl rfl ?_ | refine AW.aloadN_n X dX1_keeps_174 rfl rfl ?_
                      refine AW.getR X f_X1_27_0 (by first | assumption | exact hT _ _ rfl) (by first | assumption | exact hR _ _ _ rfl) dX1_keeps_175 ?_
                      refine AW.dup X dX1_keeps_178 rfl ?_
                      refine AW.getI X f_X1_126_2 (by first | assumption | exact hT _ _ rfl) dX1_keeps_179 ?_
                      first | rw [u2.ml] | rw [ht2.ml]
                      refine AW.iconst X (v := 1) dX1_keeps_182 rfl ?_
                      refine AW.isub X dX1_keeps_183 ?_
                      rw [show nI (nM N1 + 1) - 1 = nI (nM N1) from nI_pred _]
                      refine AW.putI X g_X1_keeps_126_2 (by omega) (by first | assumption | exact hT _ _ rfl) dX1_keeps_184 ?_ 
                      have w105 : ∀ {I2 : KI} {v : Int32}, FK I2 (w2 I2 105 1 v) := fun {I2 v} => ⟨fun a a1 a2 a3 => w2_r a2, fun k k1 => w2_n1 (by omega)⟩
                      first
                        | exact cont _ none 0 hfcc rfl (hfk2.tr w105) (ht2.less ht.2.2.2.2.2 (by omega)) (fun v hv => by cases hv)
                        | (cases kr with
                           | none => exact cont _ none 0 hfcc rfl ((hfk2.tr u1).tr w105) (u2.less ht.2.2.2.2.2 (by omega)) (fun v hv => by cases hv)
                           | some w => exact absurd t159 (by show ¬ (1 : Int32) = 0; decide))
                        | (cases kr with
                           | none => exact absurd rfl f159
                           | some w => exact cont _ (some w) 1 hfcc rfl ((hfk2.tr u1).tr w105) (u2.less ht.2.2.2.2.2 (by omega)) (fun v hv => by rw [w2_n1 (by omega)]; exact u3 v hv))
                  · intro f124
                    rw [if_pos (show lt ≤ Lig (addN N1 (nI (c - 1)) (nI h) 0) q h from Int32.not_lt.mp f124)] at hfcc
                    first | refine AW.aload_n X dX1_keeps_127 rfl rfl ?_ | refine AW.aloadN_n X dX1_keeps_127 rfl rfl ?_
                    refine AW.iload_n X dX1_keeps_128 rfl rfl ?_
                    refine AW.iload_n X dX1_keeps_129 rfl rfl ?_
                    refine AW.iload_n X dX1_keeps_130 rfl rfl ?_
                    refine AW.iconst X (v := 1) dX1_keeps_131 rfl ?_
                    refine AW.iadd X dX1_keeps_132 ?_
                    rw [nI_1]
                    refine AW.iload X dX1_keeps_133 rfl ?_
                    refine AW.iload X dX1_keeps_135 rfl ?_
                    refine AW.iload X dX1_keeps_137 rfl ?_
                    refine AW.if_le X (tgt := 146) dX1_keeps_139 rfl ?_ ?_
                    · intro t139
                      exact absurd t139 hcle
                    · intro f139
                      refine AW.iconst X (v := 1) dX1_keeps_142 rfl ?_
                      refine AW.goto X (tgt := 147) dX1_keeps_143 rfl ?_
                      refine AW.isub X dX1_keeps_147 ?_
                      rw [show nI left - 1 = nI (left - 1) from nI_sub (c := 1) (by omega)]
                      refine AW.bipush X (v := 7) dX1_keeps_148 rfl ?_
                      refine AW.iload X dX1_keeps_150 rfl ?_
                      refine AW.imul X dX1_keeps_152 ?_
                      refine AW.iload X dX1_keeps_153 rfl ?_
                      refine AW.iadd X dX1_keeps_155 ?_
                      refine AW.callV_i X (ihj (h := h + 1) (left := left - 1) (fig := 7 * fig + nI c) (hX.fk hfk2) ht2 (fun a a1 a2 => by rw [addN_P a a1 a2]; exact hv a a1 a2) (by rw [addN_M (by omega)]; omega) (by omega) (by omega)) (ci := 0) (q := (RX1, TX1, 14)) (by first | assumption | exact hT _ _ rfl) rfl s_X1_273_0 (by omega) (Nat.le_of_ble_eq_true rfl) rfl rfl (Nat.le_of_ble_eq_true rfl) dX1_keeps_156 ?_
                      intro r156 I156 h156
                      obtain ⟨rfl, u1, u2, u3⟩ := h156
                      generalize hkr : kpF q lt j (addN N1 (nI (c - 1)) (nI h) 0) (h + 1) (left - 1) (7 * fig + nI c) = kr at u3 ⊢
                      rw [show (if c = 0 then 0 else 1) = 1 from if_neg hc0, hkr] at hfcc
                      refine AW.if_eq X (tgt := 166) dX1_keeps_159 rfl ?_ ?_
                      · intro t159
                        refine AW.iconst X (v := 0) dX1_keeps_166 rfl ?_
                        refine AW.istore8 X dX1_keeps_167 ?_
                        refine AW.iload X dX1_keeps_169 rfl ?_
                        refine AW.if_le X (tgt := 187) dX1_keeps_171 rfl ?_ ?_
                        · intro t171
                          exact absurd t171 hcle
                        · intro f171
                          first | refine AW.aload_n X dX1_keeps_174 rfl rfl ?_ | refine AW.aloadN_n X dX1_keeps_174 rfl rfl ?_
                          refine AW.getR X f_X1_27_0 (by first | assumption | exact hT _ _ rfl) (by first | assumption | exact hR _ _ _ rfl) dX1_keeps_175 ?_
                          refine AW.dup X dX1_keeps_178 rfl ?_
                          refine AW.getI X f_X1_126_2 (by first | assumption | exact hT _ _ rfl) dX1_keeps_179 ?_
                          first | rw [u2.ml] | rw [ht2.ml]
                          refine AW.iconst X (v := 1) dX1_keeps_182 rfl ?_
                          refine AW.isub X dX1_keeps_183 ?_
                          rw [show nI (nM N1 + 1) - 1 = nI (nM N1) from nI_pred _]
                          refine AW.putI X g_X1_keeps_126_2 (by omega) (by first | assumption | exact hT _ _ rfl) dX1_keeps_184 ?_ 
                          have w105 : ∀ {I2 : KI} {v : Int32}, FK I2 (w2 I2 105 1 v) := fun {I2 v} => ⟨fun a a1 a2 a3 => w2_r a2, fun k k1 => w2_n1 (by omega)⟩
                          first
                            | exact cont _ none 0 hfcc rfl (hfk2.tr w105) (ht2.less ht.2.2.2.2.2 (by omega)) (fun v hv => by cases hv)
                            | (cases kr with
                               | none => exact cont _ none 0 hfcc rfl ((hfk2.tr u1).tr w105) (u2.less ht.2.2.2.2.2 (by omega)) (fun v hv => by cases hv)
                               | some w => exact absurd t159 (by show ¬ (1 : Int32) = 0; decide))
                            | (cases kr with
                               | none => exact absurd rfl f159
                               | some w => exact cont _ (some w) 1 hfcc rfl ((hfk2.tr u1).tr w105) (u2.less ht.2.2.2.2.2 (by omega)) (fun v hv => by rw [w2_n1 (by omega)]; exact u3 v hv))
                      · intro f159
                        refine AW.iconst X (v := 1) dX1_keeps_162 rfl ?_
                        refine AW.goto X (tgt := 167) dX1_keeps_163 rfl ?_
                        refine AW.istore8 X dX1_keeps_167 ?_
                        refine AW.iload X dX1_keeps_169 rfl ?_
                        refine AW.if_le X (tgt := 187) dX1_keeps_171 rfl ?_ ?_
                        · intro t171
                          exact absurd t171 hcle
                        · intro f171
                          first | refine AW.aload_n X dX1_keeps_174 rfl rfl ?_ | refine AW.aloadN_n X dX1_keeps_174 rfl rfl ?_
                          refine AW.getR X f_X1_27_0 (by first | assumption | exact hT _ _ rfl) (by first | assumption | exact hR _ _ _ rfl) dX1_keeps_175 ?_
                          refine AW.dup X dX1_keeps_178 rfl ?_
                          refine AW.getI X f_X1_126_2 (by first | assumption | exact hT _ _ rfl) dX1_keeps_179 ?_
                          first | rw [u2.ml] | rw [ht2.ml]
                          refine AW.iconst X (v := 1) dX1_keeps_182 rfl ?_
                          refine AW.isub X dX1_keeps_183 ?_
                          rw [show nI (nM N1 + 1) - 1 = nI (nM N1) from nI_pred _]
                          refine AW.putI X g_X1_keeps_126_2 (by omega) (by first | assumption | exact hT _ _ rfl) dX1_keeps_184 ?_ 
                          have w105 : ∀ {I2 : KI} {v : Int32}, FK I2 (w2 I2 105 1 v) := fun {I2 v} => ⟨fun a a1 a2 a3 => w2_r a2, fun k k1 => w2_n1 (by omega)⟩
                          first
                            | exact cont _ none 0 hfcc rfl (hfk2.tr w105) (ht2.less ht.2.2.2.2.2 (by omega)) (fun v hv => by cases hv)
                            | (cases kr with
                               | none => exact cont _ none 0 hfcc rfl ((hfk2.tr u1).tr w105) (u2.less ht.2.2.2.2.2 (by omega)) (fun v hv => by cases hv)
                               | some w => exact absurd t159 (by show ¬ (1 : Int32) = 0; decide))
                            | (cases kr with
                               | none => exact absurd rfl f159
                               | some w => exact cont _ (some w) 1 hfcc rfl ((hfk2.tr u1).tr w105) (u2.less ht.2.2.2.2.2 (by omega)) (fun v hv => by rw [w2_n1 (by omega)]; exact u3 v hv))
              · intro f82
                rw [if_pos ⟨by omega, by rw [h311]; exact f82⟩] at hfcc
                refine AW.goto X (tgt := 194) dX1_keeps_85 rfl ?_
                refine AW.iinc7 X (v := _ + 1) dX1_keeps_194 rfl ?_
                refine AW.goto X (tgt := 26) dX1_keeps_197 rfl ?_
                rw [nI_1]
                exact ih (c + 1) I' _ (by omega) hfk ht' (by rw [he, hfc, hfcc])
        by_cases h0 : left = 0
        · rw [if_pos h0] at hcn
          subst h0
          refine AW.iload X dX1_keeps_26 rfl ?_
          refine AW.iload X dX1_keeps_28 rfl ?_
          refine AW.if_le X (tgt := 49) dX1_keeps_30 rfl ?_ ?_
          · intro t30
            refine AW.iconst X (v := 0) dX1_keeps_49 rfl ?_
            refine AW.icmp_gt X (tgt := 200) dX1_keeps_50 rfl ?_ ?_
            · intro t50
              exact absurd t50 (nI_nlt (b := c) (a := 0) (by omega) (by omega))
            · intro f50
              exact aft v8 (Or.inl (by omega))
          · intro f30
            exact absurd (Int32.le_refl _) f30
        · rw [if_neg h0] at hcn
          refine AW.iload X dX1_keeps_26 rfl ?_
          refine AW.iload X dX1_keeps_28 rfl ?_
          refine AW.if_le X (tgt := 49) dX1_keeps_30 rfl ?_ ?_
          · intro t30
            exact absurd t30 (nI_nle (by omega) (by omega))
          · intro f30
            first | refine AW.aload_n X dX1_keeps_33 rfl rfl ?_ | refine AW.aloadN_n X dX1_keeps_33 rfl rfl ?_
            refine AW.getR X f_X1_23_0 (by first | assumption | exact hT _ _ rfl) (by first | assumption | exact hR _ _ _ rfl) dX1_keeps_34 ?_
            refine AW.getR X f_X1_65_2 (by first | assumption | exact hT _ _ rfl) (by first | assumption | exact hR _ _ _ rfl) dX1_keeps_37 ?_
            refine AW.getR X f_X1_87_3 (by first | assumption | exact hT _ _ rfl) (by first | assumption | exact hR _ _ _ rfl) dX1_keeps_40 ?_
            refine AW.callV_r X (hP'.lE.size) (ci := 19) (q := (RJ2, TJ2, 3)) (by first | assumption | exact hT _ _ rfl) rfl s_X1_75_19 (by omega) (Nat.le_of_ble_eq_true rfl) rfl rfl (Nat.le_of_ble_eq_true rfl) dX1_keeps_43 ?_
            refine AW.goto X (tgt := 50) dX1_keeps_46 rfl ?_
            refine AW.icmp_gt X (tgt := 200) dX1_keeps_50 rfl ?_ ?_
            · intro t50
              exact absurd t50 (nI_nlt (by omega) (by omega))
            · intro f50
              exact aft v8 (Or.inr ⟨by omega, by omega⟩)
    refine AW.iload_n X dX1_keeps_0 rfl rfl ?_
    refine AW.iload X dX1_keeps_1 rfl ?_
    refine AW.icmp_le X (tgt := 23) dX1_keeps_3 rfl ?_ ?_
    · intro t3
      refine AW.iconst X (v := 0) dX1_keeps_23 rfl ?_
      refine AW.istore7 X dX1_keeps_24 ?_
      exact lp _ 0 I _ (Nat.zero_add _) FK.rf ht rfl
    · intro f3
      exact absurd (nI_le (by omega) (by omega)) f3
end KP
