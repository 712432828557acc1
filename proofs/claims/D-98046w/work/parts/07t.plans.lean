/-! 07t: plans (written by src/gen07t.py and src/walk.py) -/
set_option maxRecDepth 100000
/-- meals of choice c -/
def choN (N : KI) (c h : Nat) : KI := if c = 0 then N else addN N (nI ((c - 1) / 2)) (nI h) (nI ((c - 1) % 2))
def choP (N : KI) (c : Nat) : Int32 := if c = 0 then 0 else prc N (nI ((c - 1) % 2))
def plnF (s o : Nat) : Nat → KI → List Nat → Nat → Int32 → Int32 × List Nat → Int32 × List Nat
  | 0, N, cs, _, p, st => if ¬ st.1 = -1 ∧ st.1 ≤ p then st else if nEnd N s = 1 ∧ ¬ nEnd N o = 1 then (p, cs) else st
  | j + 1, N, cs, h, p, st => if ¬ st.1 = -1 ∧ st.1 ≤ p then st else
    (List.range (2 * nE N + 1)).foldl (fun st c => plnF s o j (choN N c h) (cs ++ [c]) (h + 1) (p + choP N c) st) st
def PlI (I0 : KI) (cs : List Nat) (many : Nat) (st : Int32 × List Nat) (I : KI) : Prop := (∀ i, i < cs.length → I 107 i = nI (cs.getD i 0)) ∧ I 100 11 = st.1 ∧ ((st = (-1, []) ∧ I 108 = I0 108 ∧ I 100 10 = I0 100 10) ∨ (st.2.length = many ∧ I 100 10 = nI many ∧ ∀ i, i < many → I 108 i = nI (st.2.getD i 0)))
/-- nothing but what is tried, and the plan -/
def FP (I I' : KI) : Prop := (∀ a, a ≠ 100 → a ≠ 105 → a ≠ 107 → a ≠ 108 → (a < 153 ∨ 158 < a) → I' a = I a) ∧ ∀ k, k ≠ 10 → k ≠ 11 → I' 100 k = I 100 k
theorem FP.rf {I : KI} : FP I I := ⟨fun _ _ _ _ _ _ => rfl, fun _ _ _ => rfl⟩
theorem FP.tr {I I1 I2 : KI} (h : FP I I1) (h2 : FP I1 I2) : FP I I2 := ⟨fun a a1 a2 a3 a4 a5 => (h2.1 a a1 a2 a3 a4 a5).trans (h.1 a a1 a2 a3 a4 a5), fun k k1 k2 => (h2.2 k k1 k2).trans (h.2 k k1 k2)⟩
theorem FT.fp {I I' : KI} (h : FT I I') : FP I I' := ⟨fun a a1 a2 a3 a4 a5 => h a a2 a5, fun k k1 k2 => congrFun (h 100 (by omega) (by omega)) k⟩
theorem XS.fp {pb : Nat} {T : KT} {I I' : KI} {R : KR} {N : KI} (hX : XS pb T I R N) (hf : FP I I') : XS pb T I' R N := by
  obtain ⟨x1, x2, x3, x4, x5, x6, x7, x8, x9⟩ := hX
  have g : ∀ a, a ≠ 100 → a ≠ 105 → a ≠ 107 → a ≠ 108 → (a < 153 ∨ 158 < a) → I' a = I a := hf.1
  have e : ∀ k, 3 ≤ k → k ≤ 8 → I' (lA 103 k) = I (lA 103 k) := fun k h1 h2 => g _ (by unfold lA; omega) (by unfold lA; omega) (by unfold lA; omega) (by unfold lA; omega) (by unfold lA; omega)
  refine ⟨x1, x2, x3.keep (fun a ha => g a (by omega) (by omega) (by omega) (by omega) (by omega)), x4.keep (g _ (by omega) (by omega) (by omega) (by omega) (by omega)) (e 3 (by omega) (by omega)) (e 4 (by omega) (by omega)) (e 5 (by omega) (by omega)), x5, x6, x7, ?_, ?_⟩
  · intro a h ha hh
    rw [e 6 (by omega) (by omega), e 7 (by omega) (by omega)]
    exact x8 a h ha hh
  · intro q h hq hh
    rw [e 8 (by omega) (by omega)]
    exact x9 q h hq hh
/-- what is tried stands when its own rows do -/
theorem TS.fr {pb : Nat} {T : KT} {I I' : KI} {R : KR} {N1 : KI} (h : TS pb T I R N1) (hs : ∀ a, a = 105 ∨ a = 153 ∨ a = 154 ∨ a = 155 ∨ 1000 ≤ a → I' a = I a) : TS pb T I' R N1 := by
  obtain ⟨x1, x2, x3, x4, x5, x6⟩ := h
  exact ⟨x1, x2, x3.keep (fun a ha => hs a (by omega)), x4.keep (hs _ (by omega)) (hs _ (by unfold lA; omega)) (hs _ (by unfold lA; omega)) (hs _ (by unfold lA; omega)), x5, x6⟩
theorem TS.adds {pb e h : Nat} {s : Int32} {T : KT} {I I' : KI} {R : KR} {N1 : KI} (t : TS pb T I R N1) (hm : nM N1 < 26) (he : e < nE N1) (hh : h < 24) (hs : s = 0 ∨ s = 1) (hL : LR 105 pb T I' R (addN N1 (nI e) (nI h) s)) (hf : ∀ a, 1000 ≤ a → I' a = I a) : TS pb T I' R (addN N1 (nI e) (nI h) s) := by
  obtain ⟨x1, x2, x3, x4, x5, x6⟩ := t
  exact ⟨x1, x2, (x3.keep hf).view addN_P, hL, x5.view addN_P, addN_MOK x6 hm he hh hs⟩
/-- a meal less again -/
theorem TS.less {pb : Nat} {e h s : Int32} {T : KT} {I : KI} {R : KR} {N1 : KI} (t : TS pb T I R (addN N1 e h s)) (hM : MOKs N1) (hm : nM N1 < 26) : TS pb T (w2 I 105 1 (nI (nM N1))) R N1 := by
  obtain ⟨x1, x2, x3, x4, x5, x6⟩ := t
  obtain ⟨l1, l2, l3, l4, l5, l6, l7, l8, l9, l10, l11, l12, l13, l14, l15, l16, l17⟩ := x4
  have h1 := x3.1
  have hv : ∀ a, 304 ≤ a → a ≤ 322 → N1 a = addN N1 e h s a := fun a a1 a2 => (addN_P a a1 a2).symm
  refine ⟨x1, x2, (x3.keep (fun a ha => w2_r (by omega))).view hv, LR.mk' (LS_of (la := 105) x1 x2 (by omega)) l2 (by rw [w2_s]; exact hM.1.symm) (by
    rw [w2_n2 (by omega), l16]
    unfold addN
    rw [w2_n2 (by omega), w2_n1 (by omega), w2_n1 (by omega), w2_n1 (by omega)]) (fun m hmm => ?_), x5.view hv, hM⟩
  rw [w2_r (by decide), w2_r (by decide), w2_r (by decide)]
  obtain ⟨c1, c2, c3⟩ := l17 m (by rw [addN_M hm]; omega)
  rw [c1, c2, c3]
  have hne : m ≠ nM N1 := by omega
  unfold addN
  rw [w2_n1 (by omega), w2_n1 (by omega), w2_n1 (by omega), w2_n2 hne, w2_n1 (by omega), w2_n1 (by omega), w2_n2 hne, w2_n1 (by omega), w2_n1 (by omega), w2_n2 hne, w2_n1 (by omega), w2_n1 (by omega)]
  exact ⟨rfl, rfl, rfl⟩
theorem PlI.fr {I0 I I' : KI} {cs : List Nat} {many : Nat} {st : Int32 × List Nat} (h : PlI I0 cs many st I) (h7 : I' 107 = I 107) (h8 : I' 108 = I 108) (h10 : I' 100 10 = I 100 10) (h11 : I' 100 11 = I 100 11) : PlI I0 cs many st I' := by
  unfold PlI
  rw [h7, h8, h10, h11]
  exact h
theorem getD_app {cs : List Nat} {c i : Nat} : (cs ++ [c]).getD i 0 = if i < cs.length then cs.getD i 0 else if i = cs.length then c else 0 := by
  rw [List.getD_eq_getElem?_getD, List.getD_eq_getElem?_getD]
  by_cases h : i < cs.length
  · rw [if_pos h, List.getElem?_append_left h]
  · rw [if_neg h, List.getElem?_append_right (by omega)]
    by_cases h2 : i = cs.length
    · rw [if_pos h2, h2]; simp
    · rw [if_neg h2, List.getElem?_eq_none (by simp; omega)]; rfl
section PL
variable {pb : Nat} {T : KT} {R : KR} {J : KJ} {N : KI} {I0 : KI}
theorem c_X1_plans {s o : Nat} (hs : s < nS N) (ho : o < nS N) : ∀ (j : Nat) {many k fr : Nat} {p : Int32} {st : Int32 × List Nat} {N1 : KI} {cs : List Nat} {I : KI}, XS pb T I R N → TS pb T I R N1 → (∀ a, 304 ≤ a → a ≤ 322 → N1 a = N a) → nM N1 + j ≤ 26 → k + j = many → many ≤ 4 → cs.length = k → fr + many ≤ 24 → PlI I0 cs many st I →
    MX1_plans (10 + j) 0 [.ref 100, .ref (pb + 140 + s), .ref (pb + 140 + o), .int (nI k), .int (nI many), .int (nI fr), .int p] T I R J (qI (fun r I' => r = none ∧ FP I I' ∧ TS pb T I' R N1 ∧ PlI I0 cs many (plnF s o j N1 cs (fr + k) p st) I') T R J) noX := by
  intro j
  induction j with
  | zero =>
    intro many k fr p st N1 cs I hX ht hv hm hkm h4 hcs hfr hp
    obtain rfl : k = many := by omega
    obtain ⟨hT, hR, -⟩ := id ht
    have hnS : nS N1 = nS N := nat_eq (hv 304 (by omega) (by omega))
    refine AMet.of (by decide) (Nat.le_of_ble_eq_true rfl) (cats1 rfl) fun cx X E => ?_
    show AW _ _ _ (_ :: _ :: _ :: _ :: _ :: _ :: _ :: _ :: []) _ _ _ _ _
    have aft : ¬ (¬ st.1 = -1 ∧ st.1 ≤ p) → AW cx 0 18 [.ref 100, .ref (pb + 140 + s), .ref (pb + 140 + o), .int (nI k), .int (nI k), .int (nI fr), .int p, .retAddr 0] [] T I R J := by
      intro hc
      have hpl : plnF s o 0 N1 cs (fr + k) p st = if endK N1 (posAt N1 (Lig N1) (hRow N1) s 24) = 1 ∧ ¬ endK N1 (posAt N1 (Lig N1) (hRow N1) o 24) = 1 then (p, cs) else st := if_neg hc
      have b1 := endK_le N1 (posAt N1 (Lig N1) (hRow N1) s 24)
      have b2 := endK_le N1 (posAt N1 (Lig N1) (hRow N1) o 24)
      refine AW.iload_n X dX1_plans_18 rfl rfl ?_
      refine AW.iload X dX1_plans_19 rfl ?_
      refine AW.icmp_ne X (tgt := 87) dX1_plans_21 rfl ?_ ?_
      · intro t21
        exact absurd rfl t21
      · intro f21
        first | refine AW.aload_n X dX1_plans_24 rfl rfl ?_ | refine AW.aloadN_n X dX1_plans_24 rfl rfl ?_
        refine AW.getR X f_X1_27_0 (by first | assumption | exact hT _ _ rfl) (by first | assumption | exact hR _ _ _ rfl) dX1_plans_25 ?_
        refine AW.callV_i X (ht.shines) (ci := 2) (q := (RX3, TX3, 9)) (by first | assumption | exact hT _ _ rfl) rfl s_X1_132_2 (by omega) (Nat.le_of_ble_eq_true rfl) rfl rfl (Nat.le_of_ble_eq_true rfl) dX1_plans_28 ?_
        intro r28 I28 h28
        obtain ⟨rfl, g1, g2⟩ := h28
        have ht2 := ht.sh g1
        have hp2 : PlI I0 cs k st I28 := hp.fr (g1.ft 107 (by omega) (by omega)) (g1.ft 108 (by omega) (by omega)) (congrFun (g1.ft 100 (by omega) (by omega)) 10) (congrFun (g1.ft 100 (by omega) (by omega)) 11)
        first | refine AW.aload_n X dX1_plans_31 rfl rfl ?_ | refine AW.aloadN_n X dX1_plans_31 rfl rfl ?_
        refine AW.getR X f_X1_27_0 (by first | assumption | exact hT _ _ rfl) (by first | assumption | exact hR _ _ _ rfl) dX1_plans_32 ?_
        first | refine AW.aload_n X dX1_plans_35 rfl rfl ?_ | refine AW.aloadN_n X dX1_plans_35 rfl rfl ?_
        refine AW.callV_r X (ht2.end g2 (by omega)) (ci := 2) (q := (RX3, TX3, 9)) (by first | assumption | exact hT _ _ rfl) rfl s_X1_240_2 (by omega) (Nat.le_of_ble_eq_true rfl) rfl rfl (Nat.le_of_ble_eq_true rfl) dX1_plans_36 ?_
        refine AW.iconst X (v := 1) dX1_plans_39 rfl ?_
        refine AW.icmp_ne X (tgt := 55) dX1_plans_40 rfl ?_ ?_
        · intro t40
          rw [if_neg (fun hc => t40 (congrArg nI hc.1))] at hpl
          refine AW.vreturn X E ?_ dX1_plans_55
          exact ⟨rfl, rfl, rfl, rfl, g1.ft.fp, ht2, by rw [hpl]; exact hp2⟩
        · intro f40
          first | refine AW.aload_n X dX1_plans_43 rfl rfl ?_ | refine AW.aloadN_n X dX1_plans_43 rfl rfl ?_
          refine AW.getR X f_X1_27_0 (by first | assumption | exact hT _ _ rfl) (by first | assumption | exact hR _ _ _ rfl) dX1_plans_44 ?_
          first | refine AW.aload_n X dX1_plans_47 rfl rfl ?_ | refine AW.aloadN_n X dX1_plans_47 rfl rfl ?_
          refine AW.callV_r X (ht2.end g2 (by omega)) (ci := 2) (q := (RX3, TX3, 9)) (by first | assumption | exact hT _ _ rfl) rfl s_X1_240_2 (by omega) (Nat.le_of_ble_eq_true rfl) rfl rfl (Nat.le_of_ble_eq_true rfl) dX1_plans_48 ?_
          refine AW.iconst X (v := 1) dX1_plans_51 rfl ?_
          refine AW.icmp_ne X (tgt := 56) dX1_plans_52 rfl ?_ ?_
          · intro t52
            rw [if_pos ⟨(nI_eq (b := 1) (by omega) (by omega)).mp f40, fun hc => t52 (congrArg nI hc)⟩] at hpl
            first | refine AW.aload_n X dX1_plans_56 rfl rfl ?_ | refine AW.aloadN_n X dX1_plans_56 rfl rfl ?_
            refine AW.iload X dX1_plans_57 rfl ?_
            refine AW.putI X g_X1_plans_244_0 (by omega) (by first | assumption | exact hT _ _ rfl) dX1_plans_59 ?_ 
            first | refine AW.aload_n X dX1_plans_62 rfl rfl ?_ | refine AW.aloadN_n X dX1_plans_62 rfl rfl ?_
            refine AW.iload X dX1_plans_63 rfl ?_
            refine AW.putI X g_X1_plans_45_0 (by omega) (by first | assumption | exact hT _ _ rfl) dX1_plans_65 ?_ 
            first | refine AW.aload_n X dX1_plans_68 rfl rfl ?_ | refine AW.aloadN_n X dX1_plans_68 rfl rfl ?_
            refine AW.getR X f_X1_38_0 (by first | assumption | exact hT _ _ rfl) (by first | assumption | exact hR _ _ _ rfl) dX1_plans_69 ?_
            refine AW.iconst X (v := 0) dX1_plans_72 rfl ?_
            first | refine AW.aload_n X dX1_plans_73 rfl rfl ?_ | refine AW.aloadN_n X dX1_plans_73 rfl rfl ?_
            refine AW.getR X f_X1_42_0 (by first | assumption | exact hT _ _ rfl) (by first | assumption | exact hR _ _ _ rfl) dX1_plans_74 ?_
            refine AW.iconst X (v := 0) dX1_plans_77 rfl ?_
            first | refine AW.aload_n X dX1_plans_78 rfl rfl ?_ | refine AW.aloadN_n X dX1_plans_78 rfl rfl ?_
            refine AW.getR X f_X1_42_0 (by first | assumption | exact hT _ _ rfl) (by first | assumption | exact hR _ _ _ rfl) dX1_plans_79 ?_
            first | refine AW.alen X (by first | assumption | exact hT _ _ rfl) rfl dX1_plans_82 ?_ | refine AW.alenQ X (by first | assumption | exact hT _ _ rfl) rfl dX1_plans_82 ?_
            refine AW.copyI X (sp := 0) (dp := 0) (n := 4) (by omega) (by omega) (by first | assumption | exact hT _ _ rfl) (by first | assumption | exact hT _ _ rfl) rfl (by decide) rfl rfl rfl (by omega) (by omega) (fun _ _ => rfl) q1491 (by omega) (Nat.le_of_ble_eq_true rfl) dX1_plans_83 ?_
            refine AW.vreturn X E ?_ dX1_plans_86
            refine ⟨rfl, rfl, rfl, rfl, g1.ft.fp.tr ⟨fun a a1 a2 a3 a4 a5 => ?_, fun k k1 k2 => ?_⟩, ht2.fr (fun a ha => ?_), ?_⟩
            · rw [row_n a4, w2_r a1, w2_r a1]
            · rw [row_n (by omega), w2_n2 k1, w2_n2 k2]
            · rw [row_n (by omega), w2_r (by omega), w2_r (by omega)]
            · rw [hpl]
              refine ⟨fun i hi => ?_, ?_, Or.inr ⟨hcs, ?_, fun i hi => ?_⟩⟩
              · rw [row_n (by omega), w2_r (by omega), w2_r (by omega)]; exact hp2.1 i hi
              · rw [row_n (by omega), w2_n2 (by omega), w2_s]
              · rw [row_n (by omega), w2_s]
              · rw [row_s, cpy_in (by omega), w2_r (by omega), w2_r (by omega)]; exact hp2.1 i (by omega)
          · intro f52
            rw [if_neg (fun hc => hc.2 ((nI_eq (b := 1) (by omega) (by omega)).mp f52))] at hpl
            refine AW.vreturn X E ?_ dX1_plans_55
            exact ⟨rfl, rfl, rfl, rfl, g1.ft.fp, ht2, by rw [hpl]; exact hp2⟩
    first | refine AW.aload_n X dX1_plans_0 rfl rfl ?_ | refine AW.aloadN_n X dX1_plans_0 rfl rfl ?_
    refine AW.getI X f_X1_244_0 (by first | assumption | exact hT _ _ rfl) dX1_plans_1 ?_
    rw [hp.2.1]
    refine AW.iconst X (v := -1) dX1_plans_4 rfl ?_
    refine AW.icmp_eq X (tgt := 18) dX1_plans_5 rfl ?_ ?_
    · intro t5
      have hc : ¬ (¬ st.1 = -1 ∧ st.1 ≤ p) := fun z => z.1 t5
      exact aft hc
    · intro f5
      refine AW.iload X dX1_plans_8 rfl ?_
      first | refine AW.aload_n X dX1_plans_10 rfl rfl ?_ | refine AW.aloadN_n X dX1_plans_10 rfl rfl ?_
      refine AW.getI X f_X1_244_0 (by first | assumption | exact hT _ _ rfl) dX1_plans_11 ?_
      rw [hp.2.1]
      refine AW.icmp_lt X (tgt := 18) dX1_plans_14 rfl ?_ ?_
      · intro t14
        have hc : ¬ (¬ st.1 = -1 ∧ st.1 ≤ p) := fun z => absurd z.2 (Int32.not_le.mpr t14)
        exact aft hc
      · intro f14
        refine AW.vreturn X E ?_ dX1_plans_17
        exact ⟨rfl, rfl, rfl, rfl, FP.rf, ht, by rw [show plnF s o 0 N1 cs (fr + k) p st = st from if_pos ⟨f5, Int32.not_lt.mp f14⟩]; exact hp⟩
  | succ j ihj =>
    intro many k fr p st N1 cs I hX ht hv hm hkm h4 hcs hfr hp
    obtain ⟨hT, hR, hP, hL, hN, hM, h20, hG⟩ := id hX
    obtain ⟨⟨n1, n2, n3, n4, hnq, hne, hns, hnh⟩, -⟩ := id hN
    have hL0 := hL
    obtain ⟨l1, l2, -⟩ := hL
    have pT0 := hP.T0
    have prQ := hP.rQ
    have prE := hP.rE
    have prS := hP.rS
    have prM := hP.rM
    have prW := hP.rW
    have prHd := hP.rHd
    have prHf := hP.rHf
    have prHt := hP.rHt
    have ptM := hP.tM
    have ptW := hP.tW
    have ptHd := hP.tHd
    have ptHf := hP.tHf
    have ptHt := hP.tHt
    have plQ := hP.lQ.tl
    have plE := hP.lE.tl
    have plS := hP.lS.tl
    have hnE : nE N1 = nE N := nat_eq (hv 304 (by omega) (by omega))
    refine AMet.of (by decide) (Nat.le_of_ble_eq_true rfl) (cats1 rfl) fun cx X E => ?_
    show AW _ _ _ (_ :: _ :: _ :: _ :: _ :: _ :: _ :: _ :: []) _ _ _ _ _
    have aft : ¬ (¬ st.1 = -1 ∧ st.1 ≤ p) → AW cx 0 18 [.ref 100, .ref (pb + 140 + s), .ref (pb + 140 + o), .int (nI k), .int (nI many), .int (nI fr), .int p, .retAddr 0] [] T I R J := by
      intro hc
      have hpl : plnF s o (j + 1) N1 cs (fr + k) p st = (List.range (2 * nE N1 + 1)).foldl (fun st c => plnF s o j (choN N1 c (fr + k)) (cs ++ [c]) (fr + k + 1) (p + choP N1 c) st) st := if_neg hc
      have lp : ∀ n c (I' : KI), c + n = 2 * nE N1 + 1 → FP I I' → TS pb T I' R N1 → PlI I0 cs many ((List.range c).foldl (fun st c => plnF s o j (choN N1 c (fr + k)) (cs ++ [c]) (fr + k + 1) (p + choP N1 c) st) st) I' → AW cx 0 90 [.ref 100, .ref (pb + 140 + s), .ref (pb + 140 + o), .int (nI k), .int (nI many), .int (nI fr), .int p, .int (nI c)] [] T I' R J := by
        intro n
        induction n with
        | zero =>
          intro c I' hcn hf ht' hp'
          obtain rfl : c = 2 * nE N1 + 1 := by omega
          refine AW.iload X dX1_plans_90 rfl ?_
          refine AW.iconst X (v := 2) dX1_plans_92 rfl ?_
          first | refine AW.aload_n X dX1_plans_93 rfl rfl ?_ | refine AW.aloadN_n X dX1_plans_93 rfl rfl ?_
          refine AW.getR X f_X1_23_0 (by first | assumption | exact hT _ _ rfl) (by first | assumption | exact hR _ _ _ rfl) dX1_plans_94 ?_
          refine AW.getR X f_X1_65_2 (by first | assumption | exact hT _ _ rfl) (by first | assumption | exact hR _ _ _ rfl) dX1_plans_97 ?_
          refine AW.getR X f_X1_87_3 (by first | assumption | exact hT _ _ rfl) (by first | assumption | exact hR _ _ _ rfl) dX1_plans_100 ?_
          refine AW.callV_r X ((hX.fp hf).2.2.1.lE.size) (ci := 19) (q := (RJ2, TJ2, 3)) (by first | assumption | exact hT _ _ rfl) rfl s_X1_75_19 (by omega) (Nat.le_of_ble_eq_true rfl) rfl rfl (Nat.le_of_ble_eq_true rfl) dX1_plans_103 ?_
          refine AW.imul X dX1_plans_106 ?_
          rw [show (2 : Int32) = nI 2 from rfl, nI_mul]
          refine AW.icmp_gt X (tgt := 211) dX1_plans_107 rfl ?_ ?_
          · intro t107
            refine AW.vreturn X E ?_ dX1_plans_211
            exact ⟨rfl, rfl, rfl, rfl, hf, ht', by rw [hpl]; exact hp'⟩
          · intro f107
            exact absurd (nI_lt (by omega) (by omega)) f107
        | succ n ih =>
          intro c I' hcn hf ht' hp'
          have hX' := hX.fp hf
          have hP' := hX'.2.2.1
          generalize hst : (List.range c).foldl (fun st c => plnF s o j (choN N1 c (fr + k)) (cs ++ [c]) (fr + k + 1) (p + choP N1 c) st) st = st1 at hp'
          have hfold : (List.range (c + 1)).foldl (fun st c => plnF s o j (choN N1 c (fr + k)) (cs ++ [c]) (fr + k + 1) (p + choP N1 c) st) st = plnF s o j (choN N1 c (fr + k)) (cs ++ [c]) (fr + k + 1) (p + choP N1 c) st1 := by
            rw [List.range_succ, List.foldl_append, hst]; rfl
          have hcl : (cs ++ [c]).length = k + 1 := by rw [List.length_append, hcs]; rfl
          have hp1 : ∀ I2 : KI, I2 107 = row (I' 107) k (nI c) → I2 108 = I' 108 → I2 100 10 = I' 100 10 → I2 100 11 = I' 100 11 → PlI I0 (cs ++ [c]) many st1 I2 := fun I2 e7 e8 e10 e11 => by
            refine ⟨fun i hi => ?_, by rw [e11]; exact hp'.2.1, by rw [e8, e10]; exact hp'.2.2⟩
            rw [e7, getD_app, hcs]
            by_cases hik : i < k
            · rw [if_pos hik, row_n (by omega)]; exact hp'.1 i (by omega)
            · rw [if_neg hik, if_pos (by omega), show i = k by omega, row_s]
          have hbk : ∀ I2 : KI, PlI I0 (cs ++ [c]) many (plnF s o j (choN N1 c (fr + k)) (cs ++ [c]) (fr + k + 1) (p + choP N1 c) st1) I2 → PlI I0 cs many ((List.range (c + 1)).foldl (fun st c => plnF s o j (choN N1 c (fr + k)) (cs ++ [c]) (fr + k + 1) (p + choP N1 c) st) st) I2 := fun I2 h2 => by
            rw [hfold]
            refine ⟨fun i hi => ?_, h2.2.1, h2.2.2⟩
            have := h2.1 i (by omega)
            rw [getD_app, if_pos hi] at this
            exact this
          have hfw : FP I' (w2 I' 107 k (nI c)) := ⟨fun a a1 a2 a3 a4 a5 => w2_r a3, fun k' k1 k2 => w2_n1 (by omega)⟩
          have htw : TS pb T (w2 I' 107 k (nI c)) R N1 := ht'.fr (fun a ha => w2_r (by omega))
          by_cases hc0 : c = 0
          · subst hc0
            have hcN : choN N1 0 (fr + k) = N1 := rfl
            have hcP : p + choP N1 0 = p + 0 := rfl
            rw [hcN, hcP] at hbk
            have hcall := ihj (many := many) (k := k + 1) (fr := fr) (p := p + 0) (st := st1) (N1 := N1) (cs := cs ++ [0]) (hX'.fp hfw) htw hv (by omega) (by omega) h4 hcl hfr (hp1 (w2 I' 107 k (nI 0)) (by unfold w2; exact row_s _ _ _) (w2_r (by omega)) (w2_n1 (by omega)) (w2_n1 (by omega)))
            refine AW.iload X dX1_plans_90 rfl ?_
            refine AW.iconst X (v := 2) dX1_plans_92 rfl ?_
            first | refine AW.aload_n X dX1_plans_93 rfl rfl ?_ | refine AW.aloadN_n X dX1_plans_93 rfl rfl ?_
            refine AW.getR X f_X1_23_0 (by first | assumption | exact hT _ _ rfl) (by first | assumption | exact hR _ _ _ rfl) dX1_plans_94 ?_
            refine AW.getR X f_X1_65_2 (by first | assumption | exact hT _ _ rfl) (by first | assumption | exact hR _ _ _ rfl) dX1_plans_97 ?_
            refine AW.getR X f_X1_87_3 (by first | assumption | exact hT _ _ rfl) (by first | assumption | exact hR _ _ _ rfl) dX1_plans_100 ?_
            refine AW.callV_r X (hP'.lE.size) (ci := 19) (q := (RJ2, TJ2, 3)) (by first | assumption | exact hT _ _ rfl) rfl s_X1_75_19 (by omega) (Nat.le_of_ble_eq_true rfl) rfl rfl (Nat.le_of_ble_eq_true rfl) dX1_plans_103 ?_
            refine AW.imul X dX1_plans_106 ?_
            rw [show (2 : Int32) = nI 2 from rfl, nI_mul]
            refine AW.icmp_gt X (tgt := 211) dX1_plans_107 rfl ?_ ?_
            · intro t107
              exact absurd t107 (nI_nlt (by omega) (by omega))
            · intro f107
              first | refine AW.aload_n X dX1_plans_110 rfl rfl ?_ | refine AW.aloadN_n X dX1_plans_110 rfl rfl ?_
              refine AW.getR X f_X1_38_0 (by first | assumption | exact hT _ _ rfl) (by first | assumption | exact hR _ _ _ rfl) dX1_plans_111 ?_
              refine AW.iload_n X dX1_plans_114 rfl rfl ?_
              refine AW.iload X dX1_plans_115 rfl ?_
              refine AW.iast X (j := k) (by omega) (by first | assumption | exact hT _ _ rfl) (by repeat (first | with_reducible exact rfl | assumption | exact ix_l _ | apply ix_add | apply ix_mul)) (by omega) dX1_plans_117 ?_
              refine AW.iload X dX1_plans_118 rfl ?_
              refine AW.if_le X (tgt := 146) dX1_plans_120 rfl ?_ ?_
              · intro t120
                first | refine AW.aload_n X dX1_plans_146 rfl rfl ?_ | refine AW.aloadN_n X dX1_plans_146 rfl rfl ?_
                first | refine AW.aload_n X dX1_plans_147 rfl rfl ?_ | refine AW.aloadN_n X dX1_plans_147 rfl rfl ?_
                first | refine AW.aload_n X dX1_plans_148 rfl rfl ?_ | refine AW.aloadN_n X dX1_plans_148 rfl rfl ?_
                refine AW.iload_n X dX1_plans_149 rfl rfl ?_
                refine AW.iconst X (v := 1) dX1_plans_150 rfl ?_
                refine AW.iadd X dX1_plans_151 ?_
                rw [nI_1]
                refine AW.iload X dX1_plans_152 rfl ?_
                refine AW.iload X dX1_plans_154 rfl ?_
                refine AW.iload X dX1_plans_156 rfl ?_
                refine AW.iload X dX1_plans_158 rfl ?_
                refine AW.if_le X (tgt := 182) dX1_plans_160 rfl ?_ ?_
                · intro t160
                  refine AW.iconst X (v := 0) dX1_plans_182 rfl ?_
                  refine AW.iadd X dX1_plans_183 ?_
                  refine AW.callV_i X (hcall) (ci := 0) (q := (RX1, TX1, 14)) (by first | assumption | exact hT _ _ rfl) rfl s_X1_253_0 (by omega) (Nat.le_of_ble_eq_true rfl) rfl rfl (Nat.le_of_ble_eq_true rfl) dX1_plans_184 ?_
                  intro r184 I184 h184
                  obtain ⟨rfl, q1, q2, q3⟩ := h184
                  refine AW.iload X dX1_plans_187 rfl ?_
                  refine AW.if_le X (tgt := 205) dX1_plans_189 rfl ?_ ?_
                  · intro t189
                    refine AW.iinc7 X (v := _ + 1) dX1_plans_205 rfl ?_
                    refine AW.goto X (tgt := 90) dX1_plans_208 rfl ?_
                    rw [nI_1]; exact ih 1 I184 (by omega) (hf.tr (hfw.tr q1)) q2 (hbk _ q3)
                  · intro f189
                    exact absurd (Int32.le_refl _) f189
                · intro f160
                  exact absurd (Int32.le_refl _) f160
              · intro f120
                exact absurd (Int32.le_refl _) f120
          · have hcle : ¬ nI c ≤ 0 := nI_nle (by omega) (by omega)
            have hsub : nI c - 1 = nI (c - 1) := nI_sub (c := 1) (by omega)
            have hcN : choN N1 c (fr + k) = addN N1 (nI ((c - 1) / 2)) (nI (fr + k)) (nI ((c - 1) % 2)) := if_neg hc0
            have hcP : choP N1 c = prc N1 (nI ((c - 1) % 2)) := if_neg hc0
            have hs2 : nI ((c - 1) % 2) = 0 ∨ nI ((c - 1) % 2) = 1 := by
              have : (c - 1) % 2 = 0 ∨ (c - 1) % 2 = 1 := by omega
              rcases this with e | e
              · rw [e]; exact Or.inl rfl
              · rw [e]; exact Or.inr rfl
            have hadd := c_X3_adds (la := 105) (x := nI ((c - 1) / 2)) (z := nI (fr + k)) (w := nI ((c - 1) % 2)) (J := J) (by omega) htw.2.2.2.1 htw.2.2.2.2.2 (by omega)
            have hpr : prc N1 (nI ((c - 1) % 2)) = if nI ((c - 1) % 2) = 0 then N 304 4 else N 304 5 := by unfold prc; rw [hv 304 (by omega) (by omega)]
            refine AW.iload X dX1_plans_90 rfl ?_
            refine AW.iconst X (v := 2) dX1_plans_92 rfl ?_
            first | refine AW.aload_n X dX1_plans_93 rfl rfl ?_ | refine AW.aloadN_n X dX1_plans_93 rfl rfl ?_
            refine AW.getR X f_X1_23_0 (by first | assumption | exact hT _ _ rfl) (by first | assumption | exact hR _ _ _ rfl) dX1_plans_94 ?_
            refine AW.getR X f_X1_65_2 (by first | assumption | exact hT _ _ rfl) (by first | assumption | exact hR _ _ _ rfl) dX1_plans_97 ?_
            refine AW.getR X f_X1_87_3 (by first | assumption | exact hT _ _ rfl) (by first | assumption | exact hR _ _ _ rfl) dX1_plans_100 ?_
            refine AW.callV_r X (hP'.lE.size) (ci := 19) (q := (RJ2, TJ2, 3)) (by first | assumption | exact hT _ _ rfl) rfl s_X1_75_19 (by omega) (Nat.le_of_ble_eq_true rfl) rfl rfl (Nat.le_of_ble_eq_true rfl) dX1_plans_103 ?_
            refine AW.imul X dX1_plans_106 ?_
            rw [show (2 : Int32) = nI 2 from rfl, nI_mul]
            refine AW.icmp_gt X (tgt := 211) dX1_plans_107 rfl ?_ ?_
            · intro t107
              exact absurd t107 (nI_nlt (by omega) (by omega))
            · intro f107
              first | refine AW.aload_n X dX1_plans_110 rfl rfl ?_ | refine AW.aloadN_n X dX1_plans_110 rfl rfl ?_
              refine AW.getR X f_X1_38_0 (by first | assumption | exact hT _ _ rfl) (by first | assumption | exact hR _ _ _ rfl) dX1_plans_111 ?_
              refine AW.iload_n X dX1_plans_114 rfl rfl ?_
              refine AW.iload X dX1_plans_115 rfl ?_
              refine AW.iast X (j := k) (by omega) (by first | assumption | exact hT _ _ rfl) (by repeat (first | with_reducible exact rfl | assumption | exact ix_l _ | apply ix_add | apply ix_mul)) (by omega) dX1_plans_117 ?_
              refine AW.iload X dX1_plans_118 rfl ?_
              refine AW.if_le X (tgt := 146) dX1_plans_120 rfl ?_ ?_
              · intro t120
                exact absurd t120 hcle
              · intro f120
                first | refine AW.aload_n X dX1_plans_123 rfl rfl ?_ | refine AW.aloadN_n X dX1_plans_123 rfl rfl ?_
                refine AW.getR X f_X1_27_0 (by first | assumption | exact hT _ _ rfl) (by first | assumption | exact hR _ _ _ rfl) dX1_plans_124 ?_
                refine AW.iload X dX1_plans_127 rfl ?_
                refine AW.iconst X (v := 1) dX1_plans_129 rfl ?_
                refine AW.isub X dX1_plans_130 ?_
                rw [hsub]
                refine AW.iconst X (v := 2) dX1_plans_131 rfl ?_
                refine AW.idiv X dX1_plans_132 (by decide) ?_
                rw [show nI (c - 1) / 2 = nI ((c - 1) / 2) from nI_div (c := 2) (by omega) (by omega)]
                refine AW.iload X dX1_plans_133 rfl ?_
                refine AW.iload_n X dX1_plans_135 rfl rfl ?_
                refine AW.iadd X dX1_plans_136 ?_
                rw [nI_add]
                refine AW.iload X dX1_plans_137 rfl ?_
                refine AW.iconst X (v := 1) dX1_plans_139 rfl ?_
                refine AW.isub X dX1_plans_140 ?_
                rw [hsub]
                refine AW.iconst X (v := 2) dX1_plans_141 rfl ?_
                refine AW.irem X dX1_plans_142 (by decide) ?_
                rw [show nI (c - 1) - nI (c - 1) / 2 * 2 = nI ((c - 1) % 2) from nI_rem (c := 2) (by omega) (by omega)]
                refine AW.callV_i X (hadd) (ci := 2) (q := (RX3, TX3, 9)) (by first | assumption | exact hT _ _ rfl) rfl s_X1_207_2 (by omega) (Nat.le_of_ble_eq_true rfl) rfl rfl (Nat.le_of_ble_eq_true rfl) dX1_plans_143 ?_
                intro r143 I143 h143
                obtain ⟨rfl, q1, q2⟩ := h143
                have qf : FT (w2 I' 107 k (nI c)) I143 := fun a a1 a2 => q1 a a1 (by unfold lA; omega) (by unfold lA; omega) (by unfold lA; omega)
                have hta : TS pb T I143 R (choN N1 c (fr + k)) := by
                  rw [hcN]
                  exact htw.adds (by omega) (by rw [hnE]; omega) (by omega) hs2 q2 (fun a ha => qf a (by omega) (by omega))
                have hXa := (hX'.fp hfw).fp qf.fp
                have hPa := hXa.2.2.1
                have hcall := ihj (many := many) (k := k + 1) (fr := fr) (p := p + choP N1 c) (st := st1) (N1 := choN N1 c (fr + k)) (cs := cs ++ [c]) hXa hta (fun a a1 a2 => by rw [hcN, addN_P a a1 a2]; exact hv a a1 a2) (by rw [hcN, addN_M (by omega)]; omega) (by omega) h4 hcl hfr (hp1 I143 (by rw [qf 107 (by omega) (by omega)]; unfold w2; exact row_s _ _ _) (by rw [qf 108 (by omega) (by omega)]; exact w2_r (by omega)) (by rw [qf 100 (by omega) (by omega)]; exact w2_n1 (by omega)) (by rw [qf 100 (by omega) (by omega)]; exact w2_n1 (by omega)))
                first | refine AW.aload_n X dX1_plans_146 rfl rfl ?_ | refine AW.aloadN_n X dX1_plans_146 rfl rfl ?_
                first | refine AW.aload_n X dX1_plans_147 rfl rfl ?_ | refine AW.aloadN_n X dX1_plans_147 rfl rfl ?_
                first | refine AW.aload_n X dX1_plans_148 rfl rfl ?_ | refine AW.aloadN_n X dX1_plans_148 rfl rfl ?_
                refine AW.iload_n X dX1_plans_149 rfl rfl ?_
                refine AW.iconst X (v := 1) dX1_plans_150 rfl ?_
                refine AW.iadd X dX1_plans_151 ?_
                rw [nI_1]
                refine AW.iload X dX1_plans_152 rfl ?_
                refine AW.iload X dX1_plans_154 rfl ?_
                refine AW.iload X dX1_plans_156 rfl ?_
                refine AW.iload X dX1_plans_158 rfl ?_
                refine AW.if_le X (tgt := 182) dX1_plans_160 rfl ?_ ?_
                · intro t160
                  exact absurd t160 hcle
                · intro f160
                  first | refine AW.aload_n X dX1_plans_163 rfl rfl ?_ | refine AW.aloadN_n X dX1_plans_163 rfl rfl ?_
                  refine AW.getR X f_X1_23_0 (by first | assumption | exact hT _ _ rfl) (by first | assumption | exact hR _ _ _ rfl) dX1_plans_164 ?_
                  refine AW.getR X f_X1_65_2 (by first | assumption | exact hT _ _ rfl) (by first | assumption | exact hR _ _ _ rfl) dX1_plans_167 ?_
                  refine AW.iload X dX1_plans_170 rfl ?_
                  refine AW.iconst X (v := 1) dX1_plans_172 rfl ?_
                  refine AW.isub X dX1_plans_173 ?_
                  rw [hsub]
                  refine AW.iconst X (v := 2) dX1_plans_174 rfl ?_
                  refine AW.irem X dX1_plans_175 (by decide) ?_
                  rw [show nI (c - 1) - nI (c - 1) / 2 * 2 = nI ((c - 1) % 2) from nI_rem (c := 2) (by omega) (by omega)]
                  refine AW.callV_r X (c_X4_price hPa) (ci := 3) (q := (RX4, TX4, 11)) (by first | assumption | exact hT _ _ rfl) rfl s_X1_151_3 (by omega) (Nat.le_of_ble_eq_true rfl) rfl rfl (Nat.le_of_ble_eq_true rfl) dX1_plans_176 ?_
                  rw [← hpr, ← hcP]
                  refine AW.goto X (tgt := 183) dX1_plans_179 rfl ?_
                  refine AW.iadd X dX1_plans_183 ?_
                  refine AW.callV_i X (hcall) (ci := 0) (q := (RX1, TX1, 14)) (by first | assumption | exact hT _ _ rfl) rfl s_X1_253_0 (by omega) (Nat.le_of_ble_eq_true rfl) rfl rfl (Nat.le_of_ble_eq_true rfl) dX1_plans_184 ?_
                  intro r184 I184 h184
                  obtain ⟨rfl, u1, u2, u3⟩ := h184
                  rw [hcN] at u2
                  have hl := u2.2.2.2.1.2.2.2.2.2.2.2.2.2.2.2.2.2.2.1
                  rw [show addN N1 (nI ((c - 1) / 2)) (nI (fr + k)) (nI ((c - 1) % 2)) 200 44 = nI (nM N1 + 1) from w2_s _ _ _ _] at hl
                  have hle := u2.less ht.2.2.2.2.2 (by omega)
                  refine AW.iload X dX1_plans_187 rfl ?_
                  refine AW.if_le X (tgt := 205) dX1_plans_189 rfl ?_ ?_
                  · intro t189
                    exact absurd t189 hcle
                  · intro f189
                    first | refine AW.aload_n X dX1_plans_192 rfl rfl ?_ | refine AW.aloadN_n X dX1_plans_192 rfl rfl ?_
                    refine AW.getR X f_X1_27_0 (by first | assumption | exact hT _ _ rfl) (by first | assumption | exact hR _ _ _ rfl) dX1_plans_193 ?_
                    refine AW.dup X dX1_plans_196 rfl ?_
                    refine AW.getI X f_X1_126_2 (by first | assumption | exact hT _ _ rfl) dX1_plans_197 ?_
                    rw [hl]
                    refine AW.iconst X (v := 1) dX1_plans_200 rfl ?_
                    refine AW.isub X dX1_plans_201 ?_
                    rw [show nI (nM N1 + 1) - 1 = nI (nM N1) from nI_pred _]
                    refine AW.putI X g_X1_plans_126_2 (by omega) (by first | assumption | exact hT _ _ rfl) dX1_plans_202 ?_ 
                    refine AW.iinc7 X (v := _ + 1) dX1_plans_205 rfl ?_
                    refine AW.goto X (tgt := 90) dX1_plans_208 rfl ?_
                    rw [nI_1]; exact ih (c + 1) _ (by omega) (hf.tr (hfw.tr (qf.fp.tr (u1.tr ⟨fun a a1 a2 a3 a4 a5 => w2_r a2, fun k' k1 k2 => w2_n1 (by omega)⟩)))) hle (hbk _ (u3.fr (w2_r (by omega)) (w2_r (by omega)) (w2_n1 (by omega)) (w2_n1 (by omega))))
      refine AW.iload_n X dX1_plans_18 rfl rfl ?_
      refine AW.iload X dX1_plans_19 rfl ?_
      refine AW.icmp_ne X (tgt := 87) dX1_plans_21 rfl ?_ ?_
      · intro t21
        refine AW.iconst X (v := 0) dX1_plans_87 rfl ?_
        refine AW.istore7 X dX1_plans_88 ?_
        exact lp (2 * nE N1 + 1) 0 I (by omega) FP.rf ht hp
      · intro f21
        exact absurd ((nI_eq (by omega) (by omega)).mp f21) (by omega)
    first | refine AW.aload_n X dX1_plans_0 rfl rfl ?_ | refine AW.aloadN_n X dX1_plans_0 rfl rfl ?_
    refine AW.getI X f_X1_244_0 (by first | assumption | exact hT _ _ rfl) dX1_plans_1 ?_
    rw [hp.2.1]
    refine AW.iconst X (v := -1) dX1_plans_4 rfl ?_
    refine AW.icmp_eq X (tgt := 18) dX1_plans_5 rfl ?_ ?_
    · intro t5
      have hc : ¬ (¬ st.1 = -1 ∧ st.1 ≤ p) := fun z => z.1 t5
      exact aft hc
    · intro f5
      refine AW.iload X dX1_plans_8 rfl ?_
      first | refine AW.aload_n X dX1_plans_10 rfl rfl ?_ | refine AW.aloadN_n X dX1_plans_10 rfl rfl ?_
      refine AW.getI X f_X1_244_0 (by first | assumption | exact hT _ _ rfl) dX1_plans_11 ?_
      rw [hp.2.1]
      refine AW.icmp_lt X (tgt := 18) dX1_plans_14 rfl ?_ ?_
      · intro t14
        have hc : ¬ (¬ st.1 = -1 ∧ st.1 ≤ p) := fun z => absurd z.2 (Int32.not_le.mpr t14)
        exact aft hc
      · intro f14
        refine AW.vreturn X E ?_ dX1_plans_17
        exact ⟨rfl, rfl, rfl, rfl, FP.rf, ht, by rw [show plnF s o (j + 1) N1 cs (fr + k) p st = st from if_pos ⟨f5, Int32.not_lt.mp f14⟩]; exact hp⟩
end PL
