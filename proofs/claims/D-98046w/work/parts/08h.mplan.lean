/-! 08h: the model's plans (steps printed by src/walk.py) -/
set_option maxRecDepth 100000
set_option maxHeartbeats 4000000
def PrOK (N : KI) : Prop := ∃ a b, a < 100 ∧ b < 100 ∧ N 304 4 = nI a ∧ N 304 5 = nI b
theorem prS_b {N : KI} (h : PrOK N) (f : Nat) : ∀ j, ∃ v, v ≤ 99 * j ∧ prS N f j = nI v
  | 0 => ⟨0, by omega, rfl⟩
  | j + 1 => by
    obtain ⟨v, hv, hp⟩ := prS_b h f j
    obtain ⟨a, b, ha, hb, e4, e5⟩ := h
    unfold prS prc
    rw [hp]
    by_cases hc : N 339 (f + j) = 0
    · rw [if_pos hc, e4, nI_add]; exact ⟨v + a, by omega, rfl⟩
    · rw [if_neg hc, e5, nI_add]; exact ⟨v + b, by omega, rfl⟩
theorem prS_cg {N N' : KI} {f : Nat} (h4 : N' 304 = N 304) : ∀ {j}, (∀ i, i < j → N' 339 (f + i) = N 339 (f + i)) → prS N' f j = prS N f j
  | 0, _ => rfl
  | j + 1, h => by
    unfold prS prc
    rw [prS_cg h4 (fun i hi => h i (by omega)), h j (by omega), h4]
theorem prS_add {N : KI} {f e h s : Nat} (hm : nM N < 26) (hf : f ≤ nM N) : prS (addN N (nI e) (nI h) (nI s)) f (nM (addN N (nI e) (nI h) (nI s)) - f) = prS N f (nM N - f) + prc N (nI s) := by
  rw [addN_M hm, show nM N + 1 - f = (nM N - f) + 1 by omega]
  have h1 : prS (addN N (nI e) (nI h) (nI s)) f (nM N - f) = prS N f (nM N - f) := prS_cg (addN_P 304 (by omega) (by omega)) (fun i hi => by
    unfold addN; rw [w2_n1 (by omega), w2_n2 (by omega), w2_n1 (by omega), w2_n1 (by omega)])
  show prS _ f (nM N - f) + prc _ (addN N (nI e) (nI h) (nI s) 339 (f + (nM N - f))) = _
  rw [h1, show f + (nM N - f) = nM N by omega, show addN N (nI e) (nI h) (nI s) 339 (nM N) = nI s by unfold addN; rw [w2_n1 (by omega), w2_s]]
  unfold prc
  rw [addN_P 304 (by omega) (by omega)]
theorem FM.w350 {n k : Nat} {I : KI} {v : Int32} : FM n I (w2 I 350 k v) :=
  ⟨fun a a1 a2 a3 a4 a5 a6 => w2_r (by omega), fun m _ => by rw [w2_r (by omega), w2_r (by omega), w2_r (by omega)]; exact ⟨rfl, rfl, rfl⟩, fun k _ _ _ _ => w2_n1 (by omega)⟩
theorem FM.less {N X I2 : KI} {e h s : Int32} (hf : FM (nM N + 1) (addI N X e h s) I2) (hx : X 200 44 = nI (nM N)) : FM (nM N) X (w2 I2 200 44 (nI (nM N))) := by
  obtain ⟨f1, f2, f3⟩ := hf
  refine ⟨fun a a1 a2 a3 a4 a5 a6 => ?_, fun m hm => ?_, fun k k1 k2 k3 k4 => ?_⟩
  · rw [w2_r a1, f1 a a1 a2 a3 a4 a5 a6]
    unfold addI
    rw [w2_r a1, w2_r (by omega), w2_r (by omega), w2_r (by omega)]
  · rw [w2_r (by omega), w2_r (by omega), w2_r (by omega), (f2 m (by omega)).1, (f2 m (by omega)).2.1, (f2 m (by omega)).2.2]
    unfold addI
    have hne : m ≠ nM N := by omega
    simp only [w2_n1 (show (337 : Nat) ≠ 200 by decide), w2_n1 (show (338 : Nat) ≠ 200 by decide), w2_n1 (show (339 : Nat) ≠ 200 by decide), w2_n1 (show (337 : Nat) ≠ 339 by decide), w2_n1 (show (337 : Nat) ≠ 338 by decide), w2_n1 (show (338 : Nat) ≠ 339 by decide), w2_n1 (show (338 : Nat) ≠ 337 by decide), w2_n1 (show (339 : Nat) ≠ 337 by decide), w2_n1 (show (339 : Nat) ≠ 338 by decide), w2_n2 hne]
    exact ⟨trivial, trivial, trivial⟩
  · by_cases hk : k = 44
    · subst hk; rw [w2_s, hx]
    · rw [w2_n2 hk, f3 k k1 k2 k3 k4]
      unfold addI
      rw [w2_n2 hk, w2_n1 (by omega), w2_n1 (by omega), w2_n1 (by omega)]
def PlM (cs : List Nat) (many : Nat) (st : Int32 × List Nat) (I : KI) : Prop := (∀ i, i < cs.length → I 350 i = nI (cs.getD i 0)) ∧ I 200 54 = st.1 ∧ (st = (-1, []) ∨ (¬ st.1 = -1 ∧ st.2.length = many ∧ ∀ i, i < many → I 351 i = nI (st.2.getD i 0)))
theorem PlM.fr {I I' : KI} {cs : List Nat} {many : Nat} {st : Int32 × List Nat} (h : PlM cs many st I) (h0 : I' 350 = I 350) (h1 : I' 351 = I 351) (h2 : I' 200 54 = I 200 54) : PlM cs many st I' := by
  unfold PlM
  rw [h0, h1, h2]
  exact h
theorem addI_s {N I : KI} {e h s : Int32} {k : Nat} (hk : k ≠ 44) : addI N I e h s 200 k = I 200 k := by
  unfold addI; rw [w2_n2 hk, w2_n1 (by omega), w2_n1 (by omega), w2_n1 (by omega)]
theorem addI_r {N I : KI} {e h s : Int32} {a : Nat} (h0 : a ≠ 200) (h1 : a ≠ 337) (h2 : a ≠ 338) (h3 : a ≠ 339) : addI N I e h s a = I a := by
  unfold addI; rw [w2_r h0, w2_r h3, w2_r h2, w2_r h1]
section MPL
variable {T : KT} {R : KR} {J : KJ} {N : KI}
theorem c_X5_planOn {s o m0 : Nat} (hs : s < nS N) (ho : o < nS N) (hpr : PrOK N) : ∀ (j : Nat) {many k h b : Nat} {p : Int32} {st : Int32 × List Nat} {N1 : KI} {cs : List Nat} {I : KI}, MS T I R N1 → (∀ a, 304 ≤ a → a ≤ 322 → N1 a = N a) → nM N1 + j ≤ 26 → k + j = many → many ≤ 4 → cs.length = k → h + j = b + 1 → b < 24 → m0 ≤ nM N1 → I 200 55 = nI m0 → p = prS N1 m0 (nM N1 - m0) → PlM cs many st I →
    MX5_planOn (6 + j) 0 [.ref 200, .int (nI s), .int (nI o), .int (nI h), .int (nI b), .int (nI k)] T I R J (qI (fun r I' => r = none ∧ FM (nM N1) I I' ∧ I' 200 3 = I 200 3 ∧ I' 200 55 = nI m0 ∧ PlM cs many (plnF s o j N1 cs h p st) I') T R J) noX := by
  intro j
  induction j with
  | zero =>
    intro many k h b p st N1 cs I hS hv hm hkm h4 hcs hhb hb24 hm0 h55 hpp hp
    obtain rfl : k = many := by omega
    obtain rfl : h = b + 1 := by omega
    have hT := hS.1
    have hR := hS.2.1
    have hnS : nS N1 = nS N := nat_eq (hv 304 (by omega) (by omega))
    have hpr1 : PrOK N1 := by unfold PrOK; rw [hv 304 (by omega) (by omega)]; exact hpr
    have hm26 := hS.2.2.2.2.2.1
    refine AMet.of (by decide) (Nat.le_of_ble_eq_true rfl) (cats1 rfl) fun cx X E => ?_
    show AW _ _ _ (_ :: _ :: _ :: _ :: _ :: _ :: _ :: []) _ _ _ _ _
    have aft : ¬ (¬ st.1 = -1 ∧ st.1 ≤ p) → AW cx 0 24 [.ref 200, .int (nI s), .int (nI o), .int (nI (b + 1)), .int (nI b), .int (nI k), .retAddr 0] [] T I R J := by
      intro hc
      have hpl : plnF s o 0 N1 cs (b + 1) p st = if nEnd N1 s = 1 ∧ ¬ nEnd N1 o = 1 then (p, cs) else st := if_neg hc
      have b1 := endK_le N1 (posAt N1 (Lig N1) (hRow N1) s 24)
      have b2 := endK_le N1 (posAt N1 (Lig N1) (hRow N1) o 24)
      obtain ⟨pv, hpv, hpe⟩ := prS_b hpr1 m0 (nM N1 - m0)
      refine AW.iload_n X dX5_planOn_24 rfl rfl ?_
      refine AW.iload X dX5_planOn_25 rfl ?_
      refine AW.icmp_le X (tgt := 77) dX5_planOn_27 rfl ?_ ?_
      · intro t27
        exact absurd t27 (nI_ge (by omega) (by omega))
      · intro f27
        first | refine AW.aload_n X dX5_planOn_30 rfl rfl ?_ | refine AW.aloadN_n X dX5_planOn_30 rfl rfl ?_
        refine AW.callV_i X (c_X5_tellNight hS) (ci := 18) (q := (RX5, TX5, 74)) (by first | assumption | exact hT _ _ rfl) rfl s_X5_392_18 (by omega) (Nat.le_of_ble_eq_true rfl) rfl rfl (Nat.le_of_ble_eq_true rfl) dX5_planOn_31 ?_
        intro r31 I31 h31
        obtain ⟨rfl, g1, g2⟩ := h31
        have hS2 := hS.fe g1
        first | refine AW.aload_n X dX5_planOn_34 rfl rfl ?_ | refine AW.aloadN_n X dX5_planOn_34 rfl rfl ?_
        refine AW.iload_n X dX5_planOn_35 rfl rfl ?_
        refine AW.callV_i X (c_X5_endOf hS2 g2 (by omega)) (ci := 18) (q := (RX5, TX5, 74)) (by first | assumption | exact hT _ _ rfl) rfl s_X5_414_18 (by omega) (Nat.le_of_ble_eq_true rfl) rfl rfl (Nat.le_of_ble_eq_true rfl) dX5_planOn_36 ?_
        intro r36 I36 h36
        obtain ⟨rfl, g3, -⟩ := h36
        have g4 : NiP N1 I36 := g2.fr fun a a1 a2 => g3 a (by omega)
        have hS3 : MS T I36 R N1 := hS2.hi fun a ha => g3 a (by omega)
        have e36 : ∀ a, (a = 200 ∨ a = 350 ∨ a = 351) → I36 a = I a := fun a ha => (g3 a (by omega)).trans (g1 a (by omega) (by omega) (by omega) (by omega) (by omega) (by omega))
        have hf36 : FM (nM N1) I I36 := g1.fm.tr (FM.w349 g3)
        refine AW.iconst X (v := 1) dX5_planOn_39 rfl ?_
        refine AW.icmp_ne X (tgt := 52) dX5_planOn_40 rfl ?_ ?_
        · intro t40
          skip
          rw [if_neg (fun hc => t40 (congrArg nI hc.1))] at hpl
          refine AW.vreturn X E ?_ dX5_planOn_52
          exact ⟨rfl, rfl, rfl, rfl, hf36, congrFun (e36 200 (by omega)) 3, (congrFun (e36 200 (by omega)) 55).trans h55, by rw [hpl]; exact hp.fr (e36 350 (by omega)) (e36 351 (by omega)) (congrFun (e36 200 (by omega)) 54)⟩
        · intro f40
          first | refine AW.aload_n X dX5_planOn_43 rfl rfl ?_ | refine AW.aloadN_n X dX5_planOn_43 rfl rfl ?_
          refine AW.iload_n X dX5_planOn_44 rfl rfl ?_
          refine AW.callV_i X (c_X5_endOf hS3 g4 (by omega)) (ci := 18) (q := (RX5, TX5, 74)) (by first | assumption | exact hT _ _ rfl) rfl s_X5_414_18 (by omega) (Nat.le_of_ble_eq_true rfl) rfl rfl (Nat.le_of_ble_eq_true rfl) dX5_planOn_45 ?_
          intro r45 I45 h45
          obtain ⟨rfl, g5, -⟩ := h45
          have hS4 : MS T I45 R N1 := hS3.hi fun a ha => g5 a (by omega)
          have e45 : ∀ a, (a = 200 ∨ a = 350 ∨ a = 351) → I45 a = I a := fun a ha => (g5 a (by omega)).trans (e36 a ha)
          have hf45 : FM (nM N1) I I45 := hf36.tr (FM.w349 g5)
          refine AW.iconst X (v := 1) dX5_planOn_48 rfl ?_
          refine AW.icmp_ne X (tgt := 53) dX5_planOn_49 rfl ?_ ?_
          · intro t49
            rw [if_pos ⟨(nI_eq (b := 1) (by unfold nEnd; omega) (by omega)).mp f40, fun hc => t49 (congrArg nI hc)⟩] at hpl
            first | refine AW.aload_n X dX5_planOn_53 rfl rfl ?_ | refine AW.aloadN_n X dX5_planOn_53 rfl rfl ?_
            first | refine AW.aload_n X dX5_planOn_54 rfl rfl ?_ | refine AW.aloadN_n X dX5_planOn_54 rfl rfl ?_
            first | refine AW.aload_n X dX5_planOn_55 rfl rfl ?_ | refine AW.aloadN_n X dX5_planOn_55 rfl rfl ?_
            refine AW.getI X f_X5_417_18 (by first | assumption | exact hT _ _ rfl) dX5_planOn_56 ?_
            rw [congrFun (e45 200 (by omega)) 55, h55]
            refine AW.callV_r X (c_X5_priceOf hS4 hm0) (ci := 18) (q := (RX5, TX5, 74)) (by first | assumption | exact hT _ _ rfl) rfl s_X5_373_18 (by omega) (Nat.le_of_ble_eq_true rfl) rfl rfl (Nat.le_of_ble_eq_true rfl) dX5_planOn_59 ?_
            rw [← hpp]
            refine AW.putI X g_X5_planOn_420_18 (by omega) (by first | assumption | exact hT _ _ rfl) dX5_planOn_62 ?_ 
            first | refine AW.aload_n X dX5_planOn_65 rfl rfl ?_ | refine AW.aloadN_n X dX5_planOn_65 rfl rfl ?_
            refine AW.getR X f_X5_146_18 (by first | assumption | exact hT _ _ rfl) (by first | assumption | exact hR _ _ _ rfl) dX5_planOn_66 ?_
            first | refine AW.aload_n X dX5_planOn_69 rfl rfl ?_ | refine AW.aloadN_n X dX5_planOn_69 rfl rfl ?_
            refine AW.getR X f_X5_143_18 (by first | assumption | exact hT _ _ rfl) (by first | assumption | exact hR _ _ _ rfl) dX5_planOn_70 ?_
            refine AW.callS_i X (c_X5_be (x := 351) (z := 350) (n := 6) (hT _ _ rfl) (hT _ _ rfl) (by omega) (by omega) (by omega)) s_X5_423 (by omega) (Nat.le_of_ble_eq_true rfl) rfl rfl (Nat.le_of_ble_eq_true rfl) dX5_planOn_73 ?_
            intro r73 I73 h73
            obtain ⟨rfl, q1, q2⟩ := h73
            refine AW.vreturn X E ?_ dX5_planOn_76
            refine ⟨rfl, rfl, rfl, rfl, hf45.tr ⟨fun a a1 a2 a3 a4 a5 a6 => ?_, fun m hm => ?_, fun k k1 k2 k3 k4 => ?_⟩, ?_, ?_, ?_⟩
            · rw [q1 a (by omega), w2_r a1]
            · rw [q1 337 (by omega), q1 338 (by omega), q1 339 (by omega), w2_r (by omega), w2_r (by omega), w2_r (by omega)]; exact ⟨rfl, rfl, rfl⟩
            · rw [q1 200 (by omega), w2_n2 k2]
            · rw [q1 200 (by omega), w2_n2 (by omega)]; exact congrFun (e45 200 (by omega)) 3
            · rw [q1 200 (by omega), w2_n2 (by omega)]; exact (congrFun (e45 200 (by omega)) 55).trans h55
            · rw [hpl]
              refine ⟨fun i hi => ?_, ?_, Or.inr ⟨?_, hcs, fun i hi => ?_⟩⟩
              · rw [q1 350 (by omega), w2_r (by omega), e45 350 (by omega)]; exact hp.1 i hi
              · rw [q1 200 (by omega), w2_s]
              · show ¬ p = -1; rw [hpp, hpe]; exact nI_m1 (by omega)
              · rw [q2 i (by omega), w2_r (by omega), e45 350 (by omega)]; exact hp.1 i (by omega)
          · intro f49
            rw [if_neg (fun hc => hc.2 ((nI_eq (b := 1) (by unfold nEnd; omega) (by omega)).mp f49))] at hpl
            refine AW.vreturn X E ?_ dX5_planOn_52
            exact ⟨rfl, rfl, rfl, rfl, hf45, congrFun (e45 200 (by omega)) 3, (congrFun (e45 200 (by omega)) 55).trans h55, by rw [hpl]; exact hp.fr (e45 350 (by omega)) (e45 351 (by omega)) (congrFun (e45 200 (by omega)) 54)⟩
    first | refine AW.aload_n X dX5_planOn_0 rfl rfl ?_ | refine AW.aloadN_n X dX5_planOn_0 rfl rfl ?_
    first | refine AW.aload_n X dX5_planOn_1 rfl rfl ?_ | refine AW.aloadN_n X dX5_planOn_1 rfl rfl ?_
    refine AW.getI X f_X5_417_18 (by first | assumption | exact hT _ _ rfl) dX5_planOn_2 ?_
    rw [h55]
    refine AW.callV_r X (c_X5_priceOf hS hm0) (ci := 18) (q := (RX5, TX5, 74)) (by first | assumption | exact hT _ _ rfl) rfl s_X5_373_18 (by omega) (Nat.le_of_ble_eq_true rfl) rfl rfl (Nat.le_of_ble_eq_true rfl) dX5_planOn_5 ?_
    rw [← hpp]
    first | refine AW.aload_n X dX5_planOn_8 rfl rfl ?_ | refine AW.aloadN_n X dX5_planOn_8 rfl rfl ?_
    refine AW.getI X f_X5_420_18 (by first | assumption | exact hT _ _ rfl) dX5_planOn_9 ?_
    rw [hp.2.1]
    refine AW.icmp_lt X (tgt := 24) dX5_planOn_12 rfl ?_ ?_
    · intro t12
      have hc : ¬ (¬ st.1 = -1 ∧ st.1 ≤ p) := fun z => absurd z.2 (Int32.not_le.mpr t12)
      exact aft hc
    · intro f12
      first | refine AW.aload_n X dX5_planOn_15 rfl rfl ?_ | refine AW.aloadN_n X dX5_planOn_15 rfl rfl ?_
      refine AW.getI X f_X5_420_18 (by first | assumption | exact hT _ _ rfl) dX5_planOn_16 ?_
      rw [hp.2.1]
      refine AW.iconst X (v := -1) dX5_planOn_19 rfl ?_
      refine AW.icmp_eq X (tgt := 24) dX5_planOn_20 rfl ?_ ?_
      · intro t20
        have hc : ¬ (¬ st.1 = -1 ∧ st.1 ≤ p) := fun z => z.1 t20
        exact aft hc
      · intro f20
        refine AW.vreturn X E ?_ dX5_planOn_23
        exact ⟨rfl, rfl, rfl, rfl, FM.rf, rfl, h55, by rw [show plnF s o 0 N1 cs (b + 1) p st = st from if_pos ⟨f20, Int32.not_lt.mp f12⟩]; exact hp⟩
  | succ j ihj =>
    intro many k h b p st N1 cs I hS hv hm hkm h4 hcs hhb hb24 hm0 h55 hpp hp
    have hS0 := hS
    obtain ⟨hT, hR, hV, hN, hM⟩ := hS
    obtain ⟨⟨n1, n2, n3, n4, hnq, hne, hns, hnh⟩, -⟩ := id hN
    have hnE : nE N1 = nE N := nat_eq (hv 304 (by omega) (by omega))
    have v304 := hV.1 304 (by omega) (by omega)
    have v44 : I 200 44 = nI (nM N1) := hV.2.2.1.trans hM.1
    refine AMet.of (by decide) (Nat.le_of_ble_eq_true rfl) (cats1 rfl) fun cx X E => ?_
    show AW _ _ _ (_ :: _ :: _ :: _ :: _ :: _ :: _ :: []) _ _ _ _ _
    have aft : ¬ (¬ st.1 = -1 ∧ st.1 ≤ p) → AW cx 0 24 [.ref 200, .int (nI s), .int (nI o), .int (nI h), .int (nI b), .int (nI k), .retAddr 0] [] T I R J := by
      intro hc
      have hpl : plnF s o (j + 1) N1 cs h p st = (List.range (2 * nE N1 + 1)).foldl (fun st c => plnF s o j (choN N1 c h) (cs ++ [c]) (h + 1) (p + choP N1 c) st) st := if_neg hc
      have lp : ∀ n c (I' : KI), c + n = 2 * nE N1 + 1 → FM (nM N1) I I' → I' 200 3 = I 200 3 → I' 200 55 = nI m0 → PlM cs many ((List.range c).foldl (fun st c => plnF s o j (choN N1 c h) (cs ++ [c]) (h + 1) (p + choP N1 c) st) st) I' → AW cx 0 80 [.ref 200, .int (nI s), .int (nI o), .int (nI h), .int (nI b), .int (nI k), .int (nI c)] [] T I' R J := by
        intro n
        induction n with
        | zero =>
          intro c I' hcn hf h3' h55' hp'
          obtain rfl : c = 2 * nE N1 + 1 := by omega
          refine AW.iload X dX5_planOn_80 rfl ?_
          refine AW.iconst X (v := 2) dX5_planOn_82 rfl ?_
          first | refine AW.aload_n X dX5_planOn_83 rfl rfl ?_ | refine AW.aloadN_n X dX5_planOn_83 rfl rfl ?_
          refine AW.getR X f_X5_45_18 (by first | assumption | exact hT _ _ rfl) (by first | assumption | exact hR _ _ _ rfl) dX5_planOn_84 ?_
          refine AW.iconst X (v := 1) dX5_planOn_87 rfl ?_
          refine AW.iald X (j := 1) (by first | assumption | exact hT _ _ rfl) (by repeat (first | with_reducible exact rfl | assumption | exact ix_l _ | apply ix_add | apply ix_mul)) (by omega) dX5_planOn_88 ?_
          rw [hf.1 304 (by omega) (by omega) (by omega) (by omega) (by omega) (by omega), v304, n2]
          refine AW.imul X dX5_planOn_89 ?_
          rw [show (2 : Int32) = nI 2 from rfl, nI_mul]
          refine AW.icmp_gt X (tgt := 160) dX5_planOn_90 rfl ?_ ?_
          · intro t90
            refine AW.vreturn X E ?_ dX5_planOn_160
            exact ⟨rfl, rfl, rfl, rfl, hf, h3', h55', by rw [hpl]; exact hp'⟩
          · intro f90
            exact absurd (nI_lt (by omega) (by omega)) f90
        | succ n ih =>
          intro c I' hcn hf h3' h55' hp'
          have hS' := hS0.fm hf
          have w304 : I' 304 = N1 304 := hS'.2.2.1.1 304 (by omega) (by omega)
          generalize hst : (List.range c).foldl (fun st c => plnF s o j (choN N1 c h) (cs ++ [c]) (h + 1) (p + choP N1 c) st) st = st1 at hp'
          have hfold : (List.range (c + 1)).foldl (fun st c => plnF s o j (choN N1 c h) (cs ++ [c]) (h + 1) (p + choP N1 c) st) st = plnF s o j (choN N1 c h) (cs ++ [c]) (h + 1) (p + choP N1 c) st1 := by
            rw [List.range_succ, List.foldl_append, hst]; rfl
          have hcl : (cs ++ [c]).length = k + 1 := by rw [List.length_append, hcs]; rfl
          have hp1 : ∀ I2 : KI, I2 350 = row (I' 350) k (nI c) → I2 351 = I' 351 → I2 200 54 = I' 200 54 → PlM (cs ++ [c]) many st1 I2 := fun I2 e7 e8 e10 => by
            refine ⟨fun i hi => ?_, by rw [e10]; exact hp'.2.1, by rw [e8]; exact hp'.2.2⟩
            rw [e7, getD_app, hcs]
            by_cases hik : i < k
            · rw [if_pos hik, row_n (by omega)]; exact hp'.1 i (by omega)
            · rw [if_neg hik, if_pos (by omega), show i = k by omega, row_s]
          have hbk : ∀ I2 : KI, PlM (cs ++ [c]) many (plnF s o j (choN N1 c h) (cs ++ [c]) (h + 1) (p + choP N1 c) st1) I2 → PlM cs many ((List.range (c + 1)).foldl (fun st c => plnF s o j (choN N1 c h) (cs ++ [c]) (h + 1) (p + choP N1 c) st) st) I2 := fun I2 h2 => by
            rw [hfold]
            refine ⟨fun i hi => ?_, h2.2.1, h2.2.2⟩
            have := h2.1 i (by omega)
            rw [getD_app, if_pos hi] at this
            exact this
          have hfw : FM (nM N1) I' (w2 I' 350 k (nI c)) := FM.w350
          have hSw : MS T (w2 I' 350 k (nI c)) R N1 := hS'.fm hfw
          have h3w : w2 I' 350 k (nI c) 200 3 = I 200 3 := (w2_n1 (by omega)).trans h3'
          have h55w : w2 I' 350 k (nI c) 200 55 = nI m0 := (w2_n1 (by omega)).trans h55'
          have hr350 : w2 I' 350 k (nI c) 350 = row (I' 350) k (nI c) := by unfold w2; exact row_s _ _ _
          by_cases hc0 : c = 0
          · subst hc0
            have hcN : choN N1 0 h = N1 := rfl
            have hcP : p + choP N1 0 = p := by show p + 0 = p; exact Int32.add_zero p
            rw [hcN, hcP] at hbk
            have hcall := ihj (many := many) (k := k + 1) (h := h + 1) (b := b) (p := p) (st := st1) (N1 := N1) (cs := cs ++ [0]) hSw hv (by omega) (by omega) h4 hcl (by omega) hb24 hm0 h55w hpp (hp1 _ hr350 (w2_r (by omega)) (w2_n1 (by omega)))
            refine AW.iload X dX5_planOn_80 rfl ?_
            refine AW.iconst X (v := 2) dX5_planOn_82 rfl ?_
            first | refine AW.aload_n X dX5_planOn_83 rfl rfl ?_ | refine AW.aloadN_n X dX5_planOn_83 rfl rfl ?_
            refine AW.getR X f_X5_45_18 (by first | assumption | exact hT _ _ rfl) (by first | assumption | exact hR _ _ _ rfl) dX5_planOn_84 ?_
            refine AW.iconst X (v := 1) dX5_planOn_87 rfl ?_
            refine AW.iald X (j := 1) (by first | assumption | exact hT _ _ rfl) (by repeat (first | with_reducible exact rfl | assumption | exact ix_l _ | apply ix_add | apply ix_mul)) (by omega) dX5_planOn_88 ?_
            rw [w304, n2]
            refine AW.imul X dX5_planOn_89 ?_
            rw [show (2 : Int32) = nI 2 from rfl, nI_mul]
            refine AW.icmp_gt X (tgt := 160) dX5_planOn_90 rfl ?_ ?_
            · intro t90
              exact absurd t90 (nI_nlt (by omega) (by omega))
            · intro f90
              first | refine AW.aload_n X dX5_planOn_93 rfl rfl ?_ | refine AW.aloadN_n X dX5_planOn_93 rfl rfl ?_
              refine AW.getR X f_X5_143_18 (by first | assumption | exact hT _ _ rfl) (by first | assumption | exact hR _ _ _ rfl) dX5_planOn_94 ?_
              refine AW.iload X dX5_planOn_97 rfl ?_
              refine AW.iload X dX5_planOn_99 rfl ?_
              refine AW.iast X (j := k) (by omega) (by first | assumption | exact hT _ _ rfl) (by repeat (first | with_reducible exact rfl | assumption | exact ix_l _ | apply ix_add | apply ix_mul)) (by omega) dX5_planOn_101 ?_
              refine AW.iload X dX5_planOn_102 rfl ?_
              refine AW.if_le X (tgt := 124) dX5_planOn_104 rfl ?_ ?_
              · intro t104
                first | refine AW.aload_n X dX5_planOn_124 rfl rfl ?_ | refine AW.aloadN_n X dX5_planOn_124 rfl rfl ?_
                refine AW.iload_n X dX5_planOn_125 rfl rfl ?_
                refine AW.iload_n X dX5_planOn_126 rfl rfl ?_
                refine AW.iload_n X dX5_planOn_127 rfl rfl ?_
                refine AW.iconst X (v := 1) dX5_planOn_128 rfl ?_
                refine AW.iadd X dX5_planOn_129 ?_
                rw [nI_1]
                refine AW.iload X dX5_planOn_130 rfl ?_
                refine AW.iload X dX5_planOn_132 rfl ?_
                refine AW.iconst X (v := 1) dX5_planOn_134 rfl ?_
                refine AW.iadd X dX5_planOn_135 ?_
                rw [nI_1]
                refine AW.callV_i X (hcall) (ci := 18) (q := (RX5, TX5, 74)) (by first | assumption | exact hT _ _ rfl) rfl s_X5_427_18 (by omega) (Nat.le_of_ble_eq_true rfl) rfl rfl (Nat.le_of_ble_eq_true rfl) dX5_planOn_136 ?_
                intro r136 I136 h136
                obtain ⟨rfl, q1, q2, q3, q4⟩ := h136
                refine AW.iload X dX5_planOn_139 rfl ?_
                refine AW.if_le X (tgt := 154) dX5_planOn_141 rfl ?_ ?_
                · intro t141
                  refine AW.iinc6 X (v := _ + 1) dX5_planOn_154 rfl ?_
                  refine AW.goto X (tgt := 80) dX5_planOn_157 rfl ?_
                  rw [nI_1]; exact ih 1 _ (by omega) (hf.tr (hfw.tr q1)) (q2.trans h3w) q3 (hbk _ q4)
                · intro f141
                  exact absurd (Int32.le_refl _) f141
              · intro f104
                exact absurd (Int32.le_refl _) f104
          · have hcle : ¬ nI c ≤ 0 := nI_nle (by omega) (by omega)
            have hsub : nI c - 1 = nI (c - 1) := nI_sub (c := 1) (by omega)
            have hcN : choN N1 c h = addN N1 (nI ((c - 1) / 2)) (nI h) (nI ((c - 1) % 2)) := if_neg hc0
            have hcP : choP N1 c = prc N1 (nI ((c - 1) % 2)) := if_neg hc0
            have hs2 : nI ((c - 1) % 2) = 0 ∨ nI ((c - 1) % 2) = 1 := by
              have : (c - 1) % 2 = 0 ∨ (c - 1) % 2 = 1 := by omega
              rcases this with e | e
              · rw [e]; exact Or.inl rfl
              · rw [e]; exact Or.inr rfl
            have hSa : MS T (addI N1 (w2 I' 350 k (nI c)) (nI ((c - 1) / 2)) (nI h) (nI ((c - 1) % 2))) R (choN N1 c h) := by
              rw [hcN]; exact hSw.add (by omega) (by omega) (by omega) hs2
            have hmc : nM (choN N1 c h) = nM N1 + 1 := by rw [hcN]; exact addN_M (by omega)
            have hpc : p + choP N1 c = prS (choN N1 c h) m0 (nM (choN N1 c h) - m0) := by
              rw [hcN, prS_add (by omega) hm0, ← hpp, hcP]
            have hcall := ihj (many := many) (k := k + 1) (h := h + 1) (b := b) (p := p + choP N1 c) (st := st1) (N1 := choN N1 c h) (cs := cs ++ [c]) hSa (fun a a1 a2 => by rw [hcN, addN_P a a1 a2]; exact hv a a1 a2) (by omega) (by omega) h4 hcl (by omega) hb24 (by omega) ((addI_s (by omega)).trans h55w) hpc (hp1 _ ((addI_r (by omega) (by omega) (by omega) (by omega)).trans hr350) ((addI_r (by omega) (by omega) (by omega) (by omega)).trans (w2_r (by omega))) ((addI_s (by omega)).trans (w2_n1 (by omega))))
            have w44 : w2 I' 350 k (nI c) 200 44 = nI (nM N1) := hSw.2.2.1.2.2.1.trans hM.1
            refine AW.iload X dX5_planOn_80 rfl ?_
            refine AW.iconst X (v := 2) dX5_planOn_82 rfl ?_
            first | refine AW.aload_n X dX5_planOn_83 rfl rfl ?_ | refine AW.aloadN_n X dX5_planOn_83 rfl rfl ?_
            refine AW.getR X f_X5_45_18 (by first | assumption | exact hT _ _ rfl) (by first | assumption | exact hR _ _ _ rfl) dX5_planOn_84 ?_
            refine AW.iconst X (v := 1) dX5_planOn_87 rfl ?_
            refine AW.iald X (j := 1) (by first | assumption | exact hT _ _ rfl) (by repeat (first | with_reducible exact rfl | assumption | exact ix_l _ | apply ix_add | apply ix_mul)) (by omega) dX5_planOn_88 ?_
            rw [w304, n2]
            refine AW.imul X dX5_planOn_89 ?_
            rw [show (2 : Int32) = nI 2 from rfl, nI_mul]
            refine AW.icmp_gt X (tgt := 160) dX5_planOn_90 rfl ?_ ?_
            · intro t90
              exact absurd t90 (nI_nlt (by omega) (by omega))
            · intro f90
              first | refine AW.aload_n X dX5_planOn_93 rfl rfl ?_ | refine AW.aloadN_n X dX5_planOn_93 rfl rfl ?_
              refine AW.getR X f_X5_143_18 (by first | assumption | exact hT _ _ rfl) (by first | assumption | exact hR _ _ _ rfl) dX5_planOn_94 ?_
              refine AW.iload X dX5_planOn_97 rfl ?_
              refine AW.iload X dX5_planOn_99 rfl ?_
              refine AW.iast X (j := k) (by omega) (by first | assumption | exact hT _ _ rfl) (by repeat (first | with_reducible exact rfl | assumption | exact ix_l _ | apply ix_add | apply ix_mul)) (by omega) dX5_planOn_101 ?_
              refine AW.iload X dX5_planOn_102 rfl ?_
              refine AW.if_le X (tgt := 124) dX5_planOn_104 rfl ?_ ?_
              · intro t104
                exact absurd t104 hcle
              · intro f104
                first | refine AW.aload_n X dX5_planOn_107 rfl rfl ?_ | refine AW.aloadN_n X dX5_planOn_107 rfl rfl ?_
                refine AW.iload X dX5_planOn_108 rfl ?_
                refine AW.iconst X (v := 1) dX5_planOn_110 rfl ?_
                refine AW.isub X dX5_planOn_111 ?_
                rw [hsub]
                refine AW.iconst X (v := 2) dX5_planOn_112 rfl ?_
                refine AW.idiv X dX5_planOn_113 (by decide) ?_
                rw [show nI (c - 1) / 2 = nI ((c - 1) / 2) from nI_div (c := 2) (by omega) (by omega)]
                refine AW.iload_n X dX5_planOn_114 rfl rfl ?_
                refine AW.iload X dX5_planOn_115 rfl ?_
                refine AW.iconst X (v := 1) dX5_planOn_117 rfl ?_
                refine AW.isub X dX5_planOn_118 ?_
                rw [hsub]
                refine AW.iconst X (v := 2) dX5_planOn_119 rfl ?_
                refine AW.irem X dX5_planOn_120 (by decide) ?_
                rw [show nI (c - 1) - nI (c - 1) / 2 * 2 = nI ((c - 1) % 2) from nI_rem (c := 2) (by omega) (by omega)]
                refine AW.callV_i X (c_X5_give hSw) (ci := 18) (q := (RX5, TX5, 74)) (by first | assumption | exact hT _ _ rfl) rfl s_X5_388_18 (by omega) (Nat.le_of_ble_eq_true rfl) rfl rfl (Nat.le_of_ble_eq_true rfl) dX5_planOn_121 ?_
                intro r121 I121 h121
                obtain ⟨rfl, rfl⟩ := h121
                first | refine AW.aload_n X dX5_planOn_124 rfl rfl ?_ | refine AW.aloadN_n X dX5_planOn_124 rfl rfl ?_
                refine AW.iload_n X dX5_planOn_125 rfl rfl ?_
                refine AW.iload_n X dX5_planOn_126 rfl rfl ?_
                refine AW.iload_n X dX5_planOn_127 rfl rfl ?_
                refine AW.iconst X (v := 1) dX5_planOn_128 rfl ?_
                refine AW.iadd X dX5_planOn_129 ?_
                rw [nI_1]
                refine AW.iload X dX5_planOn_130 rfl ?_
                refine AW.iload X dX5_planOn_132 rfl ?_
                refine AW.iconst X (v := 1) dX5_planOn_134 rfl ?_
                refine AW.iadd X dX5_planOn_135 ?_
                rw [nI_1]
                refine AW.callV_i X (hcall) (ci := 18) (q := (RX5, TX5, 74)) (by first | assumption | exact hT _ _ rfl) rfl s_X5_427_18 (by omega) (Nat.le_of_ble_eq_true rfl) rfl rfl (Nat.le_of_ble_eq_true rfl) dX5_planOn_136 ?_
                intro r136 I136 h136
                obtain ⟨rfl, q1, q2, q3, q4⟩ := h136
                rw [hmc] at q1
                have w44b : I136 200 44 = nI (nM N1 + 1) := (q1.2.2 44 (by omega) (by omega) (by omega) (by omega)).trans (w2_s _ _ _ _)
                refine AW.iload X dX5_planOn_139 rfl ?_
                refine AW.if_le X (tgt := 154) dX5_planOn_141 rfl ?_ ?_
                · intro t141
                  exact absurd t141 hcle
                · intro f141
                  first | refine AW.aload_n X dX5_planOn_144 rfl rfl ?_ | refine AW.aloadN_n X dX5_planOn_144 rfl rfl ?_
                  refine AW.dup X dX5_planOn_145 rfl ?_
                  refine AW.getI X f_X5_337_18 (by first | assumption | exact hT _ _ rfl) dX5_planOn_146 ?_
                  rw [w44b]
                  refine AW.iconst X (v := 1) dX5_planOn_149 rfl ?_
                  refine AW.isub X dX5_planOn_150 ?_
                  rw [show nI (nM N1 + 1) - 1 = nI (nM N1) from nI_pred _]
                  refine AW.putI X g_X5_planOn_337_18 (by omega) (by first | assumption | exact hT _ _ rfl) dX5_planOn_151 ?_ 
                  refine AW.iinc6 X (v := _ + 1) dX5_planOn_154 rfl ?_
                  refine AW.goto X (tgt := 80) dX5_planOn_157 rfl ?_
                  rw [nI_1]; exact ih (c + 1) _ (by omega) (hf.tr (hfw.tr (q1.less w44))) ((w2_n2 (by omega)).trans (q2.trans ((addI_s (by omega)).trans h3w))) ((w2_n2 (by omega)).trans q3) (hbk _ (q4.fr (w2_r (by omega)) (w2_r (by omega)) (w2_n2 (by omega))))
      refine AW.iload_n X dX5_planOn_24 rfl rfl ?_
      refine AW.iload X dX5_planOn_25 rfl ?_
      refine AW.icmp_le X (tgt := 77) dX5_planOn_27 rfl ?_ ?_
      · intro t27
        refine AW.iconst X (v := 0) dX5_planOn_77 rfl ?_
        refine AW.istore6 X dX5_planOn_78 ?_
        exact lp (2 * nE N1 + 1) 0 I (by omega) FM.rf rfl h55 hp
      · intro f27
        exact absurd (nI_le (by omega) (by omega)) f27
    first | refine AW.aload_n X dX5_planOn_0 rfl rfl ?_ | refine AW.aloadN_n X dX5_planOn_0 rfl rfl ?_
    first | refine AW.aload_n X dX5_planOn_1 rfl rfl ?_ | refine AW.aloadN_n X dX5_planOn_1 rfl rfl ?_
    refine AW.getI X f_X5_417_18 (by first | assumption | exact hT _ _ rfl) dX5_planOn_2 ?_
    rw [h55]
    refine AW.callV_r X (c_X5_priceOf hS0 hm0) (ci := 18) (q := (RX5, TX5, 74)) (by first | assumption | exact hT _ _ rfl) rfl s_X5_373_18 (by omega) (Nat.le_of_ble_eq_true rfl) rfl rfl (Nat.le_of_ble_eq_true rfl) dX5_planOn_5 ?_
    rw [← hpp]
    first | refine AW.aload_n X dX5_planOn_8 rfl rfl ?_ | refine AW.aloadN_n X dX5_planOn_8 rfl rfl ?_
    refine AW.getI X f_X5_420_18 (by first | assumption | exact hT _ _ rfl) dX5_planOn_9 ?_
    rw [hp.2.1]
    refine AW.icmp_lt X (tgt := 24) dX5_planOn_12 rfl ?_ ?_
    · intro t12
      have hc : ¬ (¬ st.1 = -1 ∧ st.1 ≤ p) := fun z => absurd z.2 (Int32.not_le.mpr t12)
      exact aft hc
    · intro f12
      first | refine AW.aload_n X dX5_planOn_15 rfl rfl ?_ | refine AW.aloadN_n X dX5_planOn_15 rfl rfl ?_
      refine AW.getI X f_X5_420_18 (by first | assumption | exact hT _ _ rfl) dX5_planOn_16 ?_
      rw [hp.2.1]
      refine AW.iconst X (v := -1) dX5_planOn_19 rfl ?_
      refine AW.icmp_eq X (tgt := 24) dX5_planOn_20 rfl ?_ ?_
      · intro t20
        have hc : ¬ (¬ st.1 = -1 ∧ st.1 ≤ p) := fun z => z.1 t20
        exact aft hc
      · intro f20
        refine AW.vreturn X E ?_ dX5_planOn_23
        exact ⟨rfl, rfl, rfl, rfl, FM.rf, rfl, h55, by rw [show plnF s o (j + 1) N1 cs h p st = st from if_pos ⟨f20, Int32.not_lt.mp f12⟩]; exact hp⟩
end MPL
