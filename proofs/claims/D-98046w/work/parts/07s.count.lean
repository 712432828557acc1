/-! 07s: count (written by src/gen07s.py and src/walk.py) -/
set_option maxRecDepth 100000
def countV (N : KI) (sh tp : Int32) (rf : Nat → Int32) (k : Nat) : Int32 := if 40 ≤ k then N 318 (k - 40) else if 20 ≤ k then N 319 (k - 20) else match k with
  | 0 => N 304 0
  | 1 => N 304 1
  | 2 => N 304 2
  | 3 => N 304 3
  | 4 => N 200 44
  | 5 => priceS N (nM N)
  | 6 => N 200 45
  | 7 => sh
  | 8 => tp
  | k => rf (k - 9)
def cntOK (k : Nat) : Prop := k ≤ 11 ∨ (20 ≤ k ∧ k ≤ 29) ∨ (40 ≤ k ∧ k ≤ 63)
section CO
variable {pb B : Nat} {T : KT} {I : KI} {R : KR} {J : KJ} {N N1 : KI}
theorem c_X1_count {k : Nat} (hX : XS pb T I R N) (hk : cntOK k) : MX1_count 8 0 [.ref 100, .int (nI k)] T I R J (qR (some (.int (countV N (I 101 5) (I 100 6) (I 114) k))) T I R J) noX := by
  have hX0 := hX
  obtain ⟨hT, hR, hP, hL, hN, hM, h20, hG⟩ := hX
  have hL0 := hL
  obtain ⟨l1, l2, l3, l4, l5, l6, l7, l8, l9, l10, l11, l12, l13, l14, l15, l16, l17⟩ := hL
  obtain ⟨⟨n1, n2, n3, n4, hnq, hne, hns, hnh⟩, -⟩ := id hN
  have pT0 := hP.T0
  have prQ := hP.rQ
  have prE := hP.rE
  have prS := hP.rS
  have prM := hP.rM
  have prW := hP.rW
  have prHd := hP.rHd
  have prHf := hP.rHf
  have prHt := hP.rHt
  have ptM := hP.tM
  have ptW := hP.tW
  have ptHd := hP.tHd
  have ptHf := hP.tHf
  have ptHt := hP.tHt
  have plQ := hP.lQ.tl
  have plE := hP.lE.tl
  have plS := hP.lS.tl
  have hm26 := hM.2.1
  have hk63 : k ≤ 63 := by unfold cntOK at hk; omega
  have wi : ∀ l m : Nat, l ≤ 63 → m ≤ 63 → ((nI l ≤ nI k ∧ nI k ≤ nI m) ↔ (l ≤ k ∧ k ≤ m)) := fun l m hl hm => by
    constructor
    · intro ⟨h1, h2⟩
      exact ⟨(nI_leI (by omega) (by omega)).mp h1, (nI_leI (by omega) (by omega)).mp h2⟩
    · intro ⟨h1, h2⟩
      exact ⟨nI_le h1 (by omega), nI_le h2 (by omega)⟩
  refine AMet.of (by decide) (Nat.le_of_ble_eq_true rfl) (cats1 rfl) fun cx X E => ?_
  show AW _ _ _ (_ :: _ :: _ :: _ :: []) _ _ _ _ _
  have aft : AW cx 0 40 [.ref 100, .int (nI k), .retAddr 0, .retAddr 0] [] T I R J := by
    have lp : k ≤ 11 → ∀ j m, m + j = nM N → AW cx 0 88 [.ref 100, .int (nI k), .int (priceS N m), .int (nI m)] [] T I R J := by
      intro hk11 j
      induction j with
      | zero =>
        intro m hm
        obtain rfl : m = nM N := by omega
        have hs : k = 0 ∨ k = 1 ∨ k = 2 ∨ k = 3 ∨ k = 4 ∨ k = 5 ∨ k = 6 ∨ k = 7 ∨ k = 8 ∨ k = 9 ∨ k = 10 ∨ k = 11 := by omega
        refine AW.iload_n X dX1_count_88 rfl rfl ?_
        first | refine AW.aload_n X dX1_count_89 rfl rfl ?_ | refine AW.aloadN_n X dX1_count_89 rfl rfl ?_
        refine AW.getR X f_X1_23_0 (by first | assumption | exact hT _ _ rfl) (by first | assumption | exact hR _ _ _ rfl) dX1_count_90 ?_
        refine AW.getI X f_X1_126_2 (by first | assumption | exact hT _ _ rfl) dX1_count_93 ?_
        rw [l15, hM.1]
        refine AW.icmp_ge X (tgt := 127) dX1_count_96 rfl ?_ ?_
        · intro t96
          refine AW.iload_n X dX1_count_127 rfl rfl ?_
          rcases hs with rfl | rfl | rfl | rfl | rfl | rfl | rfl | rfl | rfl | rfl | rfl | rfl
          · refine AW.swIn X (tgt := 180) dX1_count_128 (by decide) (by decide) rfl rfl ?_
            first | refine AW.aload_n X dX1_count_180 rfl rfl ?_ | refine AW.aloadN_n X dX1_count_180 rfl rfl ?_
            refine AW.getR X f_X1_23_0 (by first | assumption | exact hT _ _ rfl) (by first | assumption | exact hR _ _ _ rfl) dX1_count_181 ?_
            refine AW.getR X f_X1_65_2 (by first | assumption | exact hT _ _ rfl) (by first | assumption | exact hR _ _ _ rfl) dX1_count_184 ?_
            refine AW.getR X f_X1_69_3 (by first | assumption | exact hT _ _ rfl) (by first | assumption | exact hR _ _ _ rfl) dX1_count_187 ?_
            refine AW.callV_r X (hP.lQ.size) (ci := 19) (q := (RJ2, TJ2, 3)) (by first | assumption | exact hT _ _ rfl) rfl s_X1_75_19 (by omega) (Nat.le_of_ble_eq_true rfl) rfl rfl (Nat.le_of_ble_eq_true rfl) dX1_count_190 ?_
            refine AW.ireturn X E ?_ dX1_count_193 
            exact ⟨by rw [← n1]; rfl, rfl, rfl, rfl, rfl⟩
          · refine AW.swIn X (tgt := 194) dX1_count_128 (by decide) (by decide) rfl rfl ?_
            first | refine AW.aload_n X dX1_count_194 rfl rfl ?_ | refine AW.aloadN_n X dX1_count_194 rfl rfl ?_
            refine AW.getR X f_X1_23_0 (by first | assumption | exact hT _ _ rfl) (by first | assumption | exact hR _ _ _ rfl) dX1_count_195 ?_
            refine AW.getR X f_X1_65_2 (by first | assumption | exact hT _ _ rfl) (by first | assumption | exact hR _ _ _ rfl) dX1_count_198 ?_
            refine AW.getR X f_X1_87_3 (by first | assumption | exact hT _ _ rfl) (by first | assumption | exact hR _ _ _ rfl) dX1_count_201 ?_
            refine AW.callV_r X (hP.lE.size) (ci := 19) (q := (RJ2, TJ2, 3)) (by first | assumption | exact hT _ _ rfl) rfl s_X1_75_19 (by omega) (Nat.le_of_ble_eq_true rfl) rfl rfl (Nat.le_of_ble_eq_true rfl) dX1_count_204 ?_
            refine AW.ireturn X E ?_ dX1_count_207 
            exact ⟨by rw [← n2]; rfl, rfl, rfl, rfl, rfl⟩
          · refine AW.swIn X (tgt := 208) dX1_count_128 (by decide) (by decide) rfl rfl ?_
            first | refine AW.aload_n X dX1_count_208 rfl rfl ?_ | refine AW.aloadN_n X dX1_count_208 rfl rfl ?_
            refine AW.getR X f_X1_23_0 (by first | assumption | exact hT _ _ rfl) (by first | assumption | exact hR _ _ _ rfl) dX1_count_209 ?_
            refine AW.getR X f_X1_65_2 (by first | assumption | exact hT _ _ rfl) (by first | assumption | exact hR _ _ _ rfl) dX1_count_212 ?_
            refine AW.getR X f_X1_92_3 (by first | assumption | exact hT _ _ rfl) (by first | assumption | exact hR _ _ _ rfl) dX1_count_215 ?_
            refine AW.callV_r X (hP.lS.size) (ci := 19) (q := (RJ2, TJ2, 3)) (by first | assumption | exact hT _ _ rfl) rfl s_X1_75_19 (by omega) (Nat.le_of_ble_eq_true rfl) rfl rfl (Nat.le_of_ble_eq_true rfl) dX1_count_218 ?_
            refine AW.ireturn X E ?_ dX1_count_221 
            exact ⟨by rw [← n3]; rfl, rfl, rfl, rfl, rfl⟩
          · refine AW.swIn X (tgt := 222) dX1_count_128 (by decide) (by decide) rfl rfl ?_
            first | refine AW.aload_n X dX1_count_222 rfl rfl ?_ | refine AW.aloadN_n X dX1_count_222 rfl rfl ?_
            refine AW.getR X f_X1_23_0 (by first | assumption | exact hT _ _ rfl) (by first | assumption | exact hR _ _ _ rfl) dX1_count_223 ?_
            refine AW.getR X f_X1_65_2 (by first | assumption | exact hT _ _ rfl) (by first | assumption | exact hR _ _ _ rfl) dX1_count_226 ?_
            refine AW.getI X f_X1_155_3 (by first | assumption | exact hT _ _ rfl) dX1_count_229 ?_
            rw [hP.iH]
            exact AW.ireturn X E ⟨rfl, rfl, rfl, rfl, rfl⟩ dX1_count_232 
          · refine AW.swIn X (tgt := 233) dX1_count_128 (by decide) (by decide) rfl rfl ?_
            first | refine AW.aload_n X dX1_count_233 rfl rfl ?_ | refine AW.aloadN_n X dX1_count_233 rfl rfl ?_
            refine AW.getR X f_X1_23_0 (by first | assumption | exact hT _ _ rfl) (by first | assumption | exact hR _ _ _ rfl) dX1_count_234 ?_
            refine AW.getI X f_X1_126_2 (by first | assumption | exact hT _ _ rfl) dX1_count_237 ?_
            rw [l15]
            exact AW.ireturn X E ⟨rfl, rfl, rfl, rfl, rfl⟩ dX1_count_240 
          · refine AW.swIn X (tgt := 241) dX1_count_128 (by decide) (by decide) rfl rfl ?_
            refine AW.iload_n X dX1_count_241 rfl rfl ?_
            exact AW.ireturn X E ⟨rfl, rfl, rfl, rfl, rfl⟩ dX1_count_242 
          · refine AW.swIn X (tgt := 243) dX1_count_128 (by decide) (by decide) rfl rfl ?_
            first | refine AW.aload_n X dX1_count_243 rfl rfl ?_ | refine AW.aloadN_n X dX1_count_243 rfl rfl ?_
            refine AW.getR X f_X1_23_0 (by first | assumption | exact hT _ _ rfl) (by first | assumption | exact hR _ _ _ rfl) dX1_count_244 ?_
            refine AW.getI X f_X1_129_2 (by first | assumption | exact hT _ _ rfl) dX1_count_247 ?_
            rw [l16]
            exact AW.ireturn X E ⟨rfl, rfl, rfl, rfl, rfl⟩ dX1_count_250 
          · refine AW.swIn X (tgt := 251) dX1_count_128 (by decide) (by decide) rfl rfl ?_
            first | refine AW.aload_n X dX1_count_251 rfl rfl ?_ | refine AW.aloadN_n X dX1_count_251 rfl rfl ?_
            refine AW.getR X f_X1_10_0 (by first | assumption | exact hT _ _ rfl) (by first | assumption | exact hR _ _ _ rfl) dX1_count_252 ?_
            refine AW.getI X f_X1_135_1 (by first | assumption | exact hT _ _ rfl) dX1_count_255 ?_
            exact AW.ireturn X E ⟨rfl, rfl, rfl, rfl, rfl⟩ dX1_count_258 
          · refine AW.swIn X (tgt := 259) dX1_count_128 (by decide) (by decide) rfl rfl ?_
            first | refine AW.aload_n X dX1_count_259 rfl rfl ?_ | refine AW.aloadN_n X dX1_count_259 rfl rfl ?_
            refine AW.getI X f_X1_97_0 (by first | assumption | exact hT _ _ rfl) dX1_count_260 ?_
            exact AW.ireturn X E ⟨rfl, rfl, rfl, rfl, rfl⟩ dX1_count_263 
          · refine AW.swOut X (tgt := 264) dX1_count_128 (by decide) rfl ?_
            first | refine AW.aload_n X dX1_count_264 rfl rfl ?_ | refine AW.aloadN_n X dX1_count_264 rfl rfl ?_
            refine AW.getR X f_X1_10_0 (by first | assumption | exact hT _ _ rfl) (by first | assumption | exact hR _ _ _ rfl) dX1_count_265 ?_
            refine AW.getR X f_X1_120_1 (by first | assumption | exact hT _ _ rfl) (by first | assumption | exact hR _ _ _ rfl) dX1_count_268 ?_
            refine AW.iload_n X dX1_count_271 rfl rfl ?_
            refine AW.bipush X (v := 9) dX1_count_272 rfl ?_
            refine AW.isub X dX1_count_274 ?_
            rw [show nI 9 - 9 = nI 0 from by decide]
            refine AW.iald X (j := 0) (by first | assumption | exact hT _ _ rfl) (by repeat (first | with_reducible exact rfl | assumption | exact ix_l _ | apply ix_add | apply ix_mul)) (by omega) dX1_count_275 ?_
            exact AW.ireturn X E ⟨rfl, rfl, rfl, rfl, rfl⟩ dX1_count_276 
          · refine AW.swOut X (tgt := 264) dX1_count_128 (by decide) rfl ?_
            first | refine AW.aload_n X dX1_count_264 rfl rfl ?_ | refine AW.aloadN_n X dX1_count_264 rfl rfl ?_
            refine AW.getR X f_X1_10_0 (by first | assumption | exact hT _ _ rfl) (by first | assumption | exact hR _ _ _ rfl) dX1_count_265 ?_
            refine AW.getR X f_X1_120_1 (by first | assumption | exact hT _ _ rfl) (by first | assumption | exact hR _ _ _ rfl) dX1_count_268 ?_
            refine AW.iload_n X dX1_count_271 rfl rfl ?_
            refine AW.bipush X (v := 9) dX1_count_272 rfl ?_
            refine AW.isub X dX1_count_274 ?_
            rw [show nI 10 - 9 = nI 1 from by decide]
            refine AW.iald X (j := 1) (by first | assumption | exact hT _ _ rfl) (by repeat (first | with_reducible exact rfl | assumption | exact ix_l _ | apply ix_add | apply ix_mul)) (by omega) dX1_count_275 ?_
            exact AW.ireturn X E ⟨rfl, rfl, rfl, rfl, rfl⟩ dX1_count_276 
          · refine AW.swOut X (tgt := 264) dX1_count_128 (by decide) rfl ?_
            first | refine AW.aload_n X dX1_count_264 rfl rfl ?_ | refine AW.aloadN_n X dX1_count_264 rfl rfl ?_
            refine AW.getR X f_X1_10_0 (by first | assumption | exact hT _ _ rfl) (by first | assumption | exact hR _ _ _ rfl) dX1_count_265 ?_
            refine AW.getR X f_X1_120_1 (by first | assumption | exact hT _ _ rfl) (by first | assumption | exact hR _ _ _ rfl) dX1_count_268 ?_
            refine AW.iload_n X dX1_count_271 rfl rfl ?_
            refine AW.bipush X (v := 9) dX1_count_272 rfl ?_
            refine AW.isub X dX1_count_274 ?_
            rw [show nI 11 - 9 = nI 2 from by decide]
            refine AW.iald X (j := 2) (by first | assumption | exact hT _ _ rfl) (by repeat (first | with_reducible exact rfl | assumption | exact ix_l _ | apply ix_add | apply ix_mul)) (by omega) dX1_count_275 ?_
            exact AW.ireturn X E ⟨rfl, rfl, rfl, rfl, rfl⟩ dX1_count_276 
        · intro f96
          exact absurd (nI_le (by omega) (by omega)) f96
      | succ j ih =>
        intro m hm
        obtain ⟨c1, c2, c3⟩ := l17 m (by omega)
        refine AW.iload_n X dX1_count_88 rfl rfl ?_
        first | refine AW.aload_n X dX1_count_89 rfl rfl ?_ | refine AW.aloadN_n X dX1_count_89 rfl rfl ?_
        refine AW.getR X f_X1_23_0 (by first | assumption | exact hT _ _ rfl) (by first | assumption | exact hR _ _ _ rfl) dX1_count_90 ?_
        refine AW.getI X f_X1_126_2 (by first | assumption | exact hT _ _ rfl) dX1_count_93 ?_
        rw [l15, hM.1]
        refine AW.icmp_ge X (tgt := 127) dX1_count_96 rfl ?_ ?_
        · intro t96
          exact absurd t96 (nI_ge (by omega) (by omega))
        · intro f96
          refine AW.iload_n X dX1_count_99 rfl rfl ?_
          first | refine AW.aload_n X dX1_count_100 rfl rfl ?_ | refine AW.aloadN_n X dX1_count_100 rfl rfl ?_
          refine AW.getR X f_X1_23_0 (by first | assumption | exact hT _ _ rfl) (by first | assumption | exact hR _ _ _ rfl) dX1_count_101 ?_
          refine AW.getR X f_X1_65_2 (by first | assumption | exact hT _ _ rfl) (by first | assumption | exact hR _ _ _ rfl) dX1_count_104 ?_
          first | refine AW.aload_n X dX1_count_107 rfl rfl ?_ | refine AW.aloadN_n X dX1_count_107 rfl rfl ?_
          refine AW.getR X f_X1_23_0 (by first | assumption | exact hT _ _ rfl) (by first | assumption | exact hR _ _ _ rfl) dX1_count_108 ?_
          refine AW.getR X f_X1_148_2 (by first | assumption | exact hT _ _ rfl) (by first | assumption | exact hR _ _ _ rfl) dX1_count_111 ?_
          refine AW.iload_n X dX1_count_114 rfl rfl ?_
          refine AW.iald X (by first | assumption | exact hT _ _ rfl) (by repeat (first | with_reducible exact rfl | assumption | exact ix_l _ | apply ix_add | apply ix_mul)) (by omega) dX1_count_115 ?_
          rw [c3]
          refine AW.callV_r X (c_X4_price hP) (ci := 3) (q := (RX4, TX4, 11)) (by first | assumption | exact hT _ _ rfl) rfl s_X1_151_3 (by omega) (Nat.le_of_ble_eq_true rfl) rfl rfl (Nat.le_of_ble_eq_true rfl) dX1_count_116 ?_
          refine AW.iadd X dX1_count_119 ?_
          refine AW.istore2 X dX1_count_120 ?_
          refine AW.iinc3 X (v := _ + 1) dX1_count_121 rfl ?_
          refine AW.goto X (tgt := 88) dX1_count_124 rfl ?_
          rw [nI_1]; exact ih (m + 1) (by omega)
    by_cases h40 : 40 ≤ k
    · unfold countV at E
      rw [if_pos h40] at E
      refine AW.iload_n X dX1_count_40 rfl rfl ?_
      refine AW.bipush X (v := 40) dX1_count_41 rfl ?_
      refine AW.icmp_lt X (tgt := 62) dX1_count_43 rfl ?_ ?_
      · intro t43
        exact absurd t43 (Int32.not_lt.mpr (nI_le (a := 40) h40 (by omega)))
      · intro f43
        first | refine AW.aload_n X dX1_count_46 rfl rfl ?_ | refine AW.aloadN_n X dX1_count_46 rfl rfl ?_
        refine AW.getR X f_X1_23_0 (by first | assumption | exact hT _ _ rfl) (by first | assumption | exact hR _ _ _ rfl) dX1_count_47 ?_
        refine AW.getR X f_X1_65_2 (by first | assumption | exact hT _ _ rfl) (by first | assumption | exact hR _ _ _ rfl) dX1_count_50 ?_
        refine AW.getR X f_X1_142_3 (by first | assumption | exact hT _ _ rfl) (by first | assumption | exact hR _ _ _ rfl) dX1_count_53 ?_
        refine AW.iload_n X dX1_count_56 rfl rfl ?_
        refine AW.bipush X (v := 40) dX1_count_57 rfl ?_
        refine AW.isub X dX1_count_59 ?_
        rw [show nI k - 40 = nI (k - 40) from nI_sub (c := 40) h40]
        refine AW.iald X (j := k - 40) (by first | assumption | exact hT _ _ rfl) (by repeat (first | with_reducible exact rfl | assumption | exact ix_l _ | apply ix_add | apply ix_mul)) (by unfold cntOK at hk; omega) dX1_count_60 ?_
        rw [hP.moon (by unfold cntOK at hk; omega)]
        exact AW.ireturn X E ⟨rfl, rfl, rfl, rfl, rfl⟩ dX1_count_61 
    by_cases h20 : 20 ≤ k
    · unfold countV at E
      rw [if_neg h40, if_pos h20] at E
      refine AW.iload_n X dX1_count_40 rfl rfl ?_
      refine AW.bipush X (v := 40) dX1_count_41 rfl ?_
      refine AW.icmp_lt X (tgt := 62) dX1_count_43 rfl ?_ ?_
      · intro t43
        refine AW.iload_n X dX1_count_62 rfl rfl ?_
        refine AW.bipush X (v := 20) dX1_count_63 rfl ?_
        refine AW.icmp_lt X (tgt := 84) dX1_count_65 rfl ?_ ?_
        · intro t65
          exact absurd t65 (Int32.not_lt.mpr (nI_le (a := 20) h20 (by omega)))
        · intro f65
          first | refine AW.aload_n X dX1_count_68 rfl rfl ?_ | refine AW.aloadN_n X dX1_count_68 rfl rfl ?_
          refine AW.getR X f_X1_23_0 (by first | assumption | exact hT _ _ rfl) (by first | assumption | exact hR _ _ _ rfl) dX1_count_69 ?_
          refine AW.getR X f_X1_65_2 (by first | assumption | exact hT _ _ rfl) (by first | assumption | exact hR _ _ _ rfl) dX1_count_72 ?_
          refine AW.getR X f_X1_145_3 (by first | assumption | exact hT _ _ rfl) (by first | assumption | exact hR _ _ _ rfl) dX1_count_75 ?_
          refine AW.iload_n X dX1_count_78 rfl rfl ?_
          refine AW.bipush X (v := 20) dX1_count_79 rfl ?_
          refine AW.isub X dX1_count_81 ?_
          rw [show nI k - 20 = nI (k - 20) from nI_sub (c := 20) h20]
          refine AW.iald X (j := k - 20) (by first | assumption | exact hT _ _ rfl) (by repeat (first | with_reducible exact rfl | assumption | exact ix_l _ | apply ix_add | apply ix_mul)) (by unfold cntOK at hk; omega) dX1_count_82 ?_
          rw [hP.wgt (by unfold cntOK at hk; omega)]
          exact AW.ireturn X E ⟨rfl, rfl, rfl, rfl, rfl⟩ dX1_count_83 
      · intro f43
        exact absurd (nI_lt (b := 40) (by omega) (by omega)) f43
    · skip
      refine AW.iload_n X dX1_count_40 rfl rfl ?_
      refine AW.bipush X (v := 40) dX1_count_41 rfl ?_
      refine AW.icmp_lt X (tgt := 62) dX1_count_43 rfl ?_ ?_
      · intro t43
        refine AW.iload_n X dX1_count_62 rfl rfl ?_
        refine AW.bipush X (v := 20) dX1_count_63 rfl ?_
        refine AW.icmp_lt X (tgt := 84) dX1_count_65 rfl ?_ ?_
        · intro t65
          refine AW.iconst X (v := 0) dX1_count_84 rfl ?_
          refine AW.istore2 X dX1_count_85 ?_
          refine AW.iconst X (v := 0) dX1_count_86 rfl ?_
          refine AW.istore3 X dX1_count_87 ?_
          exact lp (by unfold cntOK at hk; omega) (nM N) 0 (by omega)
        · intro f65
          exact absurd (nI_lt (b := 20) (by omega) (by omega)) f65
      · intro f43
        exact absurd (nI_lt (b := 40) (by omega) (by omega)) f43
  refine AW.iload_n X dX1_count_0 rfl rfl ?_
  refine AW.iconst X (v := 0) dX1_count_1 rfl ?_
  refine AW.bipush X (v := 11) dX1_count_2 rfl ?_
  refine AW.callS_r X (c_X1_within (nI k) 0 11) s_X1_57 (by omega) (Nat.le_of_ble_eq_true rfl) rfl rfl (Nat.le_of_ble_eq_true rfl) dX1_count_4 ?_
  refine AW.if_ne X (tgt := 32) dX1_count_7 rfl ?_ ?_
  · intro t7
    refine AW.iconst X (v := 1) dX1_count_32 rfl ?_
    refine AW.goto X (tgt := 37) dX1_count_33 rfl ?_
    refine AW.callS_r X (c_X1_there_ok (by decide)) s_X1_61 (by omega) (Nat.le_of_ble_eq_true rfl) rfl rfl (Nat.le_of_ble_eq_true rfl) dX1_count_37 ?_
    exact aft
  · intro f7
    refine AW.iload_n X dX1_count_10 rfl rfl ?_
    refine AW.bipush X (v := 20) dX1_count_11 rfl ?_
    refine AW.bipush X (v := 29) dX1_count_13 rfl ?_
    refine AW.callS_r X (c_X1_within (nI k) 20 29) s_X1_57 (by omega) (Nat.le_of_ble_eq_true rfl) rfl rfl (Nat.le_of_ble_eq_true rfl) dX1_count_15 ?_
    refine AW.if_ne X (tgt := 32) dX1_count_18 rfl ?_ ?_
    · intro t18
      refine AW.iconst X (v := 1) dX1_count_32 rfl ?_
      refine AW.goto X (tgt := 37) dX1_count_33 rfl ?_
      refine AW.callS_r X (c_X1_there_ok (by decide)) s_X1_61 (by omega) (Nat.le_of_ble_eq_true rfl) rfl rfl (Nat.le_of_ble_eq_true rfl) dX1_count_37 ?_
      exact aft
    · intro f18
      refine AW.iload_n X dX1_count_21 rfl rfl ?_
      refine AW.bipush X (v := 40) dX1_count_22 rfl ?_
      refine AW.bipush X (v := 63) dX1_count_24 rfl ?_
      refine AW.callS_r X (c_X1_within (nI k) 40 63) s_X1_57 (by omega) (Nat.le_of_ble_eq_true rfl) rfl rfl (Nat.le_of_ble_eq_true rfl) dX1_count_26 ?_
      refine AW.if_eq X (tgt := 36) dX1_count_29 rfl ?_ ?_
      · intro t29
        exact absurd hk (by
            have e1 := mt (wi 0 11 (by omega) (by omega)).mpr (bI_z.mp f7)
            have e2 := mt (wi 20 29 (by omega) (by omega)).mpr (bI_z.mp f18)
            have e3 := mt (wi 40 63 (by omega) (by omega)).mpr (bI_z.mp t29)
            unfold cntOK; omega)
      · intro f29
        refine AW.iconst X (v := 1) dX1_count_32 rfl ?_
        refine AW.goto X (tgt := 37) dX1_count_33 rfl ?_
        refine AW.callS_r X (c_X1_there_ok (by decide)) s_X1_61 (by omega) (Nat.le_of_ble_eq_true rfl) rfl rfl (Nat.le_of_ble_eq_true rfl) dX1_count_37 ?_
        exact aft
theorem c_X1_count_bad {w : Int32} (hX : XS pb T I R N) (h1 : 100 ≤ B) (h0 : (T B).1 = 0) (hb : ¬ (0 ≤ w ∧ w ≤ 11) ∧ ¬ (20 ≤ w ∧ w ≤ 29) ∧ ¬ (40 ≤ w ∧ w ≤ 63)) : MX1_count 8 2 [.ref 100, .int w] T I R J noQ (qX 22 B T I R J) := by
  refine AMet.of (by decide) (Nat.le_of_ble_eq_true rfl) (cats1 rfl) fun cx X E => ?_
  show AW _ _ _ (_ :: _ :: _ :: _ :: []) _ _ _ _ _
  refine AW.iload_n X dX1_count_0 rfl rfl ?_
  refine AW.iconst X (v := 0) dX1_count_1 rfl ?_
  refine AW.bipush X (v := 11) dX1_count_2 rfl ?_
  refine AW.callS_r X (c_X1_within w 0 11) s_X1_57 (by omega) (Nat.le_of_ble_eq_true rfl) rfl rfl (Nat.le_of_ble_eq_true rfl) dX1_count_4 ?_
  refine AW.if_ne X (tgt := 32) dX1_count_7 rfl ?_ ?_
  · intro t7
    exact absurd (bI_f hb.1) t7
  · intro f7
    refine AW.iload_n X dX1_count_10 rfl rfl ?_
    refine AW.bipush X (v := 20) dX1_count_11 rfl ?_
    refine AW.bipush X (v := 29) dX1_count_13 rfl ?_
    refine AW.callS_r X (c_X1_within w 20 29) s_X1_57 (by omega) (Nat.le_of_ble_eq_true rfl) rfl rfl (Nat.le_of_ble_eq_true rfl) dX1_count_15 ?_
    refine AW.if_ne X (tgt := 32) dX1_count_18 rfl ?_ ?_
    · intro t18
      exact absurd (bI_f hb.2.1) t18
    · intro f18
      refine AW.iload_n X dX1_count_21 rfl rfl ?_
      refine AW.bipush X (v := 40) dX1_count_22 rfl ?_
      refine AW.bipush X (v := 63) dX1_count_24 rfl ?_
      refine AW.callS_r X (c_X1_within w 40 63) s_X1_57 (by omega) (Nat.le_of_ble_eq_true rfl) rfl rfl (Nat.le_of_ble_eq_true rfl) dX1_count_26 ?_
      refine AW.if_eq X (tgt := 36) dX1_count_29 rfl ?_ ?_
      · intro t29
        refine AW.iconst X (v := 0) dX1_count_36 rfl ?_
        exact AW.callS (b := 0) (bc := 2) X (c_X1_there_bad h1 h0) s_X1_61 (by omega) (Nat.le_of_ble_eq_true rfl) rfl rfl (Nat.le_of_ble_eq_true rfl) dX1_count_37 (fun _ _ _ _ _ h => h.elim) (AX.thru X E (by omega) rfl (fun _ h => nomatch h))
      · intro f29
        exact absurd (bI_f hb.2.2) f29
end CO
