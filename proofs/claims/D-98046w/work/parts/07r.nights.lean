/-! 07r: nights (written by src/gen07r.py and src/walk.py) -/
set_option maxRecDepth 100000
theorem and_nI (y : Int32) {m : Nat} (hm : m < 2 ^ 31) : ∃ v, v ≤ m ∧ y &&& nI m = nI v := by
  refine ⟨y.toBitVec.toNat &&& m, Nat.and_le_right, ?_⟩
  apply Int32.toBitVec_inj.mp
  apply BitVec.eq_of_toNat_eq
  have h1 : (y.toBitVec.toNat &&& m) ≤ m := Nat.and_le_right
  show (y.toBitVec &&& BitVec.ofNat 32 m).toNat = (BitVec.ofNat 32 (y.toBitVec.toNat &&& m)).toNat
  rw [BitVec.toNat_and, BitVec.toNat_ofNat, BitVec.toNat_ofNat, Nat.mod_eq_of_lt (by omega), Nat.mod_eq_of_lt (by omega)]
def lcg (v : Int32) : Int32 := v * 1103515245 + 12345
def lft (v all : Int32) : Int32 := (v >>> ((16 : Int32) &&& 31) &&& 32767) - (v >>> ((16 : Int32) &&& 31) &&& 32767) / all * all
def pkc (N : KI) : Nat → Nat → Int32 → Nat
  | 0, k, _ => k
  | j + 1, k, l => if N 319 k ≤ l then pkc N j (k + 1) (l - N 319 k) else k
def nst (N : KI) (s : Nat) (seed : Int32) : Nat → Int32 × Int32
  | 0 => (seed, 0)
  | i + 1 => if sumW N 10 ≤ 0 then ((nst N s seed i).1, if nEnd (coldN N (nI 0)) s = 1 then (nst N s seed i).2 + 1 else (nst N s seed i).2)
    else (lcg (nst N s seed i).1, if nEnd (coldN N (nI (pkc N 10 0 (lft (lcg (nst N s seed i).1) (sumW N 10))))) s = 1 then (nst N s seed i).2 + 1 else (nst N s seed i).2)
section NI
variable {pb B : Nat} {T : KT} {I : KI} {R : KR} {J : KJ} {N N1 : KI}
theorem c_X1_nights {s n : Nat} {seed : Int32} (hX : XS pb T I R N) (hs : s < nS N) (hn : n ≤ 60) : MX1_nights 10 0 [.ref 100, .int (nI s), .int seed, .int (nI n)] T I R J (fun r T' I' R' J' => r = some (.int (nst N s seed n).2) ∧ T' = T ∧ J' = J ∧ (∀ a, a ≠ 105 → R' a = R a) ∧ XS pb T I' R' N ∧ FT I I') noX := by
  have hX0 := hX
  obtain ⟨hT, hR, hP, hL, hN, hM, h20, hG⟩ := hX
  have hL0 := hL
  obtain ⟨l1, l2, l3, l4, l5, l6, l7, l8, l9, l10, l11, l12, l13, l14, l15, l16, l17⟩ := hL
  obtain ⟨⟨n1, n2, n3, n4, hnq, hne, hns, hnh⟩, -⟩ := id hN
  have pT0 := hP.T0
  have prQ := hP.rQ
  have prE := hP.rE
  have prS := hP.rS
  have prM := hP.rM
  have prW := hP.rW
  have prHd := hP.rHd
  have prHf := hP.rHf
  have prHt := hP.rHt
  have ptM := hP.tM
  have ptW := hP.tW
  have ptHd := hP.tHd
  have ptHf := hP.tHf
  have ptHt := hP.tHt
  have plQ := hP.lQ.tl
  have plE := hP.lE.tl
  have plS := hP.lS.tl
  obtain ⟨hw1, hw2⟩ := wN_b hN 10 (by omega)
  refine AMet.of (by decide) (Nat.le_of_ble_eq_true rfl) (cats1 rfl) fun cx X E => ?_
  show AW _ _ _ (_ :: _ :: _ :: _ :: _ :: _ :: _ :: _ :: _ :: _ :: _ :: []) _ _ _ _ _
  have lp : ∀ j i (I' : KI) (R' : KR) (v9 v10 : Value), i + j = n → (∀ a, a ≠ 105 → R' a = R a) → XS pb T I' R' N → FT I I' → TS pb T I' R' (coldN N (I' 105 2)) → AW cx 0 49 [.ref 100, .int (nI s), .int seed, .int (nI n), .ref (pb + 140 + s), .int (nst N s seed i).1, .int (sumW N 10), .int (nst N s seed i).2, .int (nI i), v9, v10] [] T I' R' J := by
    intro j
    induction j with
    | zero =>
      intro i I' R' v9 v10 hk hr hx hf ht
      obtain rfl : i = n := by omega
      refine AW.iload X dX1_nights_49 rfl ?_
      refine AW.iload_n X dX1_nights_51 rfl rfl ?_
      refine AW.icmp_ge X (tgt := 169) dX1_nights_52 rfl ?_ ?_
      · intro t52
        refine AW.iload X dX1_nights_169 rfl ?_
        refine AW.ireturn X E ?_ dX1_nights_171 
        exact ⟨rfl, rfl, rfl, hr, hx, hf⟩
      · intro f52
        exact absurd (Int32.le_refl _) f52
    | succ j ih =>
      intro i I' R' v9 v10 hk hr hx hf ht
      obtain ⟨hT, hR, hP', -⟩ := id hx
      have l2' := hx.2.2.2.1.2.1
      have pW := hP'.rW
      have ptW' := hP'.tW
      have pT0' := hP'.T0
      have fin : ∀ k (p1 : Int32) (v10 : Value), k < 10 → nst N s seed (i + 1) = (p1, if nEnd (coldN N (nI k)) s = 1 then (nst N s seed i).2 + 1 else (nst N s seed i).2) → AW cx 0 131 [.ref 100, .int (nI s), .int seed, .int (nI n), .ref (pb + 140 + s), .int p1, .int (sumW N 10), .int (nst N s seed i).2, .int (nI i), .int (nI k), v10] [] T I' R' J := by
        intro k p1 v10 hk10 hst
        have hT2 := (ht.cold (c := k) (by omega))
        rw [coldN2] at hT2
        have hs2 : s < nS (coldN N (nI k)) := by rw [show nS (coldN N (nI k)) = nS N from nat_eq (coldN_P 304 (by omega))]; exact hs
        have nx : ∀ (I2 : KI), FT I' I2 → I2 105 2 = nI k → TS pb T I2 R' (coldN N (nI k)) → AW cx 0 49 [.ref 100, .int (nI s), .int seed, .int (nI n), .ref (pb + 140 + s), .int (nst N s seed (i + 1)).1, .int (sumW N 10), .int (nst N s seed (i + 1)).2, .int (nI (i + 1)), .int (nI k), v10] [] T I2 R' J := fun I2 h2 h3 h4 => ih (i + 1) I2 R' _ _ (by omega) hr (hx.ft h2) (hf.tr h2) (by rw [h3]; exact h4)
        rw [hst] at nx
        first | refine AW.aload_n X dX1_nights_131 rfl rfl ?_ | refine AW.aloadN_n X dX1_nights_131 rfl rfl ?_
        refine AW.getR X f_X1_27_0 (by first | assumption | exact hT _ _ rfl) (by first | assumption | exact hR _ _ _ rfl) dX1_nights_132 ?_
        refine AW.iload X dX1_nights_135 rfl ?_
        refine AW.putI X g_X1_nights_129_2 (by omega) (by first | assumption | exact hT _ _ rfl) dX1_nights_137 ?_ 
        first | refine AW.aload_n X dX1_nights_140 rfl rfl ?_ | refine AW.aloadN_n X dX1_nights_140 rfl rfl ?_
        refine AW.getR X f_X1_27_0 (by first | assumption | exact hT _ _ rfl) (by first | assumption | exact hR _ _ _ rfl) dX1_nights_141 ?_
        refine AW.callV_i X (hT2.shines) (ci := 2) (q := (RX3, TX3, 9)) (by first | assumption | exact hT _ _ rfl) rfl s_X1_132_2 (by omega) (Nat.le_of_ble_eq_true rfl) rfl rfl (Nat.le_of_ble_eq_true rfl) dX1_nights_144 ?_
        intro r144 I144 h144
        obtain ⟨rfl, g1, g2⟩ := h144
        have hT3 := hT2.sh g1
        have hN3 := nx I144 (ft_cold.tr g1.ft) (by rw [g1 105 (by decide) (by decide) (by decide), w2_s]) hT3
        unfold nEnd at hN3
        first | refine AW.aload_n X dX1_nights_147 rfl rfl ?_ | refine AW.aloadN_n X dX1_nights_147 rfl rfl ?_
        refine AW.getR X f_X1_27_0 (by first | assumption | exact hT _ _ rfl) (by first | assumption | exact hR _ _ _ rfl) dX1_nights_148 ?_
        first | refine AW.aload X dX1_nights_151 rfl ?_ | refine AW.aloadN X dX1_nights_151 rfl ?_
        refine AW.callV_r X (hT3.end g2 hs2) (ci := 2) (q := (RX3, TX3, 9)) (by first | assumption | exact hT _ _ rfl) rfl s_X1_240_2 (by omega) (Nat.le_of_ble_eq_true rfl) rfl rfl (Nat.le_of_ble_eq_true rfl) dX1_nights_153 ?_
        refine AW.iconst X (v := 1) dX1_nights_156 rfl ?_
        refine AW.icmp_ne X (tgt := 163) dX1_nights_157 rfl ?_ ?_
        · intro t157
          rw [if_neg (fun hc => t157 (congrArg nI hc))] at hN3
          refine AW.iinc8 X (v := _ + 1) dX1_nights_163 rfl ?_
          refine AW.goto X (tgt := 49) dX1_nights_166 rfl ?_
          rw [nI_1]; exact hN3
        · intro f157
          rw [if_pos ((nI_eq (b := 1) (by have := endK_le (coldN N (nI k)) (posAt (coldN N (nI k)) (Lig (coldN N (nI k))) (hRow (coldN N (nI k))) s 24); omega) (by omega)).mp f157)] at hN3
          refine AW.iinc7 X (v := _ + 1) dX1_nights_160 rfl ?_
          refine AW.iinc8 X (v := _ + 1) dX1_nights_163 rfl ?_
          refine AW.goto X (tgt := 49) dX1_nights_166 rfl ?_
          rw [nI_1]; exact hN3
      have pick : ¬ sumW N 10 ≤ 0 → ∀ j k l, k + j = 10 → l + wN N k < wN N 10 → pkc N j k (nI l) = pkc N 10 0 (lft (lcg (nst N s seed i).1) (sumW N 10)) → AW cx 0 89 [.ref 100, .int (nI s), .int seed, .int (nI n), .ref (pb + 140 + s), .int (lcg (nst N s seed i).1), .int (sumW N 10), .int (nst N s seed i).2, .int (nI i), .int (nI k), .int (nI l)] [] T I' R' J := by
        intro hall j
        have hst0 : nst N s seed (i + 1) = (lcg (nst N s seed i).1, if nEnd (coldN N (nI (pkc N 10 0 (lft (lcg (nst N s seed i).1) (sumW N 10))))) s = 1 then (nst N s seed i).2 + 1 else (nst N s seed i).2) := if_neg hall
        induction j with
        | zero =>
          intro k l hk hl
          obtain rfl : k = 10 := by omega
          omega
        | succ j ih2 =>
          intro k l hk hl hp
          obtain ⟨e1, e2⟩ := hN.2.2.2.2.2.1 k (by omega)
          have hst : pkc N (j + 1) k (nI l) = if N 319 k ≤ nI l then pkc N j (k + 1) (nI l - N 319 k) else k := rfl
          have hw3 : wN N (k + 1) = wN N k + nat N 319 k := rfl
          refine AW.iload X dX1_nights_89 rfl ?_
          first | refine AW.aload_n X dX1_nights_91 rfl rfl ?_ | refine AW.aloadN_n X dX1_nights_91 rfl rfl ?_
          refine AW.getR X f_X1_23_0 (by first | assumption | exact hT _ _ rfl) (by first | assumption | exact hR _ _ _ rfl) dX1_nights_92 ?_
          refine AW.getR X f_X1_65_2 (by first | assumption | exact hT _ _ rfl) (by first | assumption | exact hR _ _ _ rfl) dX1_nights_95 ?_
          refine AW.getR X f_X1_145_3 (by first | assumption | exact hT _ _ rfl) (by first | assumption | exact hR _ _ _ rfl) dX1_nights_98 ?_
          refine AW.iload X dX1_nights_101 rfl ?_
          refine AW.iald X (by first | assumption | exact hT _ _ rfl) (by repeat (first | with_reducible exact rfl | assumption | exact ix_l _ | apply ix_add | apply ix_mul)) (by omega) dX1_nights_103 ?_
          rw [hP'.wgt (by omega)]
          refine AW.icmp_lt X (tgt := 131) dX1_nights_104 rfl ?_ ?_
          · intro t104
            rw [if_neg (Int32.not_le.mpr t104)] at hst
            exact fin k _ _ (by omega) (by rw [hst0, ← hp, hst])
          · intro f104
            have hle := Int32.not_lt.mp f104
            rw [if_pos hle, e1] at hst
            rw [e1] at hle
            have hle2 := (nI_leI (by omega) (by omega)).mp hle
            rw [nI_sub hle2] at hst
            refine AW.iload X dX1_nights_107 rfl ?_
            first | refine AW.aload_n X dX1_nights_109 rfl rfl ?_ | refine AW.aloadN_n X dX1_nights_109 rfl rfl ?_
            refine AW.getR X f_X1_23_0 (by first | assumption | exact hT _ _ rfl) (by first | assumption | exact hR _ _ _ rfl) dX1_nights_110 ?_
            refine AW.getR X f_X1_65_2 (by first | assumption | exact hT _ _ rfl) (by first | assumption | exact hR _ _ _ rfl) dX1_nights_113 ?_
            refine AW.getR X f_X1_145_3 (by first | assumption | exact hT _ _ rfl) (by first | assumption | exact hR _ _ _ rfl) dX1_nights_116 ?_
            refine AW.iload X dX1_nights_119 rfl ?_
            refine AW.iald X (by first | assumption | exact hT _ _ rfl) (by repeat (first | with_reducible exact rfl | assumption | exact ix_l _ | apply ix_add | apply ix_mul)) (by omega) dX1_nights_121 ?_
            rw [hP'.wgt (by omega)]
            refine AW.isub X dX1_nights_122 ?_
            rw [e1, nI_sub hle2]
            refine AW.istore10 X dX1_nights_123 ?_
            refine AW.iinc9 X (v := _ + 1) dX1_nights_125 rfl ?_
            refine AW.goto X (tgt := 89) dX1_nights_128 rfl ?_
            rw [nI_1]; exact ih2 (k + 1) (l - nat N 319 k) (by omega) (by omega) (by rw [← hst]; exact hp)
      refine AW.iload X dX1_nights_49 rfl ?_
      refine AW.iload_n X dX1_nights_51 rfl rfl ?_
      refine AW.icmp_ge X (tgt := 169) dX1_nights_52 rfl ?_ ?_
      · intro t52
        exact absurd t52 (nI_ge (by omega) (by omega))
      · intro f52
        refine AW.iconst X (v := 0) dX1_nights_55 rfl ?_
        refine AW.istore9 X dX1_nights_56 ?_
        refine AW.iload X dX1_nights_58 rfl ?_
        refine AW.if_le X (tgt := 131) dX1_nights_60 rfl ?_ ?_
        · intro t60
          have hst0 : nst N s seed (i + 1) = ((nst N s seed i).1, if nEnd (coldN N (nI 0)) s = 1 then (nst N s seed i).2 + 1 else (nst N s seed i).2) := if_pos t60
          exact fin 0 _ _ (by omega) hst0
        · intro f60
          have hall0 : ¬ wN N 10 = 0 := fun hc => f60 (by rw [hw1, hc]; exact Int32.le_refl _)
          refine AW.iload X dX1_nights_63 rfl ?_
          refine AW.ldcw X (idx := 301) q1573 dX1_nights_65 ?_
          refine AW.imul X dX1_nights_68 ?_
          refine AW.sipush X (v := 12345) dX1_nights_69 rfl ?_
          refine AW.iadd X dX1_nights_72 ?_
          refine AW.istore5 X dX1_nights_73 ?_
          refine AW.iload X dX1_nights_75 rfl ?_
          refine AW.bipush X (v := 16) dX1_nights_77 rfl ?_
          refine AW.ishr X dX1_nights_79 ?_
          refine AW.sipush X (v := 32767) dX1_nights_80 rfl ?_
          refine AW.iand X dX1_nights_83 ?_
          refine AW.iload X dX1_nights_84 rfl ?_
          refine AW.irem X dX1_nights_86 (by rw [hw1]; exact nI_ne0 (by omega) (by omega)) ?_
          obtain ⟨x, hx32, hxx⟩ := and_nI (lcg (nst N s seed i).1 >>> ((16 : Int32) &&& 31)) (m := 32767) (by omega)
          have hlf : lft (lcg (nst N s seed i).1) (sumW N 10) = nI (x % wN N 10) := by
            unfold lft
            rw [show (32767 : Int32) = nI 32767 from rfl, hxx, hw1, nI_rem (by omega) (by omega)]
          have hlt := Nat.mod_lt x (Nat.pos_of_ne_zero hall0)
          show AW cx 0 _ [.ref 100, .int (nI s), .int seed, .int (nI n), .ref (pb + 140 + s), .int (lcg (nst N s seed i).1), .int (sumW N 10), .int (nst N s seed i).2, .int (nI i), .int (nI 0), v10] [.int (lft (lcg (nst N s seed i).1) (sumW N 10))] T I' R' J
          rw [hlf]
          refine AW.istore10 X dX1_nights_87 ?_
          exact pick f60 10 0 (x % wN N 10) rfl (by show x % wN N 10 + 0 < _; omega) (by rw [hlf])
  first | refine AW.aload_n X dX1_nights_0 rfl rfl ?_ | refine AW.aloadN_n X dX1_nights_0 rfl rfl ?_
  refine AW.iload_n X dX1_nights_1 rfl rfl ?_
  refine AW.callV_r X (c_X1_shipAt_ok hX0 hs) (ci := 0) (q := (RX1, TX1, 14)) (by first | assumption | exact hT _ _ rfl) rfl s_X1_189_0 (by omega) (Nat.le_of_ble_eq_true rfl) rfl rfl (Nat.le_of_ble_eq_true rfl) dX1_nights_2 ?_
  first | refine AW.astore4 X dX1_nights_5 ?_ | refine AW.astoreN4 X dX1_nights_5 ?_
  refine AW.iload_n X dX1_nights_7 rfl rfl ?_
  refine AW.iconst X (v := 0) dX1_nights_8 rfl ?_
  refine AW.bipush X (v := 60) dX1_nights_9 rfl ?_
  refine AW.callS_r X (c_X1_within (nI n) 0 60) s_X1_57 (by omega) (Nat.le_of_ble_eq_true rfl) rfl rfl (Nat.le_of_ble_eq_true rfl) dX1_nights_11 ?_
  refine AW.callS_r X (c_X1_right_ok (by rw [bI_t ⟨nI_pos' (by omega), nI_le (b := 60) hn (by omega)⟩]; decide)) s_X1_104 (by omega) (Nat.le_of_ble_eq_true rfl) rfl rfl (Nat.le_of_ble_eq_true rfl) dX1_nights_14 ?_
  refine AW.iload_n X dX1_nights_17 rfl rfl ?_
  refine AW.istore5 X dX1_nights_18 ?_
  first | refine AW.aload_n X dX1_nights_20 rfl rfl ?_ | refine AW.aloadN_n X dX1_nights_20 rfl rfl ?_
  refine AW.getR X f_X1_23_0 (by first | assumption | exact hT _ _ rfl) (by first | assumption | exact hR _ _ _ rfl) dX1_nights_21 ?_
  refine AW.getR X f_X1_65_2 (by first | assumption | exact hT _ _ rfl) (by first | assumption | exact hR _ _ _ rfl) dX1_nights_24 ?_
  refine AW.callV_r X (c_X4_weights hP) (ci := 3) (q := (RX4, TX4, 11)) (by first | assumption | exact hT _ _ rfl) rfl s_X1_261_3 (by omega) (Nat.le_of_ble_eq_true rfl) rfl rfl (Nat.le_of_ble_eq_true rfl) dX1_nights_27 ?_
  refine AW.istore6 X dX1_nights_30 ?_
  refine AW.iconst X (v := 0) dX1_nights_32 rfl ?_
  refine AW.istore7 X dX1_nights_33 ?_
  first | refine AW.aload_n X dX1_nights_35 rfl rfl ?_ | refine AW.aloadN_n X dX1_nights_35 rfl rfl ?_
  refine AW.getR X f_X1_27_0 (by first | assumption | exact hT _ _ rfl) (by first | assumption | exact hR _ _ _ rfl) dX1_nights_36 ?_
  first | refine AW.aload_n X dX1_nights_39 rfl rfl ?_ | refine AW.aloadN_n X dX1_nights_39 rfl rfl ?_
  refine AW.getR X f_X1_23_0 (by first | assumption | exact hT _ _ rfl) (by first | assumption | exact hR _ _ _ rfl) dX1_nights_40 ?_
  refine AW.callV_0 X (c_X3_like (la := 105) (lb := 103) hT hR (by omega) (by omega) (by omega) hL0 (by omega)) (ci := 2) (q := (RX3, TX3, 9)) (by first | assumption | exact hT _ _ rfl) rfl s_X1_257_2 (by omega) (Nat.le_of_ble_eq_true rfl) rfl rfl (Nat.le_of_ble_eq_true rfl) dX1_nights_43 ?_ ?_
  rotate_left
  · intro _ _ _ _ _ h; exact h.elim
  intro r43 T43 I43 R43 J43 h43
  obtain ⟨rfl, rfl, rfl, rfl, g1, g2⟩ := h43
  have hf : FT I I43 := fun a a1 a2 => g1 a a1 (by unfold lA; omega) (by unfold lA; omega) (by unfold lA; omega)
  refine AW.iconst X (v := 0) dX1_nights_46 rfl ?_
  refine AW.istore8 X dX1_nights_47 ?_
  refine lp n 0 I43 _ _ _ (by omega) (fun a ha => w2_r ha) ((hX0.ft hf).wR pb) hf ?_
  have h45 : coldN N (I43 105 2) = N := by
    rw [g2.2.2.2.2.2.2.2.2.2.2.2.2.2.2.2.1]
    funext x k
    unfold coldN w2 row
    by_cases hx : x = 200
    · subst hx
      by_cases hk : k = 45 <;> simp [hk]
    · simp [hx]
  rw [h45]
  exact TS.of ((hX0.ft hf).wR pb) g2 (fun _ _ _ => rfl) hM
theorem c_X1_nights_bad1 {e seed n : Int32} (hX : XS pb T I R N) (h1 : 100 ≤ B) (h0 : (T B).1 = 0) (hb : ¬ (0 ≤ e ∧ e < nI (nS N))) : MX1_nights 10 2 [.ref 100, .int e, .int seed, .int n] T I R J noQ (qX 22 B T I R J) := by
  have hX0 := hX
  obtain ⟨hT, hR, hP, hL, hN, hM, h20, hG⟩ := hX
  have hL0 := hL
  obtain ⟨l1, l2, l3, l4, l5, l6, l7, l8, l9, l10, l11, l12, l13, l14, l15, l16, l17⟩ := hL
  obtain ⟨⟨n1, n2, n3, n4, hnq, hne, hns, hnh⟩, -⟩ := id hN
  have pT0 := hP.T0
  have prQ := hP.rQ
  have prE := hP.rE
  have prS := hP.rS
  have prM := hP.rM
  have prW := hP.rW
  have prHd := hP.rHd
  have prHf := hP.rHf
  have prHt := hP.rHt
  have ptM := hP.tM
  have ptW := hP.tW
  have ptHd := hP.tHd
  have ptHf := hP.tHf
  have ptHt := hP.tHt
  have plQ := hP.lQ.tl
  have plE := hP.lE.tl
  have plS := hP.lS.tl
  refine AMet.of (by decide) (Nat.le_of_ble_eq_true rfl) (cats1 rfl) fun cx X E => ?_
  show AW _ _ _ (_ :: _ :: _ :: _ :: _ :: _ :: _ :: _ :: _ :: _ :: _ :: []) _ _ _ _ _
  first | refine AW.aload_n X dX1_nights_0 rfl rfl ?_ | refine AW.aloadN_n X dX1_nights_0 rfl rfl ?_
  refine AW.iload_n X dX1_nights_1 rfl rfl ?_
  exact AW.callV (b := 0) (bc := 2) X (c_X1_shipAt_bad hX0 h1 h0 hb) (ci := 0) (q := (RX1, TX1, 14)) (by first | assumption | exact hT _ _ rfl) rfl s_X1_189_0 (by omega) (Nat.le_of_ble_eq_true rfl) rfl rfl (Nat.le_of_ble_eq_true rfl) dX1_nights_2 (fun _ _ _ _ _ h => h.elim) (AX.thru X E (by omega) rfl (fun _ h => nomatch h))
theorem c_X1_nights_bad2 {s : Nat} {seed n : Int32} (hX : XS pb T I R N) (h1 : 100 ≤ B) (h0 : (T B).1 = 0) (hs : s < nS N) (hb : ¬ (0 ≤ n ∧ n ≤ 60)) : MX1_nights 10 2 [.ref 100, .int (nI s), .int seed, .int n] T I R J noQ (qX 23 B T I R J) := by
  have hX0 := hX
  obtain ⟨hT, hR, hP, hL, hN, hM, h20, hG⟩ := hX
  have hL0 := hL
  obtain ⟨l1, l2, l3, l4, l5, l6, l7, l8, l9, l10, l11, l12, l13, l14, l15, l16, l17⟩ := hL
  obtain ⟨⟨n1, n2, n3, n4, hnq, hne, hns, hnh⟩, -⟩ := id hN
  have pT0 := hP.T0
  have prQ := hP.rQ
  have prE := hP.rE
  have prS := hP.rS
  have prM := hP.rM
  have prW := hP.rW
  have prHd := hP.rHd
  have prHf := hP.rHf
  have prHt := hP.rHt
  have ptM := hP.tM
  have ptW := hP.tW
  have ptHd := hP.tHd
  have ptHf := hP.tHf
  have ptHt := hP.tHt
  have plQ := hP.lQ.tl
  have plE := hP.lE.tl
  have plS := hP.lS.tl
  refine AMet.of (by decide) (Nat.le_of_ble_eq_true rfl) (cats1 rfl) fun cx X E => ?_
  show AW _ _ _ (_ :: _ :: _ :: _ :: _ :: _ :: _ :: _ :: _ :: _ :: _ :: []) _ _ _ _ _
  first | refine AW.aload_n X dX1_nights_0 rfl rfl ?_ | refine AW.aloadN_n X dX1_nights_0 rfl rfl ?_
  refine AW.iload_n X dX1_nights_1 rfl rfl ?_
  refine AW.callV_r X (c_X1_shipAt_ok hX0 hs) (ci := 0) (q := (RX1, TX1, 14)) (by first | assumption | exact hT _ _ rfl) rfl s_X1_189_0 (by omega) (Nat.le_of_ble_eq_true rfl) rfl rfl (Nat.le_of_ble_eq_true rfl) dX1_nights_2 ?_
  first | refine AW.astore4 X dX1_nights_5 ?_ | refine AW.astoreN4 X dX1_nights_5 ?_
  refine AW.iload_n X dX1_nights_7 rfl rfl ?_
  refine AW.iconst X (v := 0) dX1_nights_8 rfl ?_
  refine AW.bipush X (v := 60) dX1_nights_9 rfl ?_
  refine AW.callS_r X (c_X1_within n 0 60) s_X1_57 (by omega) (Nat.le_of_ble_eq_true rfl) rfl rfl (Nat.le_of_ble_eq_true rfl) dX1_nights_11 ?_
  rw [bI_f hb]
  exact AW.callS (b := 0) (bc := 2) X (c_X1_right_bad h1 h0) s_X1_104 (by omega) (Nat.le_of_ble_eq_true rfl) rfl rfl (Nat.le_of_ble_eq_true rfl) dX1_nights_14 (fun _ _ _ _ _ h => h.elim) (AX.thru X E (by omega) rfl (fun _ h => nomatch h))
theorem c_X1_odds_bad {e w : Int32} (hX : XS pb T I R N) (h1 : 100 ≤ B) (h0 : (T B).1 = 0) (hb : ¬ ((0 ≤ e ∧ e < nI (nS N)) ∧ (w = 0 ∨ w = 1))) : MX1_odds 10 2 [.ref 100, .int e, .int w] T I R J noQ (qX 22 B T I R J) := by
  have hX0 := hX
  obtain ⟨hT, hR, hP, hL, hN, hM, h20, hG⟩ := hX
  have hL0 := hL
  obtain ⟨l1, l2, l3, l4, l5, l6, l7, l8, l9, l10, l11, l12, l13, l14, l15, l16, l17⟩ := hL
  obtain ⟨⟨n1, n2, n3, n4, hnq, hne, hns, hnh⟩, -⟩ := id hN
  have pT0 := hP.T0
  have prQ := hP.rQ
  have prE := hP.rE
  have prS := hP.rS
  have prM := hP.rM
  have prW := hP.rW
  have prHd := hP.rHd
  have prHf := hP.rHf
  have prHt := hP.rHt
  have ptM := hP.tM
  have ptW := hP.tW
  have ptHd := hP.tHd
  have ptHf := hP.tHf
  have ptHt := hP.tHt
  have plQ := hP.lQ.tl
  have plE := hP.lE.tl
  have plS := hP.lS.tl
  refine AMet.of (by decide) (Nat.le_of_ble_eq_true rfl) (cats1 rfl) fun cx X E => ?_
  show AW _ _ _ (_ :: _ :: _ :: _ :: _ :: _ :: _ :: []) _ _ _ _ _
  by_cases hi : 0 ≤ e ∧ e < nI (nS N)
  · obtain ⟨k, hk, rfl⟩ : ∃ k, k < nS N ∧ e = nI k := inN hi (by omega)
    first | refine AW.aload_n X dX1_odds_0 rfl rfl ?_ | refine AW.aloadN_n X dX1_odds_0 rfl rfl ?_
    refine AW.iload_n X dX1_odds_1 rfl rfl ?_
    refine AW.callV_r X (c_X1_shipAt_ok hX0 hk) (ci := 0) (q := (RX1, TX1, 14)) (by first | assumption | exact hT _ _ rfl) rfl s_X1_189_0 (by omega) (Nat.le_of_ble_eq_true rfl) rfl rfl (Nat.le_of_ble_eq_true rfl) dX1_odds_2 ?_
    first | refine AW.astore3 X dX1_odds_5 ?_ | refine AW.astoreN3 X dX1_odds_5 ?_
    refine AW.iload_n X dX1_odds_6 rfl rfl ?_
    refine AW.if_eq X (tgt := 15) dX1_odds_7 rfl ?_ ?_
    · intro t7
      exact absurd ⟨hi, Or.inl t7⟩ hb
    · intro f7
      refine AW.iload_n X dX1_odds_10 rfl rfl ?_
      refine AW.iconst X (v := 1) dX1_odds_11 rfl ?_
      refine AW.icmp_ne X (tgt := 19) dX1_odds_12 rfl ?_ ?_
      · intro t12
        refine AW.iconst X (v := 0) dX1_odds_19 rfl ?_
        exact AW.callS (b := 0) (bc := 2) X (c_X1_there_bad h1 h0) s_X1_61 (by omega) (Nat.le_of_ble_eq_true rfl) rfl rfl (Nat.le_of_ble_eq_true rfl) dX1_odds_20 (fun _ _ _ _ _ h => h.elim) (AX.thru X E (by omega) rfl (fun _ h => nomatch h))
      · intro f12
        exact absurd ⟨hi, Or.inr f12⟩ hb
  · skip
    first | refine AW.aload_n X dX1_odds_0 rfl rfl ?_ | refine AW.aloadN_n X dX1_odds_0 rfl rfl ?_
    refine AW.iload_n X dX1_odds_1 rfl rfl ?_
    exact AW.callV (b := 0) (bc := 2) X (c_X1_shipAt_bad hX0 h1 h0 hi) (ci := 0) (q := (RX1, TX1, 14)) (by first | assumption | exact hT _ _ rfl) rfl s_X1_189_0 (by omega) (Nat.le_of_ble_eq_true rfl) rfl rfl (Nat.le_of_ble_eq_true rfl) dX1_odds_2 (fun _ _ _ _ _ h => h.elim) (AX.thru X E (by omega) rfl (fun _ h => nomatch h))
end NI
