/-! 08c: the model tells a night (steps printed by src/walk.py) -/
set_option maxRecDepth 100000
set_option maxHeartbeats 4000000
/-- eel e is told up to hour n -/
def TeP (N : KI) (e n : Nat) (I I' : KI) : Prop := (∀ h, h < n → I' 340 (24 * e + h) = hun N e h ∧ I' 341 (24 * e + h) = glo N e h ∧ I' 342 (24 * e + h) = ledV N e h) ∧ ∀ j, (j < 24 * e ∨ 24 * e + n ≤ j) → I' 340 j = I 340 j ∧ I' 341 j = I 341 j ∧ I' 342 j = I 342 j
theorem TeP.step {N : KI} {e n : Nat} {I I' : KI} {x : Int32} (h : TeP N e n I I') (hx : x = ledV N e n) : TeP N e (n + 1) I (w2 (w2 (w2 I' 340 (24 * e + n) (hun N e n)) 341 (24 * e + n) (glo N e n)) 342 (24 * e + n) x) := by
  have a0 : ∀ j, w2 (w2 (w2 I' 340 (24 * e + n) (hun N e n)) 341 (24 * e + n) (glo N e n)) 342 (24 * e + n) x 340 j = w2 I' 340 (24 * e + n) (hun N e n) 340 j := fun j => by rw [w2_n1 (by omega), w2_n1 (by omega)]
  have a1 : ∀ j, w2 (w2 (w2 I' 340 (24 * e + n) (hun N e n)) 341 (24 * e + n) (glo N e n)) 342 (24 * e + n) x 341 j = w2 (w2 I' 340 (24 * e + n) (hun N e n)) 341 (24 * e + n) (glo N e n) 341 j := fun j => by rw [w2_n1 (by omega)]
  refine ⟨fun k hk => ?_, fun j hj => ?_⟩
  · rw [a0, a1]
    by_cases hc : k = n
    · subst hc; rw [w2_s, w2_s, w2_s]; exact ⟨rfl, rfl, hx⟩
    · refine ⟨?_, ?_, ?_⟩
      · rw [w2_n2 (by omega)]; exact (h.1 k (by omega)).1
      · rw [w2_n2 (by omega), w2_n1 (by omega)]; exact (h.1 k (by omega)).2.1
      · rw [w2_n2 (by omega), w2_n1 (by omega), w2_n1 (by omega)]; exact (h.1 k (by omega)).2.2
  · rw [a0, a1]
    refine ⟨?_, ?_, ?_⟩
    · rw [w2_n2 (by omega)]; exact (h.2 j (by omega)).1
    · rw [w2_n2 (by omega), w2_n1 (by omega)]; exact (h.2 j (by omega)).2.1
    · rw [w2_n2 (by omega), w2_n1 (by omega), w2_n1 (by omega)]; exact (h.2 j (by omega)).2.2
/-- all but a night's rows -/
def FE (I I' : KI) : Prop := ∀ a, a ≠ 340 → a ≠ 341 → a ≠ 342 → a ≠ 343 → a ≠ 347 → a ≠ 348 → I' a = I a
theorem FE.rf {I : KI} : FE I I := fun _ _ _ _ _ _ _ => rfl
theorem FE.tr {I I1 I2 : KI} (h : FE I I1) (h2 : FE I1 I2) : FE I I2 := fun a a1 a2 a3 a4 a5 a6 => (h2 a a1 a2 a3 a4 a5 a6).trans (h a a1 a2 a3 a4 a5 a6)
theorem MS.fe {T : KT} {I I' : KI} {R : KR} {N : KI} (h : MS T I R N) (hf : FE I I') : MS T I' R N := h.hi fun a ha => hf a (by omega) (by omega) (by omega) (by omega) (by omega) (by omega)
section MP
variable {T : KT} {I : KI} {R : KR} {J : KJ} {N : KI}
theorem c_X5_tellEel {e : Nat} (hS : MS T I R N) (he : e < nE N) : MX5_tellEel 3 0 [.ref 200, .int (nI e)] T I R J (qI (fun r I' => r = none ∧ FE I I' ∧ I' 343 = I 343 ∧ TeP N e 24 I I') T R J) noX := by
  have hS0 := hS
  obtain ⟨hT, hR, hV, hN, hM⟩ := hS
  have hne := hN.1.2.2.2.2.2.1
  have hm26 := hM.2.1
  have vm := hV.2.1
  have v309 := hV.1 309 (by omega) (by omega)
  have v313 := hV.1 313 (by omega) (by omega)
  refine AMet.of (by decide) (Nat.le_of_ble_eq_true rfl) (cats1 rfl) fun cx X E => ?_
  show AW _ _ _ (_ :: _ :: _ :: _ :: _ :: _ :: _ :: []) _ _ _ _ _
  have lp : ∀ I1 : KI, (∀ a, a ≠ 347 → a ≠ 348 → I1 a = I a) → MLs N e 0 I1 → ∀ k h (I' : KI) (v5 v6 : Value), h + k = 24 → I' 347 = I1 347 → I' 348 = I1 348 → FE I I' → I' 343 = I 343 → TeP N e h I I' → AW cx 0 17 [.ref 200, .int (nI e), .int (hb N e h).1, .int (hb N e h).2, .int (nI h), v5, v6] [] T I' R J := by
    intro I1 hf1 hl k
    induction k with
    | zero =>
      intro h I' v5 v6 hk g7 g8 hf g3 ht
      obtain rfl : h = 24 := by omega
      refine AW.iload X dX5_tellEel_17 rfl ?_
      refine AW.bipush X (v := 24) dX5_tellEel_19 rfl ?_
      refine AW.icmp_ge X (tgt := 183) dX5_tellEel_21 rfl ?_ ?_
      · intro t21
        refine AW.vreturn X E ?_ dX5_tellEel_183
        exact ⟨rfl, rfl, rfl, rfl, hf, g3, ht⟩
      · intro f21
        exact absurd (by decide) f21
    | succ k ih =>
      intro h I' v5 v6 hk g7 g8 hf g3 ht
      have f9 : I' 309 = N 309 := (hf 309 (by omega) (by omega) (by omega) (by omega) (by omega) (by omega)).trans v309
      have f39 : I' 339 = I 339 := hf 339 (by omega) (by omega) (by omega) (by omega) (by omega) (by omega)
      have fin2 : ∀ x v6, x = ledV N e h → AW cx 0 153 [.ref 200, .int (nI e), .int (hun N e h), .int (lst N e h), .int (nI h), .int (-1), v6] [.int x, .int (nI 24 * nI e + nI h), .ref 342] T (w2 (w2 I' 340 (24 * e + h) (hun N e h)) 341 (24 * e + h) (glo N e h)) R J := by
        intro x v6 hx
        have nx : ∀ g, g = grw N e → AW cx 0 17 [.ref 200, .int (nI e), .int (mn2 30 (hun N e h + g)), .int (lst N e h), .int (nI h + 1), .int (-1), v6] [] T (w2 (w2 (w2 I' 340 (24 * e + h) (hun N e h)) 341 (24 * e + h) (glo N e h)) 342 (24 * e + h) x) R J := fun g hg => by
          rw [hg, nI_1]
          exact ih (h + 1) _ _ _ (by omega) (by rw [w2_r (by omega), w2_r (by omega), w2_r (by omega)]; exact g7) (by rw [w2_r (by omega), w2_r (by omega), w2_r (by omega)]; exact g8) (fun a a1 a2 a3 a4 a5 a6 => by rw [w2_r a3, w2_r a2, w2_r a1]; exact hf a a1 a2 a3 a4 a5 a6) (by rw [w2_r (by omega), w2_r (by omega), w2_r (by omega)]; exact g3) (ht.step hx)
        refine AW.iast X (j := 24 * e + h) (by omega) (by first | assumption | exact hT _ _ rfl) (by repeat (first | with_reducible exact rfl | assumption | exact ix_l _ | apply ix_add | apply ix_mul)) (by omega) dX5_tellEel_153 ?_
        refine AW.bipush X (v := 30) dX5_tellEel_154 rfl ?_
        refine AW.iload_n X dX5_tellEel_156 rfl rfl ?_
        first | refine AW.aload_n X dX5_tellEel_157 rfl rfl ?_ | refine AW.aloadN_n X dX5_tellEel_157 rfl rfl ?_
        refine AW.getR X f_X5_61_18 (by first | assumption | exact hT _ _ rfl) (by first | assumption | exact hR _ _ _ rfl) dX5_tellEel_158 ?_
        refine AW.iload_n X dX5_tellEel_161 rfl rfl ?_
        refine AW.iald X (j := e) (by first | assumption | exact hT _ _ rfl) (by repeat (first | with_reducible exact rfl | assumption | exact ix_l _ | apply ix_add | apply ix_mul)) (by omega) dX5_tellEel_162 ?_
        rw [w2_n1 (by omega), w2_n1 (by omega), w2_n1 (by omega), f9]
        refine AW.iconst X (v := 1) dX5_tellEel_163 rfl ?_
        refine AW.icmp_ne X (tgt := 171) dX5_tellEel_164 rfl ?_ ?_
        · intro t164
          have hg : (1 : Int32) = grw N e := by unfold grw; rw [if_neg t164]
          refine AW.iconst X (v := 1) dX5_tellEel_171 rfl ?_
          refine AW.iadd X dX5_tellEel_172 ?_
          refine AW.mmin X q1847 (by omega) (Nat.le_of_ble_eq_true rfl) dX5_tellEel_173 ?_
          refine AW.istore2 X dX5_tellEel_176 ?_
          refine AW.iinc4 X (v := _ + 1) dX5_tellEel_177 rfl ?_
          refine AW.goto X (tgt := 17) dX5_tellEel_180 rfl ?_
          exact nx _ hg
        · intro f164
          have hg : (2 : Int32) = grw N e := by unfold grw; rw [if_pos f164]
          refine AW.iconst X (v := 2) dX5_tellEel_167 rfl ?_
          refine AW.goto X (tgt := 172) dX5_tellEel_168 rfl ?_
          refine AW.iadd X dX5_tellEel_172 ?_
          refine AW.mmin X q1847 (by omega) (Nat.le_of_ble_eq_true rfl) dX5_tellEel_173 ?_
          refine AW.istore2 X dX5_tellEel_176 ?_
          refine AW.iinc4 X (v := _ + 1) dX5_tellEel_177 rfl ?_
          refine AW.goto X (tgt := 17) dX5_tellEel_180 rfl ?_
          exact nx _ hg
      have fin : ∀ v6, AW cx 0 90 [.ref 200, .int (nI e), .int (hun N e h), .int (lst N e h), .int (nI h), .int (-1), v6] [] T I' R J := by
        intro v6
        have hS1 : MS T (w2 I' 340 (24 * e + h) (hun N e h)) R N := hS0.hi fun a ha => by rw [w2_r (by omega)]; exact hf a (by omega) (by omega) (by omega) (by omega) (by omega) (by omega)
        first | refine AW.aload_n X dX5_tellEel_90 rfl rfl ?_ | refine AW.aloadN_n X dX5_tellEel_90 rfl rfl ?_
        refine AW.getR X f_X5_122_18 (by first | assumption | exact hT _ _ rfl) (by first | assumption | exact hR _ _ _ rfl) dX5_tellEel_91 ?_
        refine AW.bipush X (v := 24) dX5_tellEel_94 rfl ?_
        refine AW.iload_n X dX5_tellEel_96 rfl rfl ?_
        refine AW.imul X dX5_tellEel_97 ?_
        refine AW.iload X dX5_tellEel_98 rfl ?_
        refine AW.iadd X dX5_tellEel_100 ?_
        refine AW.iload_n X dX5_tellEel_101 rfl rfl ?_
        refine AW.iast X (j := 24 * e + h) (by omega) (by first | assumption | exact hT _ _ rfl) (by repeat (first | with_reducible exact rfl | assumption | exact ix_l _ | apply ix_add | apply ix_mul)) (by omega) dX5_tellEel_102 ?_
        first | refine AW.aload_n X dX5_tellEel_103 rfl rfl ?_ | refine AW.aloadN_n X dX5_tellEel_103 rfl rfl ?_
        refine AW.getR X f_X5_125_18 (by first | assumption | exact hT _ _ rfl) (by first | assumption | exact hR _ _ _ rfl) dX5_tellEel_104 ?_
        refine AW.bipush X (v := 24) dX5_tellEel_107 rfl ?_
        refine AW.iload_n X dX5_tellEel_109 rfl rfl ?_
        refine AW.imul X dX5_tellEel_110 ?_
        refine AW.iload X dX5_tellEel_111 rfl ?_
        refine AW.iadd X dX5_tellEel_113 ?_
        first | refine AW.aload_n X dX5_tellEel_114 rfl rfl ?_ | refine AW.aloadN_n X dX5_tellEel_114 rfl rfl ?_
        refine AW.iload_n X dX5_tellEel_115 rfl rfl ?_
        refine AW.iload X dX5_tellEel_116 rfl ?_
        refine AW.callV_r X (c_X5_glowOf hS1 he (by omega) (by rw [w2_s])) (ci := 18) (q := (RX5, TX5, 74)) (by first | assumption | exact hT _ _ rfl) rfl s_X5_358_18 (by omega) (Nat.le_of_ble_eq_true rfl) rfl rfl (Nat.le_of_ble_eq_true rfl) dX5_tellEel_118 ?_
        refine AW.iast X (j := 24 * e + h) (by omega) (by first | assumption | exact hT _ _ rfl) (by repeat (first | with_reducible exact rfl | assumption | exact ix_l _ | apply ix_add | apply ix_mul)) (by omega) dX5_tellEel_121 ?_
        first | refine AW.aload_n X dX5_tellEel_122 rfl rfl ?_ | refine AW.aloadN_n X dX5_tellEel_122 rfl rfl ?_
        refine AW.getR X f_X5_128_18 (by first | assumption | exact hT _ _ rfl) (by first | assumption | exact hR _ _ _ rfl) dX5_tellEel_123 ?_
        refine AW.bipush X (v := 24) dX5_tellEel_126 rfl ?_
        refine AW.iload_n X dX5_tellEel_128 rfl rfl ?_
        refine AW.imul X dX5_tellEel_129 ?_
        refine AW.iload X dX5_tellEel_130 rfl ?_
        refine AW.iadd X dX5_tellEel_132 ?_
        first | refine AW.aload_n X dX5_tellEel_133 rfl rfl ?_ | refine AW.aloadN_n X dX5_tellEel_133 rfl rfl ?_
        refine AW.getR X f_X5_125_18 (by first | assumption | exact hT _ _ rfl) (by first | assumption | exact hR _ _ _ rfl) dX5_tellEel_134 ?_
        refine AW.bipush X (v := 24) dX5_tellEel_137 rfl ?_
        refine AW.iload_n X dX5_tellEel_139 rfl rfl ?_
        refine AW.imul X dX5_tellEel_140 ?_
        refine AW.iload X dX5_tellEel_141 rfl ?_
        refine AW.iadd X dX5_tellEel_143 ?_
        refine AW.iald X (j := 24 * e + h) (by first | assumption | exact hT _ _ rfl) (by repeat (first | with_reducible exact rfl | assumption | exact ix_l _ | apply ix_add | apply ix_mul)) (by omega) dX5_tellEel_144 ?_
        rw [w2_s]
        refine AW.if_ne X (tgt := 152) dX5_tellEel_145 rfl ?_ ?_
        · intro t145
          have hx : lst N e h = ledV N e h := by unfold ledV; rw [if_neg t145]
          refine AW.iload_n X dX5_tellEel_152 rfl rfl ?_
          exact fin2 _ _ hx
        · intro f145
          have hx : (-1 : Int32) = ledV N e h := by unfold ledV; rw [if_pos f145]
          refine AW.iconst X (v := -1) dX5_tellEel_148 rfl ?_
          refine AW.goto X (tgt := 153) dX5_tellEel_149 rfl ?_
          exact fin2 _ _ hx
      have inn : ∀ j m v6, nM N - m ≤ j → m ≤ nM N → AW cx 0 33 [.ref 200, .int (nI e), .int (eatP N e h m (hb N e h)).1, .int (eatP N e h m (hb N e h)).2, .int (nI h), .int (nm N e h m (nM N - m)), v6] [] T I' R J := by
        intro j
        induction j with
        | zero =>
          intro m v6 hj hm
          obtain rfl : m = nM N := by omega
          rw [Nat.sub_self, show nm N e h (nM N) 0 = -1 from rfl]
          refine AW.iload X dX5_tellEel_33 rfl ?_
          refine AW.iconst X (v := -1) dX5_tellEel_35 rfl ?_
          refine AW.icmp_eq X (tgt := 90) dX5_tellEel_36 rfl ?_ ?_
          · intro t36
            exact fin v6
          · intro f36
            exact absurd rfl f36
        | succ j ih2 =>
          intro m v6 hj hm
          rcases nm_at (N := N) (e := e) (h := h) (p := hb N e h) (j := nM N - m) (m := m) with ⟨h1, h2⟩ | ⟨m', a1, a2, a3, a4, a5, a6⟩
          · rw [show m + (nM N - m) = nM N by omega] at h2
            rw [h1, ← h2]
            refine AW.iload X dX5_tellEel_33 rfl ?_
            refine AW.iconst X (v := -1) dX5_tellEel_35 rfl ?_
            refine AW.icmp_eq X (tgt := 90) dX5_tellEel_36 rfl ?_ ?_
            · intro t36
              exact fin v6
            · intro f36
              exact absurd rfl f36
          · rw [a3, ← a6]
            have k39 : I' 339 m' = N 339 m' := (congrFun f39 m').trans (vm m' (by omega)).2.2
            have k48 : I' 348 m' = nm N e h (m' + 1) (nM N - (m' + 1)) := by
              rw [g8, hl.2 m' (by omega) (by omega) a4]
              rw [show nat N 338 m' = h by unfold nat; rw [a5, nI_clamp (by omega)]]
            have nx : ∀ x v6, (x, if x < (eatP N e h m' (hb N e h)).1 then nI m' else (eatP N e h m' (hb N e h)).2) = eatP N e h (m' + 1) (hb N e h) → ∀ y, y = (if x < (eatP N e h m' (hb N e h)).1 then nI m' else (eatP N e h m' (hb N e h)).2) → AW cx 0 33 [.ref 200, .int (nI e), .int x, .int y, .int (nI h), .int (nm N e h (m' + 1) (nM N - (m' + 1))), v6] [] T I' R J := fun x v6 hx y hy => by
              have hi := ih2 (m' + 1) v6 (by omega) (by omega)
              rw [← hx, ← hy] at hi
              exact hi
            refine AW.iload X dX5_tellEel_33 rfl ?_
            refine AW.iconst X (v := -1) dX5_tellEel_35 rfl ?_
            refine AW.icmp_eq X (tgt := 90) dX5_tellEel_36 rfl ?_ ?_
            · intro t36
              exact absurd t36 (nI_m1 (by omega))
            · intro f36
              first | refine AW.aload_n X dX5_tellEel_39 rfl rfl ?_ | refine AW.aloadN_n X dX5_tellEel_39 rfl rfl ?_
              refine AW.getR X f_X5_119_18 (by first | assumption | exact hT _ _ rfl) (by first | assumption | exact hR _ _ _ rfl) dX5_tellEel_40 ?_
              refine AW.iload X dX5_tellEel_43 rfl ?_
              refine AW.iald X (j := m') (by first | assumption | exact hT _ _ rfl) (by repeat (first | with_reducible exact rfl | assumption | exact ix_l _ | apply ix_add | apply ix_mul)) (by omega) dX5_tellEel_45 ?_
              rw [k39]
              refine AW.if_ne X (tgt := 53) dX5_tellEel_46 rfl ?_ ?_
              · intro t46
                have hx := (eatP_11 (p := hb N e h) a4 a5 t46).symm
                refine AW.iconst X (v := 0) dX5_tellEel_53 rfl ?_
                refine AW.iload_n X dX5_tellEel_54 rfl rfl ?_
                refine AW.iconst X (v := 5) dX5_tellEel_55 rfl ?_
                refine AW.isub X dX5_tellEel_56 ?_
                refine AW.mmax X q2019 (by omega) (Nat.le_of_ble_eq_true rfl) dX5_tellEel_57 ?_
                refine AW.istore6 X dX5_tellEel_60 ?_
                refine AW.iload X dX5_tellEel_62 rfl ?_
                refine AW.iload_n X dX5_tellEel_64 rfl rfl ?_
                refine AW.icmp_ge X (tgt := 73) dX5_tellEel_65 rfl ?_ ?_
                · intro t65
                  refine AW.iload_n X dX5_tellEel_73 rfl rfl ?_
                  refine AW.istore3 X dX5_tellEel_74 ?_
                  refine AW.iload X dX5_tellEel_75 rfl ?_
                  refine AW.istore2 X dX5_tellEel_77 ?_
                  first | refine AW.aload_n X dX5_tellEel_78 rfl rfl ?_ | refine AW.aloadN_n X dX5_tellEel_78 rfl rfl ?_
                  refine AW.getR X f_X5_137_18 (by first | assumption | exact hT _ _ rfl) (by first | assumption | exact hR _ _ _ rfl) dX5_tellEel_79 ?_
                  refine AW.iload X dX5_tellEel_82 rfl ?_
                  refine AW.iald X (j := m') (by first | assumption | exact hT _ _ rfl) (by repeat (first | with_reducible exact rfl | assumption | exact ix_l _ | apply ix_add | apply ix_mul)) (by omega) dX5_tellEel_84 ?_
                  rw [k48]
                  refine AW.istore5 X dX5_tellEel_85 ?_
                  refine AW.goto X (tgt := 33) dX5_tellEel_87 rfl ?_
                  first | exact nx _ _ hx _ (if_neg (Int32.not_lt.mpr t65)).symm | exact nx _ _ hx _ (if_pos (Int32.not_le.mp f65)).symm
                · intro f65
                  refine AW.iload X dX5_tellEel_68 rfl ?_
                  refine AW.goto X (tgt := 74) dX5_tellEel_70 rfl ?_
                  refine AW.istore3 X dX5_tellEel_74 ?_
                  refine AW.iload X dX5_tellEel_75 rfl ?_
                  refine AW.istore2 X dX5_tellEel_77 ?_
                  first | refine AW.aload_n X dX5_tellEel_78 rfl rfl ?_ | refine AW.aloadN_n X dX5_tellEel_78 rfl rfl ?_
                  refine AW.getR X f_X5_137_18 (by first | assumption | exact hT _ _ rfl) (by first | assumption | exact hR _ _ _ rfl) dX5_tellEel_79 ?_
                  refine AW.iload X dX5_tellEel_82 rfl ?_
                  refine AW.iald X (j := m') (by first | assumption | exact hT _ _ rfl) (by repeat (first | with_reducible exact rfl | assumption | exact ix_l _ | apply ix_add | apply ix_mul)) (by omega) dX5_tellEel_84 ?_
                  rw [k48]
                  refine AW.istore5 X dX5_tellEel_85 ?_
                  refine AW.goto X (tgt := 33) dX5_tellEel_87 rfl ?_
                  first | exact nx _ _ hx _ (if_neg (Int32.not_lt.mpr t65)).symm | exact nx _ _ hx _ (if_pos (Int32.not_le.mp f65)).symm
              · intro f46
                have hx := (eatP_00 (p := hb N e h) a4 a5 f46).symm
                refine AW.iconst X (v := 0) dX5_tellEel_49 rfl ?_
                refine AW.goto X (tgt := 60) dX5_tellEel_50 rfl ?_
                refine AW.istore6 X dX5_tellEel_60 ?_
                refine AW.iload X dX5_tellEel_62 rfl ?_
                refine AW.iload_n X dX5_tellEel_64 rfl rfl ?_
                refine AW.icmp_ge X (tgt := 73) dX5_tellEel_65 rfl ?_ ?_
                · intro t65
                  refine AW.iload_n X dX5_tellEel_73 rfl rfl ?_
                  refine AW.istore3 X dX5_tellEel_74 ?_
                  refine AW.iload X dX5_tellEel_75 rfl ?_
                  refine AW.istore2 X dX5_tellEel_77 ?_
                  first | refine AW.aload_n X dX5_tellEel_78 rfl rfl ?_ | refine AW.aloadN_n X dX5_tellEel_78 rfl rfl ?_
                  refine AW.getR X f_X5_137_18 (by first | assumption | exact hT _ _ rfl) (by first | assumption | exact hR _ _ _ rfl) dX5_tellEel_79 ?_
                  refine AW.iload X dX5_tellEel_82 rfl ?_
                  refine AW.iald X (j := m') (by first | assumption | exact hT _ _ rfl) (by repeat (first | with_reducible exact rfl | assumption | exact ix_l _ | apply ix_add | apply ix_mul)) (by omega) dX5_tellEel_84 ?_
                  rw [k48]
                  refine AW.istore5 X dX5_tellEel_85 ?_
                  refine AW.goto X (tgt := 33) dX5_tellEel_87 rfl ?_
                  first | exact nx _ _ hx _ (if_neg (Int32.not_lt.mpr t65)).symm | exact nx _ _ hx _ (if_pos (Int32.not_le.mp f65)).symm
                · intro f65
                  refine AW.iload X dX5_tellEel_68 rfl ?_
                  refine AW.goto X (tgt := 74) dX5_tellEel_70 rfl ?_
                  refine AW.istore3 X dX5_tellEel_74 ?_
                  refine AW.iload X dX5_tellEel_75 rfl ?_
                  refine AW.istore2 X dX5_tellEel_77 ?_
                  first | refine AW.aload_n X dX5_tellEel_78 rfl rfl ?_ | refine AW.aloadN_n X dX5_tellEel_78 rfl rfl ?_
                  refine AW.getR X f_X5_137_18 (by first | assumption | exact hT _ _ rfl) (by first | assumption | exact hR _ _ _ rfl) dX5_tellEel_79 ?_
                  refine AW.iload X dX5_tellEel_82 rfl ?_
                  refine AW.iald X (j := m') (by first | assumption | exact hT _ _ rfl) (by repeat (first | with_reducible exact rfl | assumption | exact ix_l _ | apply ix_add | apply ix_mul)) (by omega) dX5_tellEel_84 ?_
                  rw [k48]
                  refine AW.istore5 X dX5_tellEel_85 ?_
                  refine AW.goto X (tgt := 33) dX5_tellEel_87 rfl ?_
                  first | exact nx _ _ hx _ (if_neg (Int32.not_lt.mpr t65)).symm | exact nx _ _ hx _ (if_pos (Int32.not_le.mp f65)).symm
      have h47 : I' 347 h = nm N e h 0 (nM N - 0) := by rw [g7]; exact hl.1 h (by omega)
      refine AW.iload X dX5_tellEel_17 rfl ?_
      refine AW.bipush X (v := 24) dX5_tellEel_19 rfl ?_
      refine AW.icmp_ge X (tgt := 183) dX5_tellEel_21 rfl ?_ ?_
      · intro t21
        exact absurd t21 (nI_ge (a := h) (b := 24) (by omega) (by omega))
      · intro f21
        first | refine AW.aload_n X dX5_tellEel_24 rfl rfl ?_ | refine AW.aloadN_n X dX5_tellEel_24 rfl rfl ?_
        refine AW.getR X f_X5_134_18 (by first | assumption | exact hT _ _ rfl) (by first | assumption | exact hR _ _ _ rfl) dX5_tellEel_25 ?_
        refine AW.iload X dX5_tellEel_28 rfl ?_
        refine AW.iald X (j := h) (by first | assumption | exact hT _ _ rfl) (by repeat (first | with_reducible exact rfl | assumption | exact ix_l _ | apply ix_add | apply ix_mul)) (by omega) dX5_tellEel_30 ?_
        rw [h47]
        refine AW.istore5 X dX5_tellEel_31 ?_
        exact inn (nM N) 0 v6 (by omega) (by omega)
  first | refine AW.aload_n X dX5_tellEel_0 rfl rfl ?_ | refine AW.aloadN_n X dX5_tellEel_0 rfl rfl ?_
  refine AW.iload_n X dX5_tellEel_1 rfl rfl ?_
  refine AW.callV_i X (c_X5_tellMeals hS0 he) (ci := 18) (q := (RX5, TX5, 74)) (by first | assumption | exact hT _ _ rfl) rfl s_X5_355_18 (by omega) (Nat.le_of_ble_eq_true rfl) rfl rfl (Nat.le_of_ble_eq_true rfl) dX5_tellEel_2 ?_
  intro r2 I2 h2
  obtain ⟨rfl, hf1, hl⟩ := h2
  first | refine AW.aload_n X dX5_tellEel_5 rfl rfl ?_ | refine AW.aloadN_n X dX5_tellEel_5 rfl rfl ?_
  refine AW.getR X f_X5_73_18 (by first | assumption | exact hT _ _ rfl) (by first | assumption | exact hR _ _ _ rfl) dX5_tellEel_6 ?_
  refine AW.iload_n X dX5_tellEel_9 rfl rfl ?_
  refine AW.iald X (j := e) (by first | assumption | exact hT _ _ rfl) (by repeat (first | with_reducible exact rfl | assumption | exact ix_l _ | apply ix_add | apply ix_mul)) (by omega) dX5_tellEel_10 ?_
  rw [hf1 313 (by omega) (by omega), v313]
  refine AW.istore2 X dX5_tellEel_11 ?_
  refine AW.iconst X (v := -1) dX5_tellEel_12 rfl ?_
  refine AW.istore3 X dX5_tellEel_13 ?_
  refine AW.iconst X (v := 0) dX5_tellEel_14 rfl ?_
  refine AW.istore4 X dX5_tellEel_15 ?_
  exact lp _ hf1 hl 24 0 _ _ _ rfl rfl rfl (fun a a1 a2 a3 a4 a5 a6 => hf1 a a5 a6) (hf1 343 (by omega) (by omega)) ⟨fun _ h => absurd h (Nat.not_lt_zero _), fun j _ => by rw [hf1 340 (by omega) (by omega), hf1 341 (by omega) (by omega), hf1 342 (by omega) (by omega)]; exact ⟨rfl, rfl, rfl⟩⟩
theorem c_X5_tellLights (hS : MS T I R N) (hG : ∀ e h', e < nE N → h' < 24 → I 341 (24 * e + h') = gRow N (24 * e + h')) : MX5_tellLights 2 0 [.ref 200] T I R J (qI (fun r I' => r = none ∧ (∀ a, a ≠ 343 → I' a = I a) ∧ ∀ q h, q < nQ N → h < 24 → I' 343 (24 * q + h) = Lig N q h) T R J) noX := by
  have hS0 := hS
  obtain ⟨hT, hR, hV, hN, hM⟩ := hS
  have hnq := hN.1.2.2.2.2.1
  have hnQ := hN.1.1
  have v304 := hV.1 304 (by omega) (by omega)
  refine AMet.of (by decide) (Nat.le_of_ble_eq_true rfl) (cats1 rfl) fun cx X E => ?_
  show AW _ _ _ (_ :: _ :: _ :: []) _ _ _ _ _
  have lp : ∀ k q (I' : KI) (v2 : Value), q + k = nQ N → (∀ a, a ≠ 343 → I' a = I a) → (∀ q' h', h' < 24 → q' < q → I' 343 (24 * q' + h') = Lig N q' h') → AW cx 0 2 [.ref 200, .int (nI q), v2] [] T I' R J := by
    intro k
    induction k with
    | zero =>
      intro q I' v2 hk hf hl
      obtain rfl : q = nQ N := by omega
      refine AW.iload_n X dX5_tellLights_2 rfl rfl ?_
      first | refine AW.aload_n X dX5_tellLights_3 rfl rfl ?_ | refine AW.aloadN_n X dX5_tellLights_3 rfl rfl ?_
      refine AW.getR X f_X5_45_18 (by first | assumption | exact hT _ _ rfl) (by first | assumption | exact hR _ _ _ rfl) dX5_tellLights_4 ?_
      refine AW.iconst X (v := 0) dX5_tellLights_7 rfl ?_
      refine AW.iald X (j := 0) (by first | assumption | exact hT _ _ rfl) (by repeat (first | with_reducible exact rfl | assumption | exact ix_l _ | apply ix_add | apply ix_mul)) (by omega) dX5_tellLights_8 ?_
      rw [hf 304 (by omega), v304, hnQ]
      refine AW.icmp_ge X (tgt := 49) dX5_tellLights_9 rfl ?_ ?_
      · intro t9
        refine AW.vreturn X E ?_ dX5_tellLights_49
        exact ⟨rfl, rfl, rfl, rfl, hf, fun q h hq hh => hl q h hh hq⟩
      · intro f9
        exact absurd (Int32.le_refl _) f9
    | succ k ih =>
      intro q I' v2 hk hf hl
      have inn : ∀ j h (I2 : KI), h + j = 24 → (∀ a, a ≠ 343 → I2 a = I a) → (∀ q' h', h' < 24 → q' < q → I2 343 (24 * q' + h') = Lig N q' h') → (∀ h', h' < h → I2 343 (24 * q + h') = Lig N q h') → AW cx 0 14 [.ref 200, .int (nI q), .int (nI h)] [] T I2 R J := by
        intro j
        induction j with
        | zero =>
          intro h I2 hj hf2 hl2 hl3
          obtain rfl : h = 24 := by omega
          refine AW.iload_n X dX5_tellLights_14 rfl rfl ?_
          refine AW.bipush X (v := 24) dX5_tellLights_15 rfl ?_
          refine AW.icmp_ge X (tgt := 43) dX5_tellLights_17 rfl ?_ ?_
          · intro t17
            refine AW.iinc1 X (v := _ + 1) dX5_tellLights_43 rfl ?_
            refine AW.goto X (tgt := 2) dX5_tellLights_46 rfl ?_
            rw [nI_1]
            refine ih (q + 1) I2 _ (by omega) hf2 (fun q' h' hh hq => ?_)
            by_cases hx : q' = q
            · subst hx; exact hl3 h' hh
            · exact hl2 q' h' hh (by omega)
          · intro f17
            exact absurd (by decide) f17
        | succ j ih2 =>
          intro h I2 hj hf2 hl2 hl3
          have hS2 : MS T I2 R N := hS0.hi fun a ha => hf2 a (by omega)
          refine AW.iload_n X dX5_tellLights_14 rfl rfl ?_
          refine AW.bipush X (v := 24) dX5_tellLights_15 rfl ?_
          refine AW.icmp_ge X (tgt := 43) dX5_tellLights_17 rfl ?_ ?_
          · intro t17
            exact absurd t17 (nI_ge (a := h) (b := 24) (by omega) (by omega))
          · intro f17
            first | refine AW.aload_n X dX5_tellLights_20 rfl rfl ?_ | refine AW.aloadN_n X dX5_tellLights_20 rfl rfl ?_
            refine AW.getR X f_X5_131_18 (by first | assumption | exact hT _ _ rfl) (by first | assumption | exact hR _ _ _ rfl) dX5_tellLights_21 ?_
            refine AW.bipush X (v := 24) dX5_tellLights_24 rfl ?_
            refine AW.iload_n X dX5_tellLights_26 rfl rfl ?_
            refine AW.imul X dX5_tellLights_27 ?_
            refine AW.iload_n X dX5_tellLights_28 rfl rfl ?_
            refine AW.iadd X dX5_tellLights_29 ?_
            first | refine AW.aload_n X dX5_tellLights_30 rfl rfl ?_ | refine AW.aloadN_n X dX5_tellLights_30 rfl rfl ?_
            refine AW.iload_n X dX5_tellLights_31 rfl rfl ?_
            refine AW.iload_n X dX5_tellLights_32 rfl rfl ?_
            refine AW.callV_r X (c_X5_lightOf (G := gRow N) hS2 (show q < nQ N by omega) (show h < 24 by omega) (fun e h' he hh => by rw [hf2 341 (by omega)]; exact hG e h' he hh)) (ci := 18) (q := (RX5, TX5, 74)) (by first | assumption | exact hT _ _ rfl) rfl s_X5_364_18 (by omega) (Nat.le_of_ble_eq_true rfl) rfl rfl (Nat.le_of_ble_eq_true rfl) dX5_tellLights_33 ?_
            refine AW.iast X (j := 24 * q + h) (by omega) (by first | assumption | exact hT _ _ rfl) (by repeat (first | with_reducible exact rfl | assumption | exact ix_l _ | apply ix_add | apply ix_mul)) (by omega) dX5_tellLights_36 ?_
            refine AW.iinc2 X (v := _ + 1) dX5_tellLights_37 rfl ?_
            refine AW.goto X (tgt := 14) dX5_tellLights_40 rfl ?_
            rw [nI_1]
            refine ih2 (h + 1) _ (by omega) (fun a ha => by rw [w2_r ha]; exact hf2 a ha) (fun q' h' hh hq => ?_) (fun h' hh => ?_)
            · rw [w2_n2 (by omega)]; exact hl2 q' h' hh hq
            · by_cases hx : h' = h
              · subst hx; rw [w2_s]; rfl
              · rw [w2_n2 (by omega)]; exact hl3 h' (by omega)
      refine AW.iload_n X dX5_tellLights_2 rfl rfl ?_
      first | refine AW.aload_n X dX5_tellLights_3 rfl rfl ?_ | refine AW.aloadN_n X dX5_tellLights_3 rfl rfl ?_
      refine AW.getR X f_X5_45_18 (by first | assumption | exact hT _ _ rfl) (by first | assumption | exact hR _ _ _ rfl) dX5_tellLights_4 ?_
      refine AW.iconst X (v := 0) dX5_tellLights_7 rfl ?_
      refine AW.iald X (j := 0) (by first | assumption | exact hT _ _ rfl) (by repeat (first | with_reducible exact rfl | assumption | exact ix_l _ | apply ix_add | apply ix_mul)) (by omega) dX5_tellLights_8 ?_
      rw [hf 304 (by omega), v304, hnQ]
      refine AW.icmp_ge X (tgt := 49) dX5_tellLights_9 rfl ?_ ?_
      · intro t9
        exact absurd t9 (nI_ge (by omega) (by omega))
      · intro f9
        refine AW.iconst X (v := 0) dX5_tellLights_12 rfl ?_
        refine AW.istore2 X dX5_tellLights_13 ?_
        exact inn 24 0 I' rfl hf hl (fun _ h => absurd h (Nat.not_lt_zero _))
  refine AW.iconst X (v := 0) dX5_tellLights_0 rfl ?_
  refine AW.istore1 X dX5_tellLights_1 ?_
  exact lp (nQ N) 0 I _ (by omega) (fun _ _ => rfl) (fun _ _ _ h => absurd h (Nat.not_lt_zero _))
/-- a night is told -/
def NiP (N I : KI) : Prop := (∀ e h, e < nE N → h < 24 → I 340 (24 * e + h) = hun N e h ∧ I 341 (24 * e + h) = glo N e h ∧ I 342 (24 * e + h) = ledV N e h) ∧ ∀ q h, q < nQ N → h < 24 → I 343 (24 * q + h) = Lig N q h
theorem NiP.fr {N I I' : KI} (h : NiP N I) (hf : ∀ a, 340 ≤ a → a ≤ 343 → I' a = I a) : NiP N I' := by
  unfold NiP
  rw [hf 340 (by omega) (by omega), hf 341 (by omega) (by omega), hf 342 (by omega) (by omega), hf 343 (by omega) (by omega)]
  exact h
theorem c_X5_tellNight (hS : MS T I R N) : MX5_tellNight 4 0 [.ref 200] T I R J (qI (fun r I' => r = none ∧ FE I I' ∧ NiP N I') T R J) noX := by
  have hS0 := hS
  obtain ⟨hT, hR, hV, hN, hM⟩ := hS
  have hne := hN.1.2.2.2.2.2.1
  have hnE := hN.1.2.1
  have v304 := hV.1 304 (by omega) (by omega)
  refine AMet.of (by decide) (Nat.le_of_ble_eq_true rfl) (cats1 rfl) fun cx X E => ?_
  show AW _ _ _ (_ :: _ :: []) _ _ _ _ _
  have lp : ∀ k e (I' : KI), e + k = nE N → FE I I' → (∀ e' h, e' < e → h < 24 → I' 340 (24 * e' + h) = hun N e' h ∧ I' 341 (24 * e' + h) = glo N e' h ∧ I' 342 (24 * e' + h) = ledV N e' h) → AW cx 0 2 [.ref 200, .int (nI e)] [] T I' R J := by
    intro k
    induction k with
    | zero =>
      intro e I' hk hf hl
      obtain rfl : e = nE N := by omega
      have hS2 : MS T I' R N := hS0.fe hf
      refine AW.iload_n X dX5_tellNight_2 rfl rfl ?_
      first | refine AW.aload_n X dX5_tellNight_3 rfl rfl ?_ | refine AW.aloadN_n X dX5_tellNight_3 rfl rfl ?_
      refine AW.getR X f_X5_45_18 (by first | assumption | exact hT _ _ rfl) (by first | assumption | exact hR _ _ _ rfl) dX5_tellNight_4 ?_
      refine AW.iconst X (v := 1) dX5_tellNight_7 rfl ?_
      refine AW.iald X (j := 1) (by first | assumption | exact hT _ _ rfl) (by repeat (first | with_reducible exact rfl | assumption | exact ix_l _ | apply ix_add | apply ix_mul)) (by omega) dX5_tellNight_8 ?_
      rw [hf 304 (by omega) (by omega) (by omega) (by omega) (by omega) (by omega), v304, hnE]
      refine AW.icmp_ge X (tgt := 23) dX5_tellNight_9 rfl ?_ ?_
      · intro t9
        first | refine AW.aload_n X dX5_tellNight_23 rfl rfl ?_ | refine AW.aloadN_n X dX5_tellNight_23 rfl rfl ?_
        refine AW.callV_i X (c_X5_tellLights hS2 (fun e h he hh => by rw [gRow_at N e hh]; exact (hl e h he hh).2.1)) (ci := 18) (q := (RX5, TX5, 74)) (by first | assumption | exact hT _ _ rfl) rfl s_X5_370_18 (by omega) (Nat.le_of_ble_eq_true rfl) rfl rfl (Nat.le_of_ble_eq_true rfl) dX5_tellNight_24 ?_
        intro r24 I24 h24
        obtain ⟨rfl, hf2, hl2⟩ := h24
        refine AW.vreturn X E ?_ dX5_tellNight_27
        refine ⟨rfl, rfl, rfl, rfl, hf.tr (fun a a1 a2 a3 a4 a5 a6 => hf2 a a4), fun e h he hh => ?_, hl2⟩
        rw [hf2 340 (by omega), hf2 341 (by omega), hf2 342 (by omega)]; exact hl e h he hh
      · intro f9
        exact absurd (Int32.le_refl _) f9
    | succ k ih =>
      intro e I' hk hf hl
      have hS2 : MS T I' R N := hS0.fe hf
      refine AW.iload_n X dX5_tellNight_2 rfl rfl ?_
      first | refine AW.aload_n X dX5_tellNight_3 rfl rfl ?_ | refine AW.aloadN_n X dX5_tellNight_3 rfl rfl ?_
      refine AW.getR X f_X5_45_18 (by first | assumption | exact hT _ _ rfl) (by first | assumption | exact hR _ _ _ rfl) dX5_tellNight_4 ?_
      refine AW.iconst X (v := 1) dX5_tellNight_7 rfl ?_
      refine AW.iald X (j := 1) (by first | assumption | exact hT _ _ rfl) (by repeat (first | with_reducible exact rfl | assumption | exact ix_l _ | apply ix_add | apply ix_mul)) (by omega) dX5_tellNight_8 ?_
      rw [hf 304 (by omega) (by omega) (by omega) (by omega) (by omega) (by omega), v304, hnE]
      refine AW.icmp_ge X (tgt := 23) dX5_tellNight_9 rfl ?_ ?_
      · intro t9
        exact absurd t9 (nI_ge (by omega) (by omega))
      · intro f9
        first | refine AW.aload_n X dX5_tellNight_12 rfl rfl ?_ | refine AW.aloadN_n X dX5_tellNight_12 rfl rfl ?_
        refine AW.iload_n X dX5_tellNight_13 rfl rfl ?_
        refine AW.callV_i X (c_X5_tellEel hS2 (show e < nE N by omega)) (ci := 18) (q := (RX5, TX5, 74)) (by first | assumption | exact hT _ _ rfl) rfl s_X5_367_18 (by omega) (Nat.le_of_ble_eq_true rfl) rfl rfl (Nat.le_of_ble_eq_true rfl) dX5_tellNight_14 ?_
        intro r14 I14 h14
        obtain ⟨rfl, hf2, -, ht⟩ := h14
        refine AW.iinc1 X (v := _ + 1) dX5_tellNight_17 rfl ?_
        refine AW.goto X (tgt := 2) dX5_tellNight_20 rfl ?_
        rw [nI_1]
        refine ih (e + 1) _ (by omega) (hf.tr hf2) (fun e' h he hh => ?_)
        by_cases hx : e' = e
        · subst hx; exact ht.1 h hh
        · rw [(ht.2 _ (by omega)).1, (ht.2 _ (by omega)).2.1, (ht.2 _ (by omega)).2.2]; exact hl e' h (by omega) hh
  refine AW.iconst X (v := 0) dX5_tellNight_0 rfl ?_
  refine AW.istore1 X dX5_tellNight_1 ?_
  exact lp (nE N) 0 I (by omega) FE.rf (fun _ _ h _ => absurd h (Nat.not_lt_zero _))
end MP
