/-! 10d: the reader steps on (steps printed by src/walk.py) -/
set_option maxRecDepth 100000
set_option maxHeartbeats 8000000
theorem vl_s {Bt : Nat → Nat} {p k : Nat} (hk : k < 3) (hd : ∀ j, j ≤ k → isDi (Bt (p + j)) = true) : 10 * nI (vl Bt p k) + nI (Bt (p + k)) - 48 = nI (vl Bt p (k + 1)) := by
  have hx := of_decide_eq_true (hd k (Nat.le_refl _))
  rw [show (10 : Int32) = nI 10 from rfl, nI_mul, nI_add, show (48 : Int32) = nI 48 from rfl, nI_sub (by omega)]
  congr 1
  show _ = 10 * vl Bt p k + (Bt (p + k) - 48)
  omega
/-- a frame while a word is read -/
def FB (B rd : Nat) (I I' : KI) : Prop := (∀ a, a < B → a ≠ rd → I' a = I a) ∧ ∀ k, k < 2 ∨ 7 < k → I' rd k = I rd k
theorem RF.fb {B rd : Nat} {I I' : KI} (h : RF rd I I') : FB B rd I I' := ⟨fun a _ hn => h.1 a hn, h.2⟩
theorem FB.w {B rd : Nat} {I I' : KI} {k : Nat} {v : Int32} (h : FB B rd I I') (hk : 2 ≤ k ∧ k ≤ 7) : FB B rd I (w2 I' rd k v) := ⟨fun a ha hn => (w2_r hn).trans (h.1 a ha hn), fun j hj => (w2_n2 (by omega)).trans (h.2 j hj)⟩
theorem FB.o {B rd a : Nat} {I I' : KI} {k : Nat} {v : Int32} (h : FB B rd I I') (hr : rd < B) (ha : B ≤ a) : FB B rd I (w2 I' a k v) := ⟨fun c hc hn => (w2_r (by omega)).trans (h.1 c hc hn), fun j hj => (w2_n1 (by omega)).trans (h.2 j hj)⟩
theorem FB.r {B rd a : Nat} {I I' : KI} {g : Nat → Int32} (h : FB B rd I I') (hr : rd < B) (ha : B ≤ a) : FB B rd I (row I' a g) := ⟨fun c hc hn => (row_n (by omega)).trans (h.1 c hc hn), fun j hj => by rw [row_n (by omega)]; exact h.2 j hj⟩
theorem FB.rdk {B rd sz : Nat} {T T' : KT} {I I' : KI} {R R' : KR} (h : FB B rd I I') (hT : T' rd = (104, 0)) (hR : R' rd 0 = R rd 0) (hK : RdK rd sz T I R) : RdK rd sz T' I' R' := ⟨hT, hR.trans hK.2.1, (h.2 1 (by omega)).trans hK.2.2.1, hK.2.2.2⟩
theorem FB.tx {B rd sz : Nat} {Bt : Nat → Nat} {I I' : KI} (h : FB B rd I I') (hr : rd < B) (h1 : 1000 ≤ rd) (hx : TxR Bt sz I) : TxR Bt sz I' := ⟨hx.1, by rw [h.1 106 (by omega) (by omega)]; exact hx.2⟩
theorem SbP.add {sb bb n : Nat} {f : Nat → Nat} {T : KT} {I : KI} {R : KR} (h : SbP sb bb n f T I R) (hn : n < 9) (hv : f n < 128) (hne : sb ≠ bb) : SbP sb bb (n + 1) f T (w2 (w2 I sb 3 (nI (n + 1))) bb n (nI (f n))) R := by
  obtain ⟨h1, h2, h3, h4, h5, h6, h7⟩ := h
  refine ⟨h1, h2, h3, ?_, ?_, by omega, fun k hk => ?_⟩
  · rw [w2_n1 hne, w2_n2 (by omega)]; exact h4
  · rw [w2_n1 hne, w2_s]
  · rcases Nat.lt_or_eq_of_le (Nat.le_of_lt_succ hk) with hl | rfl
    · exact ⟨by rw [w2_n2 (by omega), w2_n1 (Ne.symm hne)]; exact (h7 k hl).1, (h7 k hl).2⟩
    · exact ⟨w2_s _ _ _ _, hv⟩
theorem SbP.w {sb bb n a k : Nat} {v : Int32} {f : Nat → Nat} {T : KT} {I : KI} {R : KR} (h : SbP sb bb n f T I R) (h1 : sb ≠ a) (h2 : bb ≠ a) : SbP sb bb n f T (w2 I a k v) R :=
  ⟨h.1, h.2.1, h.2.2.1, (w2_n1 h1).trans h.2.2.2.1, (w2_n1 h1).trans h.2.2.2.2.1, h.2.2.2.2.2.1, fun j hj => ⟨(w2_n1 h2).trans (h.2.2.2.2.2.2 j hj).1, (h.2.2.2.2.2.2 j hj).2⟩⟩
section RS
variable {T : KT} {I : KI} {R : KR} {J : KJ} {Bt : Nat → Nat} {sz : Nat}
theorem c_X6_go {rd i B : Nat} (hT : XT T) (hK : RdK rd sz T I R) (hx : TxR Bt sz I) (hi : i ≤ sz) (h2i : I rd 2 = nI i) (hB : ∀ a, B ≤ a → (T a).1 = 0) (hrB : rd < B) (hES : ES T) : MX6_go 6 8 [.ref rd] T I R J (fun r T' I' R' J' => r = none ∧ J' = J ∧ GF B rd T I R T' I' R' ∧ TkR Bt sz i rd T' I' R') noX := by
  have hb : ∀ k, k < sz → Bt k < 256 := fun k hk => (hx.2 k hk).2
  have hsz := hx.1
  obtain ⟨hrd, h0, h1, hr1⟩ := id hK
  have hbe := beg_sz (Bt := Bt) hi
  have hen := en_sz (Bt := Bt) hi
  have le_i : ∀ k, (97 ≤ nI (bz Bt sz k) ∧ nI (bz Bt sz k) ≤ 122) ↔ (k < sz ∧ isLe (Bt k) = true) := fun k => (bz_in hb (lo := 97) (hi := 122) (by omega) (by omega)).trans ⟨fun z => ⟨z.1, decide_eq_true z.2⟩, fun z => ⟨z.1, of_decide_eq_true z.2⟩⟩
  have di_i : ∀ k, (48 ≤ nI (bz Bt sz k) ∧ nI (bz Bt sz k) ≤ 57) ↔ (k < sz ∧ isDi (Bt k) = true) := fun k => (bz_in hb (lo := 48) (hi := 57) (by omega) (by omega)).trans ⟨fun z => ⟨z.1, decide_eq_true z.2⟩, fun z => ⟨z.1, of_decide_eq_true z.2⟩⟩
  refine AMet.of (by decide) (Nat.le_of_ble_eq_true rfl) (cats1 rfl) fun cx X E => ?_
  show AW _ _ _ (_ :: _ :: _ :: []) _ _ _ _ _
  have lD : ∀ d k (I' : KI) v1, sz - (beg Bt sz i + k) = d → beg Bt sz i + k ≤ sz → kd Bt sz i = 1 → run isDi Bt sz (beg Bt sz i + k) = en Bt sz i → (∀ j, j < k → isDi (Bt (beg Bt sz i + j)) = true) → RF rd I I' → I' rd 2 = nI (beg Bt sz i + k) → I' rd 3 = nI (beg Bt sz i) → I' rd 4 = nI (vl Bt (beg Bt sz i) (min 3 k)) → AW cx 8 196 [.ref rd, v1, .retAddr 0] [] T I' (w2 R rd 7 (some 20)) J := by
    intro d
    have fin : ∀ k (I' : KI) v1, kd Bt sz i = 1 → beg Bt sz i + k = en Bt sz i → RF rd I I' → I' rd 2 = nI (beg Bt sz i + k) → I' rd 3 = nI (beg Bt sz i) → I' rd 4 = nI (vl Bt (beg Bt sz i) (min 3 k)) → AW cx 8 259 [.ref rd, v1, .retAddr 0] [] T I' (w2 R rd 7 (some 20)) J := by
      intro k I' v1 hk hr hf g2 g3 g4
      have hkl : en Bt sz i - beg Bt sz i = k := by omega
      first | refine AW.aload_n X dX6_go_259 rfl rfl ?_ | refine AW.aloadN_n X dX6_go_259 rfl rfl ?_
      first | refine AW.aload_n X dX6_go_260 rfl rfl ?_ | refine AW.aloadN_n X dX6_go_260 rfl rfl ?_
      refine AW.getI X f_X6_35_4 (by first | assumption | exact hT _ _ rfl) dX6_go_261 ?_
      rw [g2]
      first | refine AW.aload_n X dX6_go_264 rfl rfl ?_ | refine AW.aloadN_n X dX6_go_264 rfl rfl ?_
      refine AW.getI X f_X6_42_4 (by first | assumption | exact hT _ _ rfl) dX6_go_265 ?_
      rw [g3]
      refine AW.isub X dX6_go_268 ?_
      rw [nI_sub (by omega), Nat.add_sub_cancel_left]
      refine AW.iconst X (v := 3) dX6_go_269 rfl ?_
      refine AW.icmp_le X (tgt := 277) dX6_go_270 rfl ?_ ?_
      · intro t270
        have e5 : (0 : Int32) = bI (ln Bt sz i) := (bI_f (fun z => by have := (nI_leI (a := k) (b := 3) (by omega) (by omega)).mp t270; unfold ln at z; omega)).symm
        refine AW.iconst X (v := 0) dX6_go_277 rfl ?_
        refine AW.putI X g_X6_go_45_4 (by omega) (by first | assumption | exact hT _ _ rfl) dX6_go_278 ?_ 
        first | refine AW.aload_n X dX6_go_281 rfl rfl ?_ | refine AW.aloadN_n X dX6_go_281 rfl rfl ?_
        refine AW.gets X 4 rfl q852 dX6_go_282 ?_
        first | refine AW.putR X g_X6_go_55_4 (by omega) (by first | assumption | exact hT _ _ rfl) dX6_go_285 ?_ | refine AW.putN X g_X6_go_55_4 (by omega) (by first | assumption | exact hT _ _ rfl) dX6_go_285 ?_
        refine AW.goto X (tgt := 336) dX6_go_288 rfl ?_
        refine AW.vreturn X E ?_ dX6_go_336
        exact ⟨rfl, rfl, GF.one (hf.w (by omega)), by rw [w2_n2 (by omega), g2, hr], (w2_n2 (by omega)).trans g3, by rw [w2_s, hk], fun _ => ⟨by rw [w2_s, e5], by rw [w2_n2 (by omega), g4]; unfold nv; rw [hkl]⟩, fun z => by omega, fun z => by omega⟩
      · intro f270
        have e5 : (1 : Int32) = bI (ln Bt sz i) := (bI_t (Decidable.of_not_not fun z => f270 (nI_le (a := k) (b := 3) (by unfold ln at z; omega) (by omega)))).symm
        refine AW.iconst X (v := 1) dX6_go_273 rfl ?_
        refine AW.goto X (tgt := 278) dX6_go_274 rfl ?_
        refine AW.putI X g_X6_go_45_4 (by omega) (by first | assumption | exact hT _ _ rfl) dX6_go_278 ?_ 
        first | refine AW.aload_n X dX6_go_281 rfl rfl ?_ | refine AW.aloadN_n X dX6_go_281 rfl rfl ?_
        refine AW.gets X 4 rfl q852 dX6_go_282 ?_
        first | refine AW.putR X g_X6_go_55_4 (by omega) (by first | assumption | exact hT _ _ rfl) dX6_go_285 ?_ | refine AW.putN X g_X6_go_55_4 (by omega) (by first | assumption | exact hT _ _ rfl) dX6_go_285 ?_
        refine AW.goto X (tgt := 336) dX6_go_288 rfl ?_
        refine AW.vreturn X E ?_ dX6_go_336
        exact ⟨rfl, rfl, GF.one (hf.w (by omega)), by rw [w2_n2 (by omega), g2, hr], (w2_n2 (by omega)).trans g3, by rw [w2_s, hk], fun _ => ⟨by rw [w2_s, e5], by rw [w2_n2 (by omega), g4]; unfold nv; rw [hkl]⟩, fun z => by omega, fun z => by omega⟩
    induction d with
    | zero =>
      intro k I' v1 hd hj hk hr hdg hf g2 g3 g4
      have hno : ¬ (beg Bt sz i + k < sz ∧ isDi (Bt (beg Bt sz i + k)) = true) := by omega
      rw [run_e hno] at hr
      first | refine AW.aload_n X dX6_go_196 rfl rfl ?_ | refine AW.aloadN_n X dX6_go_196 rfl rfl ?_
      first | refine AW.aload_n X dX6_go_197 rfl rfl ?_ | refine AW.aloadN_n X dX6_go_197 rfl rfl ?_
      refine AW.getI X f_X6_35_4 (by first | assumption | exact hT _ _ rfl) dX6_go_198 ?_
      rw [g2]
      refine AW.callV_r X (c_X6_byteAt hT (hK.rf hf (w2_n2 (by omega))) (hx.rf hr1 hf) (by omega)) (ci := 4) (q := (RX6, TX6, 11)) (by first | assumption | exact hT _ _ rfl) rfl s_X6_38_4 (by omega) (Nat.le_of_ble_eq_true rfl) rfl rfl (Nat.le_of_ble_eq_true rfl) dX6_go_201 ?_
      refine AW.callS_r X (c_X6_isDigit _) s_X6_82 (by omega) (Nat.le_of_ble_eq_true rfl) rfl rfl (Nat.le_of_ble_eq_true rfl) dX6_go_204 ?_
      rw [bI_f (fun z => hno ((di_i _).mp z))]
      refine AW.if_eq X (tgt := 259) dX6_go_207 rfl ?_ ?_
      · intro t207
        exact fin k _ _ hk hr hf g2 g3 g4
      · intro f207
        exact absurd rfl f207
    | succ d ih =>
      intro k I' v1 hd hj hk hr hdg hf g2 g3 g4
      by_cases hc : beg Bt sz i + k < sz ∧ isDi (Bt (beg Bt sz i + k)) = true
      · rw [run_s hc.1 hc.2] at hr
        have hdg1 : ∀ j, j < k + 1 → isDi (Bt (beg Bt sz i + j)) = true := fun j hj => by
          rcases Nat.lt_or_eq_of_le (Nat.le_of_lt_succ hj) with hl | rfl
          · exact hdg j hl
          · exact hc.2
        have hbz : bz Bt sz (beg Bt sz i + k) = Bt (beg Bt sz i + k) := if_pos hc.1
        first | refine AW.aload_n X dX6_go_196 rfl rfl ?_ | refine AW.aloadN_n X dX6_go_196 rfl rfl ?_
        first | refine AW.aload_n X dX6_go_197 rfl rfl ?_ | refine AW.aloadN_n X dX6_go_197 rfl rfl ?_
        refine AW.getI X f_X6_35_4 (by first | assumption | exact hT _ _ rfl) dX6_go_198 ?_
        rw [g2]
        refine AW.callV_r X (c_X6_byteAt hT (hK.rf hf (w2_n2 (by omega))) (hx.rf hr1 hf) (by omega)) (ci := 4) (q := (RX6, TX6, 11)) (by first | assumption | exact hT _ _ rfl) rfl s_X6_38_4 (by omega) (Nat.le_of_ble_eq_true rfl) rfl rfl (Nat.le_of_ble_eq_true rfl) dX6_go_201 ?_
        refine AW.callS_r X (c_X6_isDigit _) s_X6_82 (by omega) (Nat.le_of_ble_eq_true rfl) rfl rfl (Nat.le_of_ble_eq_true rfl) dX6_go_204 ?_
        rw [bI_t ((di_i _).mpr hc)]
        refine AW.if_eq X (tgt := 259) dX6_go_207 rfl ?_ ?_
        · intro t207
          exact absurd t207 (by decide)
        · intro f207
          first | refine AW.aload_n X dX6_go_210 rfl rfl ?_ | refine AW.aloadN_n X dX6_go_210 rfl rfl ?_
          refine AW.getI X f_X6_35_4 (by first | assumption | exact hT _ _ rfl) dX6_go_211 ?_
          rw [g2]
          first | refine AW.aload_n X dX6_go_214 rfl rfl ?_ | refine AW.aloadN_n X dX6_go_214 rfl rfl ?_
          refine AW.getI X f_X6_42_4 (by first | assumption | exact hT _ _ rfl) dX6_go_215 ?_
          rw [g3]
          refine AW.isub X dX6_go_218 ?_
          rw [nI_sub (by omega), Nat.add_sub_cancel_left]
          refine AW.iconst X (v := 3) dX6_go_219 rfl ?_
          refine AW.icmp_ge X (tgt := 246) dX6_go_220 rfl ?_ ?_
          · intro t220
            have hk3 : 3 ≤ k := (nI_leI (a := 3) (b := k) (by omega) (by omega)).mp t220
            have g4 : I' rd 4 = nI (vl Bt (beg Bt sz i) (min 3 (k + 1))) := by rw [g4, Nat.min_eq_left hk3, Nat.min_eq_left (by omega)]
            first | refine AW.aload_n X dX6_go_246 rfl rfl ?_ | refine AW.aloadN_n X dX6_go_246 rfl rfl ?_
            refine AW.dup X dX6_go_247 rfl ?_
            refine AW.getI X f_X6_35_4 (by first | assumption | exact hT _ _ rfl) dX6_go_248 ?_
            rw [g2]
            refine AW.iconst X (v := 1) dX6_go_251 rfl ?_
            refine AW.iadd X dX6_go_252 ?_
            rw [nI_1]
            refine AW.putI X g_X6_go_35_4 (by omega) (by first | assumption | exact hT _ _ rfl) dX6_go_253 ?_ 
            refine AW.goto X (tgt := 196) dX6_go_256 rfl ?_
            exact ih (k + 1) _ _ (by omega) (by omega) hk hr hdg1 (hf.w (by omega)) (w2_s _ _ _ _) ((w2_n2 (by omega)).trans g3) ((w2_n2 (by omega)).trans g4)
          · intro f220
            have hk3 : k < 3 := Nat.lt_of_not_le fun z => f220 (nI_le (a := 3) (b := k) z (by omega))
            have hv : 10 * nI (vl Bt (beg Bt sz i) k) + nI (Bt (beg Bt sz i + k)) - 48 = nI (vl Bt (beg Bt sz i) (k + 1)) := vl_s hk3 (fun j hj => hdg1 j (by omega))
            first | refine AW.aload_n X dX6_go_223 rfl rfl ?_ | refine AW.aloadN_n X dX6_go_223 rfl rfl ?_
            refine AW.bipush X (v := 10) dX6_go_224 rfl ?_
            first | refine AW.aload_n X dX6_go_226 rfl rfl ?_ | refine AW.aloadN_n X dX6_go_226 rfl rfl ?_
            refine AW.getI X f_X6_85_4 (by first | assumption | exact hT _ _ rfl) dX6_go_227 ?_
            rw [g4, Nat.min_eq_right (by omega : k ≤ 3)]
            refine AW.imul X dX6_go_230 ?_
            first | refine AW.aload_n X dX6_go_231 rfl rfl ?_ | refine AW.aloadN_n X dX6_go_231 rfl rfl ?_
            first | refine AW.aload_n X dX6_go_232 rfl rfl ?_ | refine AW.aloadN_n X dX6_go_232 rfl rfl ?_
            refine AW.getI X f_X6_35_4 (by first | assumption | exact hT _ _ rfl) dX6_go_233 ?_
            rw [g2]
            refine AW.callV_r X (c_X6_byteAt hT (hK.rf hf (w2_n2 (by omega))) (hx.rf hr1 hf) (by omega)) (ci := 4) (q := (RX6, TX6, 11)) (by first | assumption | exact hT _ _ rfl) rfl s_X6_38_4 (by omega) (Nat.le_of_ble_eq_true rfl) rfl rfl (Nat.le_of_ble_eq_true rfl) dX6_go_236 ?_
            rw [hbz]
            refine AW.iadd X dX6_go_239 ?_
            refine AW.bipush X (v := 48) dX6_go_240 rfl ?_
            refine AW.isub X dX6_go_242 ?_
            rw [hv]
            refine AW.putI X g_X6_go_85_4 (by omega) (by first | assumption | exact hT _ _ rfl) dX6_go_243 ?_ 
            have g2 : w2 I' rd 4 (nI (vl Bt (beg Bt sz i) (k + 1))) rd 2 = nI (beg Bt sz i + k) := (w2_n2 (by omega)).trans g2
            have g3 : w2 I' rd 4 (nI (vl Bt (beg Bt sz i) (k + 1))) rd 3 = nI (beg Bt sz i) := (w2_n2 (by omega)).trans g3
            have g4 : w2 I' rd 4 (nI (vl Bt (beg Bt sz i) (k + 1))) rd 4 = nI (vl Bt (beg Bt sz i) (min 3 (k + 1))) := by rw [w2_s, Nat.min_eq_right (by omega : k + 1 ≤ 3)]
            have hf := hf.w (k := 4) (v := nI (vl Bt (beg Bt sz i) (k + 1))) (by omega)
            first | refine AW.aload_n X dX6_go_246 rfl rfl ?_ | refine AW.aloadN_n X dX6_go_246 rfl rfl ?_
            refine AW.dup X dX6_go_247 rfl ?_
            refine AW.getI X f_X6_35_4 (by first | assumption | exact hT _ _ rfl) dX6_go_248 ?_
            rw [g2]
            refine AW.iconst X (v := 1) dX6_go_251 rfl ?_
            refine AW.iadd X dX6_go_252 ?_
            rw [nI_1]
            refine AW.putI X g_X6_go_35_4 (by omega) (by first | assumption | exact hT _ _ rfl) dX6_go_253 ?_ 
            refine AW.goto X (tgt := 196) dX6_go_256 rfl ?_
            exact ih (k + 1) _ _ (by omega) (by omega) hk hr hdg1 (hf.w (by omega)) (w2_s _ _ _ _) ((w2_n2 (by omega)).trans g3) ((w2_n2 (by omega)).trans g4)
      · rw [run_e hc] at hr
        first | refine AW.aload_n X dX6_go_196 rfl rfl ?_ | refine AW.aloadN_n X dX6_go_196 rfl rfl ?_
        first | refine AW.aload_n X dX6_go_197 rfl rfl ?_ | refine AW.aloadN_n X dX6_go_197 rfl rfl ?_
        refine AW.getI X f_X6_35_4 (by first | assumption | exact hT _ _ rfl) dX6_go_198 ?_
        rw [g2]
        refine AW.callV_r X (c_X6_byteAt hT (hK.rf hf (w2_n2 (by omega))) (hx.rf hr1 hf) (by omega)) (ci := 4) (q := (RX6, TX6, 11)) (by first | assumption | exact hT _ _ rfl) rfl s_X6_38_4 (by omega) (Nat.le_of_ble_eq_true rfl) rfl rfl (Nat.le_of_ble_eq_true rfl) dX6_go_201 ?_
        refine AW.callS_r X (c_X6_isDigit _) s_X6_82 (by omega) (Nat.le_of_ble_eq_true rfl) rfl rfl (Nat.le_of_ble_eq_true rfl) dX6_go_204 ?_
        rw [bI_f (fun z => hc ((di_i _).mp z))]
        refine AW.if_eq X (tgt := 259) dX6_go_207 rfl ?_ ?_
        · intro t207
          exact fin k _ _ hk hr hf g2 g3 g4
        · intro f207
          exact absurd rfl f207
  obtain ⟨T1, eT1⟩ : ∃ t, t = row (row T B (121, 0)) (B + 1) (3, 9) := ⟨_, rfl⟩
  obtain ⟨R1, eR1⟩ : ∃ t, t = w2 (row (row (w2 R rd 7 (some 20)) B (fun _ => none)) (B + 1) (fun _ => none)) B 0 (some (B + 1)) := ⟨_, rfl⟩
  have hT1 : XT T1 := hT.big (fun a ha => by rw [eT1, row_n (by omega), row_n (by omega)])
  have hrd1 : T1 rd = (104, 0) := by rw [eT1, row_n (by omega), row_n (by omega)]; exact hrd
  have hR1r : ∀ a, a < B → a ≠ rd → R1 a = R a := fun a ha hn => by rw [eR1, w2_r (by omega), row_n (by omega), row_n (by omega), w2_r hn]
  have hR1d : ∀ j, j ≠ 7 → R1 rd j = R rd j := fun j hj => by rw [eR1, w2_n1 (by omega), row_n (by omega), row_n (by omega), w2_n2 hj]
  have hf1 : (T1 (B + 2)).1 = 0 := by rw [eT1, row_n (by omega), row_n (by omega)]; exact hB _ (by omega)
  have hf2 : (T1 (B + 3)).1 = 0 := by rw [eT1, row_n (by omega), row_n (by omega)]; exact hB _ (by omega)
  have lW : ∀ d k (I' : KI) v1, sz - (beg Bt sz i + k) = d → beg Bt sz i + k ≤ sz → kd Bt sz i = 0 → run isLe Bt sz (beg Bt sz i + k) = en Bt sz i → FB B rd I I' → I' rd 2 = nI (beg Bt sz i + k) → I' rd 3 = nI (beg Bt sz i) → SbP B (B + 1) (min 9 k) (fun j => Bt (beg Bt sz i + j)) T1 I' R1 → AW cx 4 116 [.ref rd, v1, .ref B] [] T1 I' R1 J := by
    intro d
    have fin : ∀ k (I' : KI) v1, kd Bt sz i = 0 → beg Bt sz i + k = en Bt sz i → FB B rd I I' → I' rd 2 = nI (beg Bt sz i + k) → I' rd 3 = nI (beg Bt sz i) → SbP B (B + 1) (min 9 k) (fun j => Bt (beg Bt sz i + j)) T1 I' R1 → AW cx 4 166 [.ref rd, v1, .ref B] [] T1 I' R1 J := by
      intro k I' v1 hk hr hf g2 g3 hS
      have hkl : en Bt sz i - beg Bt sz i = k := by omega
      have hS7 := hS.2.2.2.2.2.2
      have hrt : ∀ n, row (row T1 (B + 2) (120, 0)) (B + 3) (3, n) rd = (104, 0) := fun n => by rw [row_n (by omega), row_n (by omega)]; exact hrd1
      first | refine AW.aload_n X dX6_go_166 rfl rfl ?_ | refine AW.aloadN_n X dX6_go_166 rfl rfl ?_
      first | refine AW.aload_n X dX6_go_167 rfl rfl ?_ | refine AW.aloadN_n X dX6_go_167 rfl rfl ?_
      refine AW.le (b' := 0 + 4) (by omega) (AW.callV X (c_J8_toString hS (by omega) hf1 (by omega) hf2 (by omega) (by omega)) (ci := 21) (q := (RJ8, TJ8, 4)) hS.1 rfl s_X6_75_21 (by omega) (Nat.le_of_ble_eq_true rfl) rfl rfl (Nat.le_of_ble_eq_true rfl) dX6_go_168 ?_ ?_)
      rotate_left
      · intro _ _ _ _ _ h; exact h.elim
      intro r168 T168 I168 R168 J168 h168
      obtain ⟨rfl, rfl, rfl, rfl, g, rfl, hg⟩ := h168
      first | refine AW.putR X g_X6_go_11_4 (by omega) (hrt _) dX6_go_171 ?_ | refine AW.putN X g_X6_go_11_4 (by omega) (hrt _) dX6_go_171 ?_
      first | refine AW.aload_n X dX6_go_174 rfl rfl ?_ | refine AW.aloadN_n X dX6_go_174 rfl rfl ?_
      refine AW.gets X 3 rfl q847 dX6_go_175 ?_
      first | refine AW.putR X g_X6_go_55_4 (by omega) (hrt _) dX6_go_178 ?_ | refine AW.putN X g_X6_go_55_4 (by omega) (hrt _) dX6_go_178 ?_
      refine AW.goto X (tgt := 336) dX6_go_181 rfl ?_
      refine AW.vreturn X E ?_ dX6_go_336
      refine ⟨rfl, rfl, ⟨fun a ha => ?_, fun a h1 h2 => ⟨?_, ?_⟩, fun j hj => ⟨?_, ?_⟩⟩, ?_, ?_, ?_, fun z => by omega, fun _ => ⟨B + 2, ?_, ?_⟩, fun z => by omega⟩
      · rw [row_n (by omega), row_n (by omega), eT1, row_n (by omega), row_n (by omega)]
      · rw [row_n (by omega), w2_r (by omega), row_n (by omega)]; exact hf.1 a h1 h2
      · rw [w2_r h2, w2_r h2, w2_r (by omega), row_n (by omega), row_n (by omega)]; exact hR1r a h1 h2
      · rw [row_n (by omega), w2_n1 (by omega), row_n (by omega)]; exact hf.2 j hj
      · rw [w2_n2 (by omega), w2_n2 (by omega), w2_n1 (by omega), row_n (by omega), row_n (by omega)]; exact hR1d j (by omega)
      · rw [row_n (by omega), w2_n1 (by omega), row_n (by omega), g2, hr]
      · rw [row_n (by omega), w2_n1 (by omega), row_n (by omega), g3]
      · rw [w2_s, hk]
      · rw [w2_n2 (by omega), w2_s]
      · refine ⟨?_, ⟨B + 3, ?_, ?_, fun j hj => ?_⟩, ?_, ?_, fun j hj => ?_⟩
        · rw [row_n (by omega), row_s]
        · rw [w2_n1 (by omega), w2_n1 (by omega), w2_s]
        · rw [row_s, wdL_len, hkl]
        · rw [wdL_len, hkl] at hj
          rw [row_s, hg j hj, (hS7 j hj).1, wdL_get (by rw [hkl]; exact hj)]
        · rw [row_n (by omega), w2_s]
        · rw [wdL_len]; omega
        · rw [wdL_len, hkl] at hj
          rw [wdL_get (by rw [hkl]; exact hj)]; exact (hS7 j hj).2
    induction d with
    | zero =>
      intro k I' v1 hd hj hk hr hf g2 g3 hS
      have hno : ¬ (beg Bt sz i + k < sz ∧ isLe (Bt (beg Bt sz i + k)) = true) := by omega
      rw [run_e hno] at hr
      first | refine AW.aload_n X dX6_go_116 rfl rfl ?_ | refine AW.aloadN_n X dX6_go_116 rfl rfl ?_
      first | refine AW.aload_n X dX6_go_117 rfl rfl ?_ | refine AW.aloadN_n X dX6_go_117 rfl rfl ?_
      refine AW.getI X f_X6_35_4 (by first | assumption | exact hT _ _ rfl) dX6_go_118 ?_
      rw [g2]
      refine AW.callV_r X (c_X6_byteAt hT1 (hf.rdk hrd1 (hR1d 0 (by omega)) hK) (hf.tx hrB hr1 hx) (by omega)) (ci := 4) (q := (RX6, TX6, 11)) (by first | assumption | exact hT _ _ rfl) rfl s_X6_38_4 (by omega) (Nat.le_of_ble_eq_true rfl) rfl rfl (Nat.le_of_ble_eq_true rfl) dX6_go_121 ?_
      refine AW.callS_r X (c_X6_isLetter _) s_X6_58 (by omega) (Nat.le_of_ble_eq_true rfl) rfl rfl (Nat.le_of_ble_eq_true rfl) dX6_go_124 ?_
      rw [bI_f (fun z => hno ((le_i _).mp z))]
      refine AW.if_eq X (tgt := 166) dX6_go_127 rfl ?_ ?_
      · intro t127
        exact fin k _ _ hk hr hf g2 g3 hS
      · intro f127
        exact absurd rfl f127
    | succ d ih =>
      intro k I' v1 hd hj hk hr hf g2 g3 hS
      by_cases hc : beg Bt sz i + k < sz ∧ isLe (Bt (beg Bt sz i + k)) = true
      · rw [run_s hc.1 hc.2] at hr
        have hbz : bz Bt sz (beg Bt sz i + k) = Bt (beg Bt sz i + k) := if_pos hc.1
        have hv := of_decide_eq_true hc.2
        have hS0 := hS
        first | refine AW.aload_n X dX6_go_116 rfl rfl ?_ | refine AW.aloadN_n X dX6_go_116 rfl rfl ?_
        first | refine AW.aload_n X dX6_go_117 rfl rfl ?_ | refine AW.aloadN_n X dX6_go_117 rfl rfl ?_
        refine AW.getI X f_X6_35_4 (by first | assumption | exact hT _ _ rfl) dX6_go_118 ?_
        rw [g2]
        refine AW.callV_r X (c_X6_byteAt hT1 (hf.rdk hrd1 (hR1d 0 (by omega)) hK) (hf.tx hrB hr1 hx) (by omega)) (ci := 4) (q := (RX6, TX6, 11)) (by first | assumption | exact hT _ _ rfl) rfl s_X6_38_4 (by omega) (Nat.le_of_ble_eq_true rfl) rfl rfl (Nat.le_of_ble_eq_true rfl) dX6_go_121 ?_
        refine AW.callS_r X (c_X6_isLetter _) s_X6_58 (by omega) (Nat.le_of_ble_eq_true rfl) rfl rfl (Nat.le_of_ble_eq_true rfl) dX6_go_124 ?_
        rw [bI_t ((le_i _).mpr hc)]
        refine AW.if_eq X (tgt := 166) dX6_go_127 rfl ?_ ?_
        · intro t127
          exact absurd t127 (by decide)
        · intro f127
          first | refine AW.aload_n X dX6_go_130 rfl rfl ?_ | refine AW.aloadN_n X dX6_go_130 rfl rfl ?_
          refine AW.callV_r X (c_J8_length hS.1 hS.2.2.2.2.1) (ci := 21) (q := (RJ8, TJ8, 4)) hS.1 rfl s_X6_67_21 (by omega) (Nat.le_of_ble_eq_true rfl) rfl rfl (Nat.le_of_ble_eq_true rfl) dX6_go_131 ?_
          refine AW.bipush X (v := 9) dX6_go_134 rfl ?_
          refine AW.icmp_ge X (tgt := 153) dX6_go_136 rfl ?_ ?_
          · intro t136
            have hk9 : 9 ≤ k := by have := (nI_leI (a := 9) (b := min 9 k) (by omega) (by omega)).mp t136; omega
            have hS1 : SbP B (B + 1) (min 9 (k + 1)) (fun j => Bt (beg Bt sz i + j)) T1 I' R1 := by rw [show min 9 (k + 1) = min 9 k by omega]; exact hS
            first | refine AW.aload_n X dX6_go_153 rfl rfl ?_ | refine AW.aloadN_n X dX6_go_153 rfl rfl ?_
            refine AW.dup X dX6_go_154 rfl ?_
            refine AW.getI X f_X6_35_4 (by first | assumption | exact hT _ _ rfl) dX6_go_155 ?_
            rw [g2]
            refine AW.iconst X (v := 1) dX6_go_158 rfl ?_
            refine AW.iadd X dX6_go_159 ?_
            rw [nI_1]
            refine AW.putI X g_X6_go_35_4 (by omega) (by first | assumption | exact hT _ _ rfl) dX6_go_160 ?_ 
            refine AW.goto X (tgt := 116) dX6_go_163 rfl ?_
            exact ih (k + 1) _ _ (by omega) (by omega) hk hr (hf.w (by omega)) (w2_s _ _ _ _) ((w2_n2 (by omega)).trans g3) (hS1.w (by omega) (by omega))
          · intro f136
            have hk9 : k < 9 := Nat.lt_of_not_le fun z => f136 (nI_le (a := 9) (b := min 9 k) (by omega) (by omega))
            rw [Nat.min_eq_right (by omega : k ≤ 9)] at hS0
            first | refine AW.aload_n X dX6_go_139 rfl rfl ?_ | refine AW.aloadN_n X dX6_go_139 rfl rfl ?_
            first | refine AW.aload_n X dX6_go_140 rfl rfl ?_ | refine AW.aloadN_n X dX6_go_140 rfl rfl ?_
            first | refine AW.aload_n X dX6_go_141 rfl rfl ?_ | refine AW.aloadN_n X dX6_go_141 rfl rfl ?_
            refine AW.getI X f_X6_35_4 (by first | assumption | exact hT _ _ rfl) dX6_go_142 ?_
            rw [g2]
            refine AW.callV_r X (c_X6_byteAt hT1 (hf.rdk hrd1 (hR1d 0 (by omega)) hK) (hf.tx hrB hr1 hx) (by omega)) (ci := 4) (q := (RX6, TX6, 11)) (by first | assumption | exact hT _ _ rfl) rfl s_X6_38_4 (by omega) (Nat.le_of_ble_eq_true rfl) rfl rfl (Nat.le_of_ble_eq_true rfl) dX6_go_145 ?_
            rw [hbz]
            refine AW.i2c X dX6_go_148 ?_
            rw [(chr_ok _ (by omega)).2]
            refine AW.callV_i X (c_J8_append_3 hS0 hk9 (by omega) (by omega) (by omega)) (ci := 21) (q := (RJ8, TJ8, 4)) hS.1 rfl s_X6_71_21 (by omega) (Nat.le_of_ble_eq_true rfl) rfl rfl (Nat.le_of_ble_eq_true rfl) dX6_go_149 ?_
            intro r149 I149 h149
            obtain ⟨rfl, rfl⟩ := h149
            refine AW.pop X dX6_go_152 rfl ?_
            have hS1 : SbP B (B + 1) (min 9 (k + 1)) (fun j => Bt (beg Bt sz i + j)) T1 (w2 (w2 I' B 3 (nI (k + 1))) (B + 1) k (nI (Bt (beg Bt sz i + k)))) R1 := by
              rw [show min 9 (k + 1) = k + 1 by omega]
              exact hS0.add hk9 (by show Bt (beg Bt sz i + k) < 128; omega) (by omega)
            have g2 : w2 (w2 I' B 3 (nI (k + 1))) (B + 1) k (nI (Bt (beg Bt sz i + k))) rd 2 = nI (beg Bt sz i + k) := (w2_n1 (by omega)).trans ((w2_n1 (by omega)).trans g2)
            have g3 : w2 (w2 I' B 3 (nI (k + 1))) (B + 1) k (nI (Bt (beg Bt sz i + k))) rd 3 = nI (beg Bt sz i) := (w2_n1 (by omega)).trans ((w2_n1 (by omega)).trans g3)
            have hf := (hf.o (a := B) (k := 3) (v := nI (k + 1)) hrB (Nat.le_refl _)).o (a := B + 1) (k := k) (v := nI (Bt (beg Bt sz i + k))) hrB (by omega)
            first | refine AW.aload_n X dX6_go_153 rfl rfl ?_ | refine AW.aloadN_n X dX6_go_153 rfl rfl ?_
            refine AW.dup X dX6_go_154 rfl ?_
            refine AW.getI X f_X6_35_4 (by first | assumption | exact hT _ _ rfl) dX6_go_155 ?_
            rw [g2]
            refine AW.iconst X (v := 1) dX6_go_158 rfl ?_
            refine AW.iadd X dX6_go_159 ?_
            rw [nI_1]
            refine AW.putI X g_X6_go_35_4 (by omega) (by first | assumption | exact hT _ _ rfl) dX6_go_160 ?_ 
            refine AW.goto X (tgt := 116) dX6_go_163 rfl ?_
            exact ih (k + 1) _ _ (by omega) (by omega) hk hr (hf.w (by omega)) (w2_s _ _ _ _) ((w2_n2 (by omega)).trans g3) (hS1.w (by omega) (by omega))
      · rw [run_e hc] at hr
        first | refine AW.aload_n X dX6_go_116 rfl rfl ?_ | refine AW.aloadN_n X dX6_go_116 rfl rfl ?_
        first | refine AW.aload_n X dX6_go_117 rfl rfl ?_ | refine AW.aloadN_n X dX6_go_117 rfl rfl ?_
        refine AW.getI X f_X6_35_4 (by first | assumption | exact hT _ _ rfl) dX6_go_118 ?_
        rw [g2]
        refine AW.callV_r X (c_X6_byteAt hT1 (hf.rdk hrd1 (hR1d 0 (by omega)) hK) (hf.tx hrB hr1 hx) (by omega)) (ci := 4) (q := (RX6, TX6, 11)) (by first | assumption | exact hT _ _ rfl) rfl s_X6_38_4 (by omega) (Nat.le_of_ble_eq_true rfl) rfl rfl (Nat.le_of_ble_eq_true rfl) dX6_go_121 ?_
        refine AW.callS_r X (c_X6_isLetter _) s_X6_58 (by omega) (Nat.le_of_ble_eq_true rfl) rfl rfl (Nat.le_of_ble_eq_true rfl) dX6_go_124 ?_
        rw [bI_f (fun z => hc ((le_i _).mp z))]
        refine AW.if_eq X (tgt := 166) dX6_go_127 rfl ?_ ?_
        · intro t127
          exact fin k _ _ hk hr hf g2 g3 hS
        · intro f127
          exact absurd rfl f127
  have aft : ∀ I', RF rd I I' → I' rd 2 = nI (beg Bt sz i) → AW cx 8 50 [.ref rd, .retAddr 0, .retAddr 0] [] T I' R J := by
    intro I' hf g2
    have hf' := (hf.w (k := 3) (v := nI (beg Bt sz i)) (by omega)).w (k := 5) (v := 0) (by omega)
    have g2' : w2 (w2 I' rd 3 (nI (beg Bt sz i))) rd 5 0 rd 2 = nI (beg Bt sz i) := (w2_n2 (by omega)).trans ((w2_n2 (by omega)).trans g2)
    have g3' : w2 (w2 I' rd 3 (nI (beg Bt sz i))) rd 5 0 rd 3 = nI (beg Bt sz i) := (w2_n2 (by omega)).trans (w2_s _ _ _ _)
    have g1' := (hf'.2 1 (by omega)).trans h1
    have hK' := hK.rf hf' (R' := w2 R rd 7 (some 20)) (w2_n2 (by omega))
    have hx' := hx.rf hr1 hf'
    by_cases h4 : kd Bt sz i = 4
    · have hge := kd4.mp h4
      have hee : en Bt sz i = beg Bt sz i := by unfold en; rw [if_pos h4]
      first | refine AW.aload_n X dX6_go_50 rfl rfl ?_ | refine AW.aloadN_n X dX6_go_50 rfl rfl ?_
      first | refine AW.aload_n X dX6_go_51 rfl rfl ?_ | refine AW.aloadN_n X dX6_go_51 rfl rfl ?_
      refine AW.getI X f_X6_35_4 (by first | assumption | exact hT _ _ rfl) dX6_go_52 ?_
      rw [g2]
      refine AW.putI X g_X6_go_42_4 (by omega) (by first | assumption | exact hT _ _ rfl) dX6_go_55 ?_ 
      first | refine AW.aload_n X dX6_go_58 rfl rfl ?_ | refine AW.aloadN_n X dX6_go_58 rfl rfl ?_
      refine AW.ldcS X 0 rfl rfl dX6_go_59 ?_
      first | refine AW.putR X g_X6_go_11_4 (by omega) (by first | assumption | exact hT _ _ rfl) dX6_go_61 ?_ | refine AW.putN X g_X6_go_11_4 (by omega) (by first | assumption | exact hT _ _ rfl) dX6_go_61 ?_
      first | refine AW.aload_n X dX6_go_64 rfl rfl ?_ | refine AW.aloadN_n X dX6_go_64 rfl rfl ?_
      refine AW.iconst X (v := 0) dX6_go_65 rfl ?_
      refine AW.putI X g_X6_go_45_4 (by omega) (by first | assumption | exact hT _ _ rfl) dX6_go_66 ?_ 
      first | refine AW.aload_n X dX6_go_69 rfl rfl ?_ | refine AW.aloadN_n X dX6_go_69 rfl rfl ?_
      first | refine AW.aload_n X dX6_go_70 rfl rfl ?_ | refine AW.aloadN_n X dX6_go_70 rfl rfl ?_
      refine AW.getI X f_X6_35_4 (by first | assumption | exact hT _ _ rfl) dX6_go_71 ?_
      rw [g2']
      refine AW.callV_r X (c_X6_byteAt hT hK' hx' (by omega)) (ci := 4) (q := (RX6, TX6, 11)) (by first | assumption | exact hT _ _ rfl) rfl s_X6_38_4 (by omega) (Nat.le_of_ble_eq_true rfl) rfl rfl (Nat.le_of_ble_eq_true rfl) dX6_go_74 ?_
      refine AW.istore1 X dX6_go_77 ?_
      first | refine AW.aload_n X dX6_go_78 rfl rfl ?_ | refine AW.aloadN_n X dX6_go_78 rfl rfl ?_
      refine AW.getI X f_X6_35_4 (by first | assumption | exact hT _ _ rfl) dX6_go_79 ?_
      rw [g2']
      first | refine AW.aload_n X dX6_go_82 rfl rfl ?_ | refine AW.aloadN_n X dX6_go_82 rfl rfl ?_
      refine AW.getI X f_X6_28_4 (by first | assumption | exact hT _ _ rfl) dX6_go_83 ?_
      rw [g1']
      refine AW.icmp_lt X (tgt := 99) dX6_go_86 rfl ?_ ?_
      · intro t86
        exact absurd ((nI_ltI (by omega) (by omega)).mp t86) (by omega)
      · intro f86
        first | refine AW.aload_n X dX6_go_89 rfl rfl ?_ | refine AW.aloadN_n X dX6_go_89 rfl rfl ?_
        refine AW.gets X 7 rfl q816 dX6_go_90 ?_
        first | refine AW.putR X g_X6_go_55_4 (by omega) (by first | assumption | exact hT _ _ rfl) dX6_go_93 ?_ | refine AW.putN X g_X6_go_55_4 (by omega) (by first | assumption | exact hT _ _ rfl) dX6_go_93 ?_
        refine AW.goto X (tgt := 336) dX6_go_96 rfl ?_
        refine AW.vreturn X E ?_ dX6_go_336
        exact ⟨rfl, rfl, GF.one hf', by rw [g2', hee], g3', by rw [w2_s, h4], fun z => by omega, fun z => by omega, fun z => by omega⟩
    · have hlt := kd_lt h4
      have hbz : bz Bt sz (beg Bt sz i) = Bt (beg Bt sz i) := if_pos hlt
      by_cases hk0 : kd Bt sz i = 0
      · have hle := kd0 hk0
        have hr0 : run isLe Bt sz (beg Bt sz i + 0) = en Bt sz i := by unfold en; rw [if_neg h4, if_pos hk0]; rfl
        first | refine AW.aload_n X dX6_go_50 rfl rfl ?_ | refine AW.aloadN_n X dX6_go_50 rfl rfl ?_
        first | refine AW.aload_n X dX6_go_51 rfl rfl ?_ | refine AW.aloadN_n X dX6_go_51 rfl rfl ?_
        refine AW.getI X f_X6_35_4 (by first | assumption | exact hT _ _ rfl) dX6_go_52 ?_
        rw [g2]
        refine AW.putI X g_X6_go_42_4 (by omega) (by first | assumption | exact hT _ _ rfl) dX6_go_55 ?_ 
        first | refine AW.aload_n X dX6_go_58 rfl rfl ?_ | refine AW.aloadN_n X dX6_go_58 rfl rfl ?_
        refine AW.ldcS X 0 rfl rfl dX6_go_59 ?_
        first | refine AW.putR X g_X6_go_11_4 (by omega) (by first | assumption | exact hT _ _ rfl) dX6_go_61 ?_ | refine AW.putN X g_X6_go_11_4 (by omega) (by first | assumption | exact hT _ _ rfl) dX6_go_61 ?_
        first | refine AW.aload_n X dX6_go_64 rfl rfl ?_ | refine AW.aloadN_n X dX6_go_64 rfl rfl ?_
        refine AW.iconst X (v := 0) dX6_go_65 rfl ?_
        refine AW.putI X g_X6_go_45_4 (by omega) (by first | assumption | exact hT _ _ rfl) dX6_go_66 ?_ 
        first | refine AW.aload_n X dX6_go_69 rfl rfl ?_ | refine AW.aloadN_n X dX6_go_69 rfl rfl ?_
        first | refine AW.aload_n X dX6_go_70 rfl rfl ?_ | refine AW.aloadN_n X dX6_go_70 rfl rfl ?_
        refine AW.getI X f_X6_35_4 (by first | assumption | exact hT _ _ rfl) dX6_go_71 ?_
        rw [g2']
        refine AW.callV_r X (c_X6_byteAt hT hK' hx' (by omega)) (ci := 4) (q := (RX6, TX6, 11)) (by first | assumption | exact hT _ _ rfl) rfl s_X6_38_4 (by omega) (Nat.le_of_ble_eq_true rfl) rfl rfl (Nat.le_of_ble_eq_true rfl) dX6_go_74 ?_
        refine AW.istore1 X dX6_go_77 ?_
        first | refine AW.aload_n X dX6_go_78 rfl rfl ?_ | refine AW.aloadN_n X dX6_go_78 rfl rfl ?_
        refine AW.getI X f_X6_35_4 (by first | assumption | exact hT _ _ rfl) dX6_go_79 ?_
        rw [g2']
        first | refine AW.aload_n X dX6_go_82 rfl rfl ?_ | refine AW.aloadN_n X dX6_go_82 rfl rfl ?_
        refine AW.getI X f_X6_28_4 (by first | assumption | exact hT _ _ rfl) dX6_go_83 ?_
        rw [g1']
        refine AW.icmp_lt X (tgt := 99) dX6_go_86 rfl ?_ ?_
        · intro t86
          refine AW.iload_n X dX6_go_99 rfl rfl ?_
          refine AW.callS_r X (c_X6_isLetter _) s_X6_58 (by omega) (Nat.le_of_ble_eq_true rfl) rfl rfl (Nat.le_of_ble_eq_true rfl) dX6_go_100 ?_
          rw [bI_t ((le_i _).mpr ⟨hlt, hle⟩)]
          refine AW.if_eq X (tgt := 184) dX6_go_103 rfl ?_ ?_
          · intro t103
            exact absurd t103 (by decide)
          · intro f103
            refine AW.le (b' := 7 + 1) (by omega) (AW.new X (B) 1 (ci := 21) (hB B (Nat.le_refl _)) (by omega) rfl q821 q206 q90 ⟨by omega, by omega⟩ dX6_go_106 ?_)
            refine AW.dup X dX6_go_109 rfl ?_
            refine AW.bipush X (v := 9) dX6_go_110 rfl ?_
            refine AW.le (b' := 4 + 3) (by omega) (AW.callI X (c_J8_init_2 (bb := B + 1) (row_s _ _ _) (by omega) (by rw [row_n (by omega)]; exact hB _ (by omega)) (by omega)) s_X6_64 (by omega) (Nat.le_of_ble_eq_true rfl) rfl rfl (Nat.le_of_ble_eq_true rfl) dX6_go_112 ?_ ?_)
            rotate_left
            · intro _ _ _ _ _ h; exact h.elim
            intro r112 T112 I112 R112 J112 h112
            obtain ⟨rfl, rfl, rfl, rfl, rfl⟩ := h112
            rw [← eT1, ← eR1]
            first | refine AW.astore2 X dX6_go_115 ?_ | refine AW.astoreN2 X dX6_go_115 ?_
            refine lW _ 0 _ _ rfl (by omega) hk0 hr0 (((hf'.fb.r hrB (Nat.le_refl _)).r hrB (by omega)).o hrB (Nat.le_refl _)) ?_ ?_ ⟨?_, ?_, ?_, ?_, ?_, Nat.zero_le _, fun _ h => absurd h (by omega)⟩
            · rw [w2_n1 (by omega), row_n (by omega), row_n (by omega), g2']; rfl
            · rw [w2_n1 (by omega), row_n (by omega), row_n (by omega), g3']
            · rw [eT1, row_n (by omega), row_s]
            · rw [eR1, w2_s]
            · rw [eT1, row_s]
            · rw [w2_s]
            · rw [w2_n2 (by omega), row_n (by omega), row_s]; rfl
        · intro f86
          exact absurd ((nI_ltI (by omega) (by omega)).mpr hlt) f86
      · have hnl : ¬ isLe (Bt (beg Bt sz i)) = true := fun hc => hk0 (by unfold kd; rw [if_neg (by omega), if_pos hc])
        by_cases hk1 : kd Bt sz i = 1
        · have hdi := kd1 hk1
          have hr0 : run isDi Bt sz (beg Bt sz i + 0) = en Bt sz i := by unfold en; rw [if_neg h4, if_neg hk0, if_pos hk1]; rfl
          first | refine AW.aload_n X dX6_go_50 rfl rfl ?_ | refine AW.aloadN_n X dX6_go_50 rfl rfl ?_
          first | refine AW.aload_n X dX6_go_51 rfl rfl ?_ | refine AW.aloadN_n X dX6_go_51 rfl rfl ?_
          refine AW.getI X f_X6_35_4 (by first | assumption | exact hT _ _ rfl) dX6_go_52 ?_
          rw [g2]
          refine AW.putI X g_X6_go_42_4 (by omega) (by first | assumption | exact hT _ _ rfl) dX6_go_55 ?_ 
          first | refine AW.aload_n X dX6_go_58 rfl rfl ?_ | refine AW.aloadN_n X dX6_go_58 rfl rfl ?_
          refine AW.ldcS X 0 rfl rfl dX6_go_59 ?_
          first | refine AW.putR X g_X6_go_11_4 (by omega) (by first | assumption | exact hT _ _ rfl) dX6_go_61 ?_ | refine AW.putN X g_X6_go_11_4 (by omega) (by first | assumption | exact hT _ _ rfl) dX6_go_61 ?_
          first | refine AW.aload_n X dX6_go_64 rfl rfl ?_ | refine AW.aloadN_n X dX6_go_64 rfl rfl ?_
          refine AW.iconst X (v := 0) dX6_go_65 rfl ?_
          refine AW.putI X g_X6_go_45_4 (by omega) (by first | assumption | exact hT _ _ rfl) dX6_go_66 ?_ 
          first | refine AW.aload_n X dX6_go_69 rfl rfl ?_ | refine AW.aloadN_n X dX6_go_69 rfl rfl ?_
          first | refine AW.aload_n X dX6_go_70 rfl rfl ?_ | refine AW.aloadN_n X dX6_go_70 rfl rfl ?_
          refine AW.getI X f_X6_35_4 (by first | assumption | exact hT _ _ rfl) dX6_go_71 ?_
          rw [g2']
          refine AW.callV_r X (c_X6_byteAt hT hK' hx' (by omega)) (ci := 4) (q := (RX6, TX6, 11)) (by first | assumption | exact hT _ _ rfl) rfl s_X6_38_4 (by omega) (Nat.le_of_ble_eq_true rfl) rfl rfl (Nat.le_of_ble_eq_true rfl) dX6_go_74 ?_
          refine AW.istore1 X dX6_go_77 ?_
          first | refine AW.aload_n X dX6_go_78 rfl rfl ?_ | refine AW.aloadN_n X dX6_go_78 rfl rfl ?_
          refine AW.getI X f_X6_35_4 (by first | assumption | exact hT _ _ rfl) dX6_go_79 ?_
          rw [g2']
          first | refine AW.aload_n X dX6_go_82 rfl rfl ?_ | refine AW.aloadN_n X dX6_go_82 rfl rfl ?_
          refine AW.getI X f_X6_28_4 (by first | assumption | exact hT _ _ rfl) dX6_go_83 ?_
          rw [g1']
          refine AW.icmp_lt X (tgt := 99) dX6_go_86 rfl ?_ ?_
          · intro t86
            refine AW.iload_n X dX6_go_99 rfl rfl ?_
            refine AW.callS_r X (c_X6_isLetter _) s_X6_58 (by omega) (Nat.le_of_ble_eq_true rfl) rfl rfl (Nat.le_of_ble_eq_true rfl) dX6_go_100 ?_
            rw [bI_f (fun z => hnl ((le_i _).mp z).2)]
            refine AW.if_eq X (tgt := 184) dX6_go_103 rfl ?_ ?_
            · intro t103
              refine AW.iload_n X dX6_go_184 rfl rfl ?_
              refine AW.callS_r X (c_X6_isDigit _) s_X6_82 (by omega) (Nat.le_of_ble_eq_true rfl) rfl rfl (Nat.le_of_ble_eq_true rfl) dX6_go_185 ?_
              rw [bI_t ((di_i _).mpr ⟨hlt, hdi⟩)]
              refine AW.if_eq X (tgt := 291) dX6_go_188 rfl ?_ ?_
              · intro t188
                exact absurd t188 (by decide)
              · intro f188
                first | refine AW.aload_n X dX6_go_191 rfl rfl ?_ | refine AW.aloadN_n X dX6_go_191 rfl rfl ?_
                refine AW.iconst X (v := 0) dX6_go_192 rfl ?_
                refine AW.putI X g_X6_go_85_4 (by omega) (by first | assumption | exact hT _ _ rfl) dX6_go_193 ?_ 
                exact lD _ 0 _ _ rfl (by omega) hk1 hr0 (fun _ h => absurd h (Nat.not_lt_zero _)) (hf'.w (by omega)) (by rw [w2_n2 (by omega), g2']; rfl) (by rw [w2_n2 (by omega), g3']) (w2_s _ _ _ _)
            · intro f103
              exact absurd rfl f103
          · intro f86
            exact absurd ((nI_ltI (by omega) (by omega)).mpr hlt) f86
        · have hnd : ¬ isDi (Bt (beg Bt sz i)) = true := fun hc => hk1 (by unfold kd; rw [if_neg (by omega), if_neg hnl, if_pos hc])
          have hee : en Bt sz i = beg Bt sz i + 1 := by unfold en; rw [if_neg h4, if_neg hk0, if_neg hk1]
          have hkk : kd Bt sz i = if Bt (beg Bt sz i) = 59 then 2 else 3 := by unfold kd; rw [if_neg (by omega), if_neg hnl, if_neg hnd]
          by_cases h59 : Bt (beg Bt sz i) = 59
          · rw [if_pos h59] at hkk
            first | refine AW.aload_n X dX6_go_50 rfl rfl ?_ | refine AW.aloadN_n X dX6_go_50 rfl rfl ?_
            first | refine AW.aload_n X dX6_go_51 rfl rfl ?_ | refine AW.aloadN_n X dX6_go_51 rfl rfl ?_
            refine AW.getI X f_X6_35_4 (by first | assumption | exact hT _ _ rfl) dX6_go_52 ?_
            rw [g2]
            refine AW.putI X g_X6_go_42_4 (by omega) (by first | assumption | exact hT _ _ rfl) dX6_go_55 ?_ 
            first | refine AW.aload_n X dX6_go_58 rfl rfl ?_ | refine AW.aloadN_n X dX6_go_58 rfl rfl ?_
            refine AW.ldcS X 0 rfl rfl dX6_go_59 ?_
            first | refine AW.putR X g_X6_go_11_4 (by omega) (by first | assumption | exact hT _ _ rfl) dX6_go_61 ?_ | refine AW.putN X g_X6_go_11_4 (by omega) (by first | assumption | exact hT _ _ rfl) dX6_go_61 ?_
            first | refine AW.aload_n X dX6_go_64 rfl rfl ?_ | refine AW.aloadN_n X dX6_go_64 rfl rfl ?_
            refine AW.iconst X (v := 0) dX6_go_65 rfl ?_
            refine AW.putI X g_X6_go_45_4 (by omega) (by first | assumption | exact hT _ _ rfl) dX6_go_66 ?_ 
            first | refine AW.aload_n X dX6_go_69 rfl rfl ?_ | refine AW.aloadN_n X dX6_go_69 rfl rfl ?_
            first | refine AW.aload_n X dX6_go_70 rfl rfl ?_ | refine AW.aloadN_n X dX6_go_70 rfl rfl ?_
            refine AW.getI X f_X6_35_4 (by first | assumption | exact hT _ _ rfl) dX6_go_71 ?_
            rw [g2']
            refine AW.callV_r X (c_X6_byteAt hT hK' hx' (by omega)) (ci := 4) (q := (RX6, TX6, 11)) (by first | assumption | exact hT _ _ rfl) rfl s_X6_38_4 (by omega) (Nat.le_of_ble_eq_true rfl) rfl rfl (Nat.le_of_ble_eq_true rfl) dX6_go_74 ?_
            refine AW.istore1 X dX6_go_77 ?_
            first | refine AW.aload_n X dX6_go_78 rfl rfl ?_ | refine AW.aloadN_n X dX6_go_78 rfl rfl ?_
            refine AW.getI X f_X6_35_4 (by first | assumption | exact hT _ _ rfl) dX6_go_79 ?_
            rw [g2']
            first | refine AW.aload_n X dX6_go_82 rfl rfl ?_ | refine AW.aloadN_n X dX6_go_82 rfl rfl ?_
            refine AW.getI X f_X6_28_4 (by first | assumption | exact hT _ _ rfl) dX6_go_83 ?_
            rw [g1']
            refine AW.icmp_lt X (tgt := 99) dX6_go_86 rfl ?_ ?_
            · intro t86
              refine AW.iload_n X dX6_go_99 rfl rfl ?_
              refine AW.callS_r X (c_X6_isLetter _) s_X6_58 (by omega) (Nat.le_of_ble_eq_true rfl) rfl rfl (Nat.le_of_ble_eq_true rfl) dX6_go_100 ?_
              rw [bI_f (fun z => hnl ((le_i _).mp z).2)]
              refine AW.if_eq X (tgt := 184) dX6_go_103 rfl ?_ ?_
              · intro t103
                refine AW.iload_n X dX6_go_184 rfl rfl ?_
                refine AW.callS_r X (c_X6_isDigit _) s_X6_82 (by omega) (Nat.le_of_ble_eq_true rfl) rfl rfl (Nat.le_of_ble_eq_true rfl) dX6_go_185 ?_
                rw [bI_f (fun z => hnd ((di_i _).mp z).2)]
                refine AW.if_eq X (tgt := 291) dX6_go_188 rfl ?_ ?_
                · intro t188
                  first | refine AW.aload_n X dX6_go_291 rfl rfl ?_ | refine AW.aloadN_n X dX6_go_291 rfl rfl ?_
                  refine AW.iload_n X dX6_go_292 rfl rfl ?_
                  refine AW.bipush X (v := 59) dX6_go_293 rfl ?_
                  refine AW.icmp_ne X (tgt := 304) dX6_go_295 rfl ?_ ?_
                  · intro t295
                    exact absurd ((bz_eq hb (c := 59) (by omega) (by omega)).mpr ⟨hlt, h59⟩) t295
                  · intro f295
                    refine AW.gets X 5 rfl q854 dX6_go_298 ?_
                    refine AW.goto X (tgt := 307) dX6_go_301 rfl ?_
                    first | refine AW.putR X g_X6_go_55_4 (by omega) (by first | assumption | exact hT _ _ rfl) dX6_go_307 ?_ | refine AW.putN X g_X6_go_55_4 (by omega) (by first | assumption | exact hT _ _ rfl) dX6_go_307 ?_
                    first | refine AW.aload_n X dX6_go_310 rfl rfl ?_ | refine AW.aloadN_n X dX6_go_310 rfl rfl ?_
                    refine AW.getR X f_X6_55_4 (by first | assumption | exact hT _ _ rfl) (w2_s _ _ _ _) dX6_go_311 ?_
                    refine AW.gets X 5 rfl q854 dX6_go_314 ?_
                    refine AW.acmp_ne X (tgt := 326) ((Or.inl rfl)) dX6_go_317 rfl ?_ ?_
                    · intro t317
                      exact absurd rfl t317
                    · intro f317
                      first | refine AW.aload_n X dX6_go_320 rfl rfl ?_ | refine AW.aloadN_n X dX6_go_320 rfl rfl ?_
                      refine AW.ldcS X 1 rfl rfl dX6_go_321 ?_
                      first | refine AW.putR X g_X6_go_11_4 (by omega) (by first | assumption | exact hT _ _ rfl) dX6_go_323 ?_ | refine AW.putN X g_X6_go_11_4 (by omega) (by first | assumption | exact hT _ _ rfl) dX6_go_323 ?_
                      first | refine AW.aload_n X dX6_go_326 rfl rfl ?_ | refine AW.aloadN_n X dX6_go_326 rfl rfl ?_
                      refine AW.dup X dX6_go_327 rfl ?_
                      refine AW.getI X f_X6_35_4 (by first | assumption | exact hT _ _ rfl) dX6_go_328 ?_
                      rw [g2']
                      refine AW.iconst X (v := 1) dX6_go_331 rfl ?_
                      refine AW.iadd X dX6_go_332 ?_
                      rw [nI_1]
                      refine AW.putI X g_X6_go_35_4 (by omega) (by first | assumption | exact hT _ _ rfl) dX6_go_333 ?_ 
                      refine AW.vreturn X E ?_ dX6_go_336
                      exact ⟨rfl, rfl, GF.two (hf'.w (by omega)), by rw [w2_s, hee], (w2_n2 (by omega)).trans g3', by rw [w2_n2 (by omega), w2_s, hkk], fun z => by omega, fun z => by omega, fun _ => w2_s _ _ _ _⟩
                · intro f188
                  exact absurd rfl f188
              · intro f103
                exact absurd rfl f103
            · intro f86
              exact absurd ((nI_ltI (by omega) (by omega)).mpr hlt) f86
          · rw [if_neg h59] at hkk
            first | refine AW.aload_n X dX6_go_50 rfl rfl ?_ | refine AW.aloadN_n X dX6_go_50 rfl rfl ?_
            first | refine AW.aload_n X dX6_go_51 rfl rfl ?_ | refine AW.aloadN_n X dX6_go_51 rfl rfl ?_
            refine AW.getI X f_X6_35_4 (by first | assumption | exact hT _ _ rfl) dX6_go_52 ?_
            rw [g2]
            refine AW.putI X g_X6_go_42_4 (by omega) (by first | assumption | exact hT _ _ rfl) dX6_go_55 ?_ 
            first | refine AW.aload_n X dX6_go_58 rfl rfl ?_ | refine AW.aloadN_n X dX6_go_58 rfl rfl ?_
            refine AW.ldcS X 0 rfl rfl dX6_go_59 ?_
            first | refine AW.putR X g_X6_go_11_4 (by omega) (by first | assumption | exact hT _ _ rfl) dX6_go_61 ?_ | refine AW.putN X g_X6_go_11_4 (by omega) (by first | assumption | exact hT _ _ rfl) dX6_go_61 ?_
            first | refine AW.aload_n X dX6_go_64 rfl rfl ?_ | refine AW.aloadN_n X dX6_go_64 rfl rfl ?_
            refine AW.iconst X (v := 0) dX6_go_65 rfl ?_
            refine AW.putI X g_X6_go_45_4 (by omega) (by first | assumption | exact hT _ _ rfl) dX6_go_66 ?_ 
            first | refine AW.aload_n X dX6_go_69 rfl rfl ?_ | refine AW.aloadN_n X dX6_go_69 rfl rfl ?_
            first | refine AW.aload_n X dX6_go_70 rfl rfl ?_ | refine AW.aloadN_n X dX6_go_70 rfl rfl ?_
            refine AW.getI X f_X6_35_4 (by first | assumption | exact hT _ _ rfl) dX6_go_71 ?_
            rw [g2']
            refine AW.callV_r X (c_X6_byteAt hT hK' hx' (by omega)) (ci := 4) (q := (RX6, TX6, 11)) (by first | assumption | exact hT _ _ rfl) rfl s_X6_38_4 (by omega) (Nat.le_of_ble_eq_true rfl) rfl rfl (Nat.le_of_ble_eq_true rfl) dX6_go_74 ?_
            refine AW.istore1 X dX6_go_77 ?_
            first | refine AW.aload_n X dX6_go_78 rfl rfl ?_ | refine AW.aloadN_n X dX6_go_78 rfl rfl ?_
            refine AW.getI X f_X6_35_4 (by first | assumption | exact hT _ _ rfl) dX6_go_79 ?_
            rw [g2']
            first | refine AW.aload_n X dX6_go_82 rfl rfl ?_ | refine AW.aloadN_n X dX6_go_82 rfl rfl ?_
            refine AW.getI X f_X6_28_4 (by first | assumption | exact hT _ _ rfl) dX6_go_83 ?_
            rw [g1']
            refine AW.icmp_lt X (tgt := 99) dX6_go_86 rfl ?_ ?_
            · intro t86
              refine AW.iload_n X dX6_go_99 rfl rfl ?_
              refine AW.callS_r X (c_X6_isLetter _) s_X6_58 (by omega) (Nat.le_of_ble_eq_true rfl) rfl rfl (Nat.le_of_ble_eq_true rfl) dX6_go_100 ?_
              rw [bI_f (fun z => hnl ((le_i _).mp z).2)]
              refine AW.if_eq X (tgt := 184) dX6_go_103 rfl ?_ ?_
              · intro t103
                refine AW.iload_n X dX6_go_184 rfl rfl ?_
                refine AW.callS_r X (c_X6_isDigit _) s_X6_82 (by omega) (Nat.le_of_ble_eq_true rfl) rfl rfl (Nat.le_of_ble_eq_true rfl) dX6_go_185 ?_
                rw [bI_f (fun z => hnd ((di_i _).mp z).2)]
                refine AW.if_eq X (tgt := 291) dX6_go_188 rfl ?_ ?_
                · intro t188
                  first | refine AW.aload_n X dX6_go_291 rfl rfl ?_ | refine AW.aloadN_n X dX6_go_291 rfl rfl ?_
                  refine AW.iload_n X dX6_go_292 rfl rfl ?_
                  refine AW.bipush X (v := 59) dX6_go_293 rfl ?_
                  refine AW.icmp_ne X (tgt := 304) dX6_go_295 rfl ?_ ?_
                  · intro t295
                    refine AW.gets X 6 rfl q856 dX6_go_304 ?_
                    first | refine AW.putR X g_X6_go_55_4 (by omega) (by first | assumption | exact hT _ _ rfl) dX6_go_307 ?_ | refine AW.putN X g_X6_go_55_4 (by omega) (by first | assumption | exact hT _ _ rfl) dX6_go_307 ?_
                    first | refine AW.aload_n X dX6_go_310 rfl rfl ?_ | refine AW.aloadN_n X dX6_go_310 rfl rfl ?_
                    refine AW.getR X f_X6_55_4 (by first | assumption | exact hT _ _ rfl) (w2_s _ _ _ _) dX6_go_311 ?_
                    refine AW.gets X 5 rfl q854 dX6_go_314 ?_
                    refine AW.acmp_ne X (tgt := 326) ((Or.inr ⟨hES 3 (by omega), hES 2 (by omega)⟩)) dX6_go_317 rfl ?_ ?_
                    · intro t317
                      first | refine AW.aload_n X dX6_go_326 rfl rfl ?_ | refine AW.aloadN_n X dX6_go_326 rfl rfl ?_
                      refine AW.dup X dX6_go_327 rfl ?_
                      refine AW.getI X f_X6_35_4 (by first | assumption | exact hT _ _ rfl) dX6_go_328 ?_
                      rw [g2']
                      refine AW.iconst X (v := 1) dX6_go_331 rfl ?_
                      refine AW.iadd X dX6_go_332 ?_
                      rw [nI_1]
                      refine AW.putI X g_X6_go_35_4 (by omega) (by first | assumption | exact hT _ _ rfl) dX6_go_333 ?_ 
                      refine AW.vreturn X E ?_ dX6_go_336
                      exact ⟨rfl, rfl, GF.one (hf'.w (by omega)), by rw [w2_s, hee], (w2_n2 (by omega)).trans g3', by rw [w2_s, hkk], fun z => by omega, fun z => by omega, fun z => by omega⟩
                    · intro f317
                      exact absurd f317 (by decide)
                  · intro f295
                    exact absurd ((bz_eq hb (c := 59) (by omega) (by omega)).mp f295).2 h59
                · intro f188
                  exact absurd rfl f188
              · intro f103
                exact absurd rfl f103
            · intro f86
              exact absurd ((nI_ltI (by omega) (by omega)).mpr hlt) f86
  have lS : ∀ d j (I' : KI), sz - j = d → j ≤ sz → run isSp Bt sz j = beg Bt sz i → RF rd I I' → I' rd 2 = nI j → AW cx 8 0 [.ref rd, .retAddr 0, .retAddr 0] [] T I' R J := by
    intro d
    induction d with
    | zero =>
      intro j I' hd hj hr hf g2
      have hno : ¬ (j < sz ∧ isSp (Bt j) = true) := by omega
      rw [run_e hno] at hr
      have g1 := (hf.2 1 (by omega)).trans h1
      first | refine AW.aload_n X dX6_go_0 rfl rfl ?_ | refine AW.aloadN_n X dX6_go_0 rfl rfl ?_
      refine AW.getI X f_X6_35_4 (by first | assumption | exact hT _ _ rfl) dX6_go_1 ?_
      rw [g2]
      first | refine AW.aload_n X dX6_go_4 rfl rfl ?_ | refine AW.aloadN_n X dX6_go_4 rfl rfl ?_
      refine AW.getI X f_X6_28_4 (by first | assumption | exact hT _ _ rfl) dX6_go_5 ?_
      rw [g1]
      refine AW.icmp_ge X (tgt := 50) dX6_go_8 rfl ?_ ?_
      · intro t8
        exact aft I' hf (by rw [g2, hr])
      · intro f8
        exact absurd (nI_le (by omega) (by omega)) f8
    | succ d ih =>
      intro j I' hd hj hr hf g2
      have g1 := (hf.2 1 (by omega)).trans h1
      by_cases hc : j < sz ∧ isSp (Bt j) = true
      · rw [run_s hc.1 hc.2] at hr
        have hs := of_decide_eq_true hc.2
        first | refine AW.aload_n X dX6_go_0 rfl rfl ?_ | refine AW.aloadN_n X dX6_go_0 rfl rfl ?_
        refine AW.getI X f_X6_35_4 (by first | assumption | exact hT _ _ rfl) dX6_go_1 ?_
        rw [g2]
        first | refine AW.aload_n X dX6_go_4 rfl rfl ?_ | refine AW.aloadN_n X dX6_go_4 rfl rfl ?_
        refine AW.getI X f_X6_28_4 (by first | assumption | exact hT _ _ rfl) dX6_go_5 ?_
        rw [g1]
        refine AW.icmp_ge X (tgt := 50) dX6_go_8 rfl ?_ ?_
        · intro t8
          exact absurd t8 (nI_ge (by omega) (by omega))
        · intro f8
          first | refine AW.aload_n X dX6_go_11 rfl rfl ?_ | refine AW.aloadN_n X dX6_go_11 rfl rfl ?_
          first | refine AW.aload_n X dX6_go_12 rfl rfl ?_ | refine AW.aloadN_n X dX6_go_12 rfl rfl ?_
          refine AW.getI X f_X6_35_4 (by first | assumption | exact hT _ _ rfl) dX6_go_13 ?_
          rw [g2]
          refine AW.callV_r X (c_X6_byteAt hT (hK.rf hf rfl) (hx.rf hr1 hf) (by omega)) (ci := 4) (q := (RX6, TX6, 11)) (by first | assumption | exact hT _ _ rfl) rfl s_X6_38_4 (by omega) (Nat.le_of_ble_eq_true rfl) rfl rfl (Nat.le_of_ble_eq_true rfl) dX6_go_16 ?_
          refine AW.bipush X (v := 32) dX6_go_19 rfl ?_
          refine AW.icmp_eq X (tgt := 37) dX6_go_21 rfl ?_ ?_
          · intro t21
            first | refine AW.aload_n X dX6_go_37 rfl rfl ?_ | refine AW.aloadN_n X dX6_go_37 rfl rfl ?_
            refine AW.dup X dX6_go_38 rfl ?_
            refine AW.getI X f_X6_35_4 (by first | assumption | exact hT _ _ rfl) dX6_go_39 ?_
            rw [g2]
            refine AW.iconst X (v := 1) dX6_go_42 rfl ?_
            refine AW.iadd X dX6_go_43 ?_
            rw [nI_1]
            refine AW.putI X g_X6_go_35_4 (by omega) (by first | assumption | exact hT _ _ rfl) dX6_go_44 ?_ 
            refine AW.goto X (tgt := 0) dX6_go_47 rfl ?_
            exact ih (j + 1) _ (by omega) (by omega) hr (hf.w (by omega)) (w2_s _ _ _ _)
          · intro f21
            first | refine AW.aload_n X dX6_go_24 rfl rfl ?_ | refine AW.aloadN_n X dX6_go_24 rfl rfl ?_
            first | refine AW.aload_n X dX6_go_25 rfl rfl ?_ | refine AW.aloadN_n X dX6_go_25 rfl rfl ?_
            refine AW.getI X f_X6_35_4 (by first | assumption | exact hT _ _ rfl) dX6_go_26 ?_
            rw [g2]
            refine AW.callV_r X (c_X6_byteAt hT (hK.rf hf rfl) (hx.rf hr1 hf) (by omega)) (ci := 4) (q := (RX6, TX6, 11)) (by first | assumption | exact hT _ _ rfl) rfl s_X6_38_4 (by omega) (Nat.le_of_ble_eq_true rfl) rfl rfl (Nat.le_of_ble_eq_true rfl) dX6_go_29 ?_
            refine AW.bipush X (v := 10) dX6_go_32 rfl ?_
            refine AW.icmp_ne X (tgt := 50) dX6_go_34 rfl ?_ ?_
            · intro t34
              exact absurd (hs.elim (fun z => absurd ((bz_eq hb (c := 32) (by omega) (by omega)).mpr ⟨hc.1, z⟩) f21) (fun z => (bz_eq hb (c := 10) (by omega) (by omega)).mpr ⟨hc.1, z⟩)) t34
            · intro f34
              first | refine AW.aload_n X dX6_go_37 rfl rfl ?_ | refine AW.aloadN_n X dX6_go_37 rfl rfl ?_
              refine AW.dup X dX6_go_38 rfl ?_
              refine AW.getI X f_X6_35_4 (by first | assumption | exact hT _ _ rfl) dX6_go_39 ?_
              rw [g2]
              refine AW.iconst X (v := 1) dX6_go_42 rfl ?_
              refine AW.iadd X dX6_go_43 ?_
              rw [nI_1]
              refine AW.putI X g_X6_go_35_4 (by omega) (by first | assumption | exact hT _ _ rfl) dX6_go_44 ?_ 
              refine AW.goto X (tgt := 0) dX6_go_47 rfl ?_
              exact ih (j + 1) _ (by omega) (by omega) hr (hf.w (by omega)) (w2_s _ _ _ _)
      · rw [run_e hc] at hr
        first | refine AW.aload_n X dX6_go_0 rfl rfl ?_ | refine AW.aloadN_n X dX6_go_0 rfl rfl ?_
        refine AW.getI X f_X6_35_4 (by first | assumption | exact hT _ _ rfl) dX6_go_1 ?_
        rw [g2]
        first | refine AW.aload_n X dX6_go_4 rfl rfl ?_ | refine AW.aloadN_n X dX6_go_4 rfl rfl ?_
        refine AW.getI X f_X6_28_4 (by first | assumption | exact hT _ _ rfl) dX6_go_5 ?_
        rw [g1]
        refine AW.icmp_ge X (tgt := 50) dX6_go_8 rfl ?_ ?_
        · intro t8
          exact aft I' hf (by rw [g2, hr])
        · intro f8
          first | refine AW.aload_n X dX6_go_11 rfl rfl ?_ | refine AW.aloadN_n X dX6_go_11 rfl rfl ?_
          first | refine AW.aload_n X dX6_go_12 rfl rfl ?_ | refine AW.aloadN_n X dX6_go_12 rfl rfl ?_
          refine AW.getI X f_X6_35_4 (by first | assumption | exact hT _ _ rfl) dX6_go_13 ?_
          rw [g2]
          refine AW.callV_r X (c_X6_byteAt hT (hK.rf hf rfl) (hx.rf hr1 hf) (by omega)) (ci := 4) (q := (RX6, TX6, 11)) (by first | assumption | exact hT _ _ rfl) rfl s_X6_38_4 (by omega) (Nat.le_of_ble_eq_true rfl) rfl rfl (Nat.le_of_ble_eq_true rfl) dX6_go_16 ?_
          refine AW.bipush X (v := 32) dX6_go_19 rfl ?_
          refine AW.icmp_eq X (tgt := 37) dX6_go_21 rfl ?_ ?_
          · intro t21
            exact absurd ⟨((bz_eq hb (c := 32) (by omega) (by omega)).mp t21).1, decide_eq_true (Or.inl ((bz_eq hb (c := 32) (by omega) (by omega)).mp t21).2)⟩ hc
          · intro f21
            first | refine AW.aload_n X dX6_go_24 rfl rfl ?_ | refine AW.aloadN_n X dX6_go_24 rfl rfl ?_
            first | refine AW.aload_n X dX6_go_25 rfl rfl ?_ | refine AW.aloadN_n X dX6_go_25 rfl rfl ?_
            refine AW.getI X f_X6_35_4 (by first | assumption | exact hT _ _ rfl) dX6_go_26 ?_
            rw [g2]
            refine AW.callV_r X (c_X6_byteAt hT (hK.rf hf rfl) (hx.rf hr1 hf) (by omega)) (ci := 4) (q := (RX6, TX6, 11)) (by first | assumption | exact hT _ _ rfl) rfl s_X6_38_4 (by omega) (Nat.le_of_ble_eq_true rfl) rfl rfl (Nat.le_of_ble_eq_true rfl) dX6_go_29 ?_
            refine AW.bipush X (v := 10) dX6_go_32 rfl ?_
            refine AW.icmp_ne X (tgt := 50) dX6_go_34 rfl ?_ ?_
            · intro t34
              exact aft I' hf (by rw [g2, hr])
            · intro f34
              exact absurd ⟨((bz_eq hb (c := 10) (by omega) (by omega)).mp f34).1, decide_eq_true (Or.inr ((bz_eq hb (c := 10) (by omega) (by omega)).mp f34).2)⟩ hc
  exact lS _ i I rfl hi rfl RF.rf h2i
end RS
