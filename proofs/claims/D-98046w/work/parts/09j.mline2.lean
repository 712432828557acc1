/-! 09j: the model reads a line (written by src/gen09j.py and src/walk.py) -/
set_option maxRecDepth 100000
set_option maxHeartbeats 4000000
theorem bind_ok {α β : Type} {x : Except Er α} {f : α → Except Er β} {y : β} (h : Except.bind x f = .ok y) : ∃ a, x = .ok a ∧ f a = .ok y := by
  rcases x with e | a
  · cases h
  · exact ⟨a, rfl, h⟩
theorem lin0_hp {Bt : Nat → Nat} {sz i : Nat} {S : Rd} {y : Nat × Rd} (h : lin0 Bt sz i S = .ok y) : y.2.2.1 = (S.2.1 || decide (cls Bt sz i = 34)) := by
  unfold lin0 at h
  split at h
  · rename_i hc
    have h2 : y.2.2.1 = S.2.1 := by
      unfold quayF at h
      split at h
      · cases h
      · obtain ⟨a, -, h⟩ := bind_ok h
        obtain ⟨b, -, h⟩ := bind_ok h
        cases h; rfl
    rw [h2, decide_eq_false (by omega), Bool.or_false]
  split at h
  · rename_i hc
    have h2 : y.2.2.1 = S.2.1 := by
      unfold eelF at h
      split at h
      · cases h
      · obtain ⟨a, -, h⟩ := bind_ok h
        obtain ⟨b, -, h⟩ := bind_ok h
        obtain ⟨c, -, h⟩ := bind_ok h
        obtain ⟨d, -, h⟩ := bind_ok h
        cases h; rfl
    rw [h2, decide_eq_false (by omega), Bool.or_false]
  split at h
  · rename_i hc
    have h2 : y.2.2.1 = S.2.1 := by
      unfold shipF at h
      split at h
      · cases h
      · obtain ⟨a, -, h⟩ := bind_ok h
        obtain ⟨b, -, h⟩ := bind_ok h
        obtain ⟨c, -, h⟩ := bind_ok h
        cases h; rfl
    rw [h2, decide_eq_false (by omega), Bool.or_false]
  split at h
  · rename_i hc
    have h2 : y.2.2.1 = S.2.1 := by
      unfold wayF at h
      obtain ⟨a, -, h⟩ := bind_ok h
      obtain ⟨b, -, h⟩ := bind_ok h
      split at h
      · cases h
      · cases h; rfl
    rw [h2, decide_eq_false (by omega), Bool.or_false]
  split at h
  · rename_i hc
    have h2 : y.2.2.1 = S.2.1 := by
      unfold moonF at h
      obtain ⟨a, -, h⟩ := bind_ok h
      split at h
      · cases h
      · obtain ⟨b, -, h⟩ := bind_ok h
        cases h; rfl
    rw [h2, decide_eq_false (by omega), Bool.or_false]
  split at h
  · rename_i hc
    have h2 : y.2.2.1 = S.2.1 := by
      unfold coldF at h
      obtain ⟨a, -, h⟩ := bind_ok h
      split at h
      · cases h
      · obtain ⟨b, -, h⟩ := bind_ok h
        cases h; rfl
    rw [h2, decide_eq_false (by omega), Bool.or_false]
  split at h
  · rename_i hc
    have h2 : y.2.2.1 = S.2.1 := by
      unfold hoodF at h
      split at h
      · cases h
      · obtain ⟨a, -, h⟩ := bind_ok h
        obtain ⟨b, -, h⟩ := bind_ok h
        obtain ⟨c, -, h⟩ := bind_ok h
        cases h; rfl
    rw [h2, decide_eq_false (by omega), Bool.or_false]
  split at h
  · rename_i hc
    rw [decide_eq_true hc, Bool.or_true]
    unfold priceF at h
    split at h
    · cases h
    · obtain ⟨a, -, h⟩ := bind_ok h
      obtain ⟨b, -, h⟩ := bind_ok h
      cases h; rfl
  · cases h
def b01 (b : Bool) : Int32 := if b = true then 1 else 0
theorem whB_ok {Bt : Nat → Nat} {sz i c : Nat} : whB Bt sz (.ok i) c = if c ≤ cls Bt sz i ∧ cls Bt sz i ≤ c + 3 then nI (cls Bt sz i - c) else -1 := rfl
theorem psX_no {Bt : Nat → Nat} {sz i c : Nat} (h : ¬ cls Bt sz i = c) : psX Bt sz (.ok i) c = .ok i := by
  show Except.ok (if cls Bt sz i = c then en Bt sz i else i) = _; rw [if_neg h]
theorem psX_yes {Bt : Nat → Nat} {sz i c : Nat} (h : cls Bt sz i = c) : psX Bt sz (.ok i) c = .ok (en Bt sz i) := by
  show Except.ok (if cls Bt sz i = c then en Bt sz i else i) = _; rw [if_pos h]
theorem SC.tf {I I' : KI} (h : SC I) (hf : TF I I') : SC I' := fun a h1 h2 => by
  rw [hf.1.1 a (by omega) (by omega), hf.1.1 (a + 40) (by omega) (by omega)]; exact h a h1 h2
theorem TxM.tf {Bt : Nat → Nat} {sz : Nat} {I I' : KI} (h : TxM Bt sz I) (hf : TF I I') : TxM Bt sz I' := ⟨(hf.2 27 (by omega)).trans h.1, h.2.1, by rw [hf.1.1 324 (by omega) (by omega)]; exact h.2.2⟩
section MLJ
variable {T : KT} {I : KI} {R : KR} {J : KJ} {Bt : Nat → Nat} {sz : Nat}
theorem c_X5_readLine {i : Nat} {S : Rd} (hT : XT T) (hR : XRf R) (hC : SC I) (hX : TxM Bt sz I) (hx : StM Bt sz (.ok i) I) (hH : HfM S I) (hg : Gd S.1) : MX5_readLine 7 0 [.ref 200, .int (b01 S.2.1)] T I R J (qI (fun r I' => (∃ v, r = some (.int v) ∧ ∀ y, linF Bt sz i S = .ok y → v = b01 y.2.2.1) ∧ TF I I' ∧ LnP Bt sz (linF Bt sz i S) I') T R J) noX := by
  have hi := hx.1
  refine AMet.of (by decide) (Nat.le_of_ble_eq_true rfl) (cats1 rfl) fun cx X E => ?_
  show AW _ _ _ (_ :: _ :: _ :: _ :: _ :: _ :: []) _ _ _ _ _
  have tl : ∀ I' l3 l4 l5 (pr : Int32), (pr = 0 ↔ ¬ cls Bt sz i = 34) → (pr = 0 ∨ pr = 1) → TF I I' → LnP Bt sz (lin0 Bt sz i S) I' → AW cx 0 209 [.ref 200, .int (b01 S.2.1), .int pr, l3, l4, l5] [] T I' R J := by
    intro I' l3 l4 l5 pr hpr hpr1 hf hl
    have rt : ∀ I2, TF I I2 → LnP Bt sz (linF Bt sz i S) I2 → AW cx 0 240 [.ref 200, .int (b01 S.2.1), .int pr, l3, l4, l5] [] T I2 R J := by
      intro I2 hf2 hl2
      have hv : ∀ y, linF Bt sz i S = .ok y → (S.2.1 || decide (cls Bt sz i = 34)) = y.2.2.1 := fun y hy => by
        unfold linF at hy
        obtain ⟨a, ha, hy⟩ := bind_ok hy
        obtain ⟨b, hb, hy⟩ := bind_ok hy
        cases hy
        exact (lin0_hp ha).symm
      refine AW.iload_n X dX5_readLine_240 rfl rfl ?_
      refine AW.if_ne X (tgt := 248) dX5_readLine_241 rfl ?_ ?_
      · intro t241
        have hs1 : S.2.1 = true := by
          by_cases hz : S.2.1 = true
          · exact hz
          · exact absurd (if_neg hz) t241
        refine AW.iconst X (v := 1) dX5_readLine_248 rfl ?_
        refine AW.goto X (tgt := 253) dX5_readLine_249 rfl ?_
        refine AW.ireturn X E ?_ dX5_readLine_253 (hnar := by first | rfl | (unfold bI; split <;> rfl))
        refine ⟨rfl, rfl, rfl, ⟨_, rfl, fun y hy => ?_⟩, hf2, hl2⟩
        rw [← hv y hy, hs1]
        first | rfl | (rw [decide_eq_true hc4]; rfl) | (rw [decide_eq_false hc4]; rfl)
      · intro f241
        have hs1 : S.2.1 = false := by
          by_cases hz : S.2.1 = true
          · rw [hz] at f241; exact absurd f241 (by decide)
          · exact Bool.eq_false_iff.mpr hz
        refine AW.iload_n X dX5_readLine_244 rfl rfl ?_
        refine AW.if_eq X (tgt := 252) dX5_readLine_245 rfl ?_ ?_
        · intro t245
          have hc4 : ¬ cls Bt sz i = 34 := hpr.mp t245
          refine AW.iconst X (v := 0) dX5_readLine_252 rfl ?_
          refine AW.ireturn X E ?_ dX5_readLine_253 (hnar := by first | rfl | (unfold bI; split <;> rfl))
          refine ⟨rfl, rfl, rfl, ⟨_, rfl, fun y hy => ?_⟩, hf2, hl2⟩
          rw [← hv y hy, hs1]
          first | rfl | (rw [decide_eq_true hc4]; rfl) | (rw [decide_eq_false hc4]; rfl)
        · intro f245
          have hc4 : cls Bt sz i = 34 := Decidable.of_not_not fun z => f245 (hpr.mpr z)
          refine AW.iconst X (v := 1) dX5_readLine_248 rfl ?_
          refine AW.goto X (tgt := 253) dX5_readLine_249 rfl ?_
          refine AW.ireturn X E ?_ dX5_readLine_253 (hnar := by first | rfl | (unfold bI; split <;> rfl))
          refine ⟨rfl, rfl, rfl, ⟨_, rfl, fun y hy => ?_⟩, hf2, hl2⟩
          rw [← hv y hy, hs1]
          first | rfl | (rw [decide_eq_true hc4]; rfl) | (rw [decide_eq_false hc4]; rfl)
    rcases hl0 : lin0 Bt sz i S with e | y
    · rw [hl0] at hl
      have hbad := StM.bad (Bt := Bt) (sz := sz) (e := e) hl
      have hlf : linF Bt sz i S = .error e := by unfold linF; rw [hl0]; rfl
      first | refine AW.aload_n X dX5_readLine_209 rfl rfl ?_ | refine AW.aloadN_n X dX5_readLine_209 rfl rfl ?_
      refine AW.getI X f_X5_239_18 (by first | assumption | exact hT _ _ rfl) dX5_readLine_210 ?_
      refine AW.if_ne X (tgt := 229) dX5_readLine_213 rfl ?_ ?_
      · intro t213
        first | refine AW.aload_n X dX5_readLine_229 rfl rfl ?_ | refine AW.aloadN_n X dX5_readLine_229 rfl rfl ?_
        refine AW.getI X f_X5_239_18 (by first | assumption | exact hT _ _ rfl) dX5_readLine_230 ?_
        refine AW.if_ne X (tgt := 240) dX5_readLine_233 rfl ?_ ?_
        · intro t233
          exact rt I' hf (by rw [hlf]; exact hl)
        · intro f233
          exact absurd f233 hbad
      · intro f213
        exact absurd f213 hbad
    · rw [hl0] at hl
      obtain ⟨⟨p1, p2, p3⟩, hh, hgd⟩ := hl
      have hX' := hX.tf hf
      by_cases hk : kd Bt sz y.1 = 2
      · have hlf : linF Bt sz i S = .ok (en Bt sz y.1, y.2) := by unfold linF; rw [hl0]; show Except.bind (semF Bt sz y.1) _ = _; unfold semF; rw [if_pos hk]; rfl
        first | refine AW.aload_n X dX5_readLine_209 rfl rfl ?_ | refine AW.aloadN_n X dX5_readLine_209 rfl rfl ?_
        refine AW.getI X f_X5_239_18 (by first | assumption | exact hT _ _ rfl) dX5_readLine_210 ?_
        rw [p2]
        refine AW.if_ne X (tgt := 229) dX5_readLine_213 rfl ?_ ?_
        · intro t213
          exact absurd rfl t213
        · intro f213
          first | refine AW.aload_n X dX5_readLine_216 rfl rfl ?_ | refine AW.aloadN_n X dX5_readLine_216 rfl rfl ?_
          refine AW.getI X f_X5_217_18 (by first | assumption | exact hT _ _ rfl) dX5_readLine_217 ?_
          rw [p3.2.1, hk]
          refine AW.iconst X (v := 3) dX5_readLine_220 rfl ?_
          refine AW.icmp_eq X (tgt := 229) dX5_readLine_221 rfl ?_ ?_
          · intro t221
            first | refine AW.aload_n X dX5_readLine_229 rfl rfl ?_ | refine AW.aloadN_n X dX5_readLine_229 rfl rfl ?_
            refine AW.getI X f_X5_239_18 (by first | assumption | exact hT _ _ rfl) dX5_readLine_230 ?_
            rw [p2]
            refine AW.if_ne X (tgt := 240) dX5_readLine_233 rfl ?_ ?_
            · intro t233
              exact absurd rfl t233
            · intro f233
              first | refine AW.aload_n X dX5_readLine_236 rfl rfl ?_ | refine AW.aloadN_n X dX5_readLine_236 rfl rfl ?_
              refine AW.callV_i X (c_X5_stepOn hT hR hX' (en_sz p1) p3.1) (ci := 18) (q := (RX5, TX5, 74)) (by first | assumption | exact hT _ _ rfl) rfl s_X5_257_18 (by omega) (Nat.le_of_ble_eq_true rfl) rfl rfl (Nat.le_of_ble_eq_true rfl) dX5_readLine_237 ?_
              intro r237 I237 h237
              obtain ⟨rfl, u1, u2⟩ := h237
              exact rt _ (hf.tr u1.sf.tf) (by rw [hlf]; exact ⟨⟨en_sz p1, (u1.2 32 (by omega)).trans p2, u2⟩, hh.sf u1.sf, hgd⟩)
          · intro f221
            exact absurd rfl f221
      · have hlf : linF Bt sz i S = .error (1, beg Bt sz y.1) := by unfold linF; rw [hl0]; show Except.bind (semF Bt sz y.1) _ = _; unfold semF; rw [if_neg hk]; rfl
        have hkl := kd_le (Bt := Bt) (sz := sz) (i := y.1)
        first | refine AW.aload_n X dX5_readLine_209 rfl rfl ?_ | refine AW.aloadN_n X dX5_readLine_209 rfl rfl ?_
        refine AW.getI X f_X5_239_18 (by first | assumption | exact hT _ _ rfl) dX5_readLine_210 ?_
        rw [p2]
        refine AW.if_ne X (tgt := 229) dX5_readLine_213 rfl ?_ ?_
        · intro t213
          exact absurd rfl t213
        · intro f213
          first | refine AW.aload_n X dX5_readLine_216 rfl rfl ?_ | refine AW.aloadN_n X dX5_readLine_216 rfl rfl ?_
          refine AW.getI X f_X5_217_18 (by first | assumption | exact hT _ _ rfl) dX5_readLine_217 ?_
          rw [p3.2.1]
          refine AW.iconst X (v := 3) dX5_readLine_220 rfl ?_
          refine AW.icmp_eq X (tgt := 229) dX5_readLine_221 rfl ?_ ?_
          · intro t221
            exact absurd ((kd_tok (t := 3) (by omega)).mp t221) (by omega)
          · intro f221
            first | refine AW.aload_n X dX5_readLine_224 rfl rfl ?_ | refine AW.aloadN_n X dX5_readLine_224 rfl rfl ?_
            refine AW.iconst X (v := 1) dX5_readLine_225 rfl ?_
            refine AW.callV_i X (c_X5_wrong hT (x := .ok y.1) ⟨p1, p2, p3⟩ (k := 1) (by omega) (by omega)) (ci := 18) (q := (RX5, TX5, 74)) (by first | assumption | exact hT _ _ rfl) rfl s_X5_260_18 (by omega) (Nat.le_of_ble_eq_true rfl) rfl rfl (Nat.le_of_ble_eq_true rfl) dX5_readLine_226 ?_
            intro r226 I226 h226
            obtain ⟨rfl, u1, u2⟩ := h226
            first | refine AW.aload_n X dX5_readLine_229 rfl rfl ?_ | refine AW.aloadN_n X dX5_readLine_229 rfl rfl ?_
            refine AW.getI X f_X5_239_18 (by first | assumption | exact hT _ _ rfl) dX5_readLine_230 ?_
            refine AW.if_ne X (tgt := 240) dX5_readLine_233 rfl ?_ ?_
            · intro t233
              exact rt _ (hf.tr u1.tf) (by rw [hlf]; exact u2)
            · intro f233
              exact absurd f233 (StM.bad (e := (1, beg Bt sz y.1)) u2)
  have erE : ∀ I' l3 l4 l5 (pr : Int32) e, (pr = 0 ↔ ¬ cls Bt sz i = 34) → (pr = 0 ∨ pr = 1) → SF I I' → StM Bt sz (.error e) I' → lin0 Bt sz i S = .error e → AW cx 0 170 [.ref 200, .int (b01 S.2.1), .int pr, l3, l4, l5] [] T I' R J := by
    intro I' l3 l4 l5 pr e hpr hpr1 hf hs hl0
    first | refine AW.aload_n X dX5_readLine_170 rfl rfl ?_ | refine AW.aloadN_n X dX5_readLine_170 rfl rfl ?_
    refine AW.getI X f_X5_239_18 (by first | assumption | exact hT _ _ rfl) dX5_readLine_171 ?_
    refine AW.if_ne X (tgt := 181) dX5_readLine_174 rfl ?_ ?_
    · intro t174
      first | refine AW.aload_n X dX5_readLine_181 rfl rfl ?_ | refine AW.aloadN_n X dX5_readLine_181 rfl rfl ?_
      refine AW.getR X f_X5_45_18 (by first | assumption | exact hT _ _ rfl) (by first | assumption | exact hR _ _ _ rfl) dX5_readLine_182 ?_
      refine AW.bipush X (v := 10) dX5_readLine_185 rfl ?_
      first | refine AW.aload_n X dX5_readLine_187 rfl rfl ?_ | refine AW.aloadN_n X dX5_readLine_187 rfl rfl ?_
      refine AW.iconst X (v := 0) dX5_readLine_188 rfl ?_
      refine AW.bipush X (v := 99) dX5_readLine_189 rfl ?_
      refine AW.callV_i X (c_X5_readNumber (lo := 0) (hi := 99) (x := .error e) hT hR (hX.sf hf) hs (by omega) (by omega)) (ci := 18) (q := (RX5, TX5, 74)) (by first | assumption | exact hT _ _ rfl) rfl s_X5_273_18 (by omega) (Nat.le_of_ble_eq_true rfl) rfl rfl (Nat.le_of_ble_eq_true rfl) dX5_readLine_191 ?_
      intro r191 I191 h191
      obtain ⟨rfl, u1, u2⟩ := h191
      refine AW.iast X (j := 10) (by omega) (by first | assumption | exact hT _ _ rfl) rfl (by omega) dX5_readLine_194 ?_
      first | refine AW.aload_n X dX5_readLine_195 rfl rfl ?_ | refine AW.aloadN_n X dX5_readLine_195 rfl rfl ?_
      refine AW.getR X f_X5_45_18 (by first | assumption | exact hT _ _ rfl) (by first | assumption | exact hR _ _ _ rfl) dX5_readLine_196 ?_
      refine AW.bipush X (v := 11) dX5_readLine_199 rfl ?_
      first | refine AW.aload_n X dX5_readLine_201 rfl rfl ?_ | refine AW.aloadN_n X dX5_readLine_201 rfl rfl ?_
      refine AW.iconst X (v := 0) dX5_readLine_202 rfl ?_
      refine AW.bipush X (v := 99) dX5_readLine_203 rfl ?_
      refine AW.callV_i X (c_X5_readNumber (lo := 0) (hi := 99) (x := .error e) hT hR (((hX.sf hf).sf u1).w (b := 304) (by omega) (by omega)) (StM.w (x := .error e) u2 (by omega)) (by omega) (by omega)) (ci := 18) (q := (RX5, TX5, 74)) (by first | assumption | exact hT _ _ rfl) rfl s_X5_273_18 (by omega) (Nat.le_of_ble_eq_true rfl) rfl rfl (Nat.le_of_ble_eq_true rfl) dX5_readLine_205 ?_
      intro r205 I205 h205
      obtain ⟨rfl, w1, w2'⟩ := h205
      refine AW.iast X (j := 11) (by omega) (by first | assumption | exact hT _ _ rfl) rfl (by omega) dX5_readLine_208 ?_
      refine tl _ _ _ _ pr hpr hpr1 ?_ ?_
      · have z := ((((Zr.rf.sf hf).sf u1).w (b := 304) (k := 10) (v := vOf ((Except.error e : Except Er Nat).bind (numF Bt sz 0 99))) (by omega)).sf w1).w (b := 304) (k := 11) (v := vOf ((Except.error e : Except Er Nat).bind (numF Bt sz 0 99))) (by omega)
        exact z.tf ((TFr.rf.w (by omega) (by omega) (by show 6 ≤ 10; omega)).w (by omega) (by omega) (by show 6 ≤ 11; omega))
      · rw [hl0]; exact StM.w (x := .error e) w2' (by omega)
    · intro f174
      exact absurd f174 hs.bad
  have hcr := cls_r Bt sz i
  have hB := isB_ok (Bt := Bt) (sz := sz) (i := i) (c := 34)
  by_cases h34 : cls Bt sz i = 34
  · have hB1 : isB Bt sz (.ok i) 34 = 1 := by rw [hB, if_pos h34]
    have l34 : lin0 Bt sz i S = priceF Bt sz i S := by unfold lin0; rw [if_neg (by omega), if_neg (by omega), if_neg (by omega), if_neg (by omega), if_neg (by omega), if_neg (by omega), if_neg (by omega), if_pos h34]
    by_cases hp : S.2.1 = true
    · have hl0 : lin0 Bt sz i S = .error (5, beg Bt sz i) := by rw [l34]; unfold priceF; rw [if_pos hp]
      first | refine AW.aload_n X dX5_readLine_0 rfl rfl ?_ | refine AW.aloadN_n X dX5_readLine_0 rfl rfl ?_
      refine AW.ldcwS X 32 rfl rfl dX5_readLine_1 ?_
      refine AW.callV_r X (c_X5_is (c := 34) hT hR hC hX hx (by omega) (by omega)) (ci := 18) (q := (RX5, TX5, 74)) (by first | assumption | exact hT _ _ rfl) rfl s_X5_253_18 (by omega) (Nat.le_of_ble_eq_true rfl) rfl rfl (Nat.le_of_ble_eq_true rfl) dX5_readLine_4 ?_
      rw [hB1]
      refine AW.istore2 X dX5_readLine_7 ?_
      refine AW.iload_n X dX5_readLine_8 rfl rfl ?_
      refine AW.if_eq X (tgt := 21) dX5_readLine_9 rfl ?_ ?_
      · intro t9
        exact absurd t9 (by decide)
      · intro f9
        refine AW.iload_n X dX5_readLine_12 rfl rfl ?_
        refine AW.if_eq X (tgt := 21) dX5_readLine_13 rfl ?_ ?_
        · intro t13
          exact absurd t13 (by unfold b01; rw [if_pos hp]; decide)
        · intro f13
          first | refine AW.aload_n X dX5_readLine_16 rfl rfl ?_ | refine AW.aloadN_n X dX5_readLine_16 rfl rfl ?_
          refine AW.iconst X (v := 5) dX5_readLine_17 rfl ?_
          refine AW.callV_i X (c_X5_wrong hT hx (k := 5) (by omega) (by omega)) (ci := 18) (q := (RX5, TX5, 74)) (by first | assumption | exact hT _ _ rfl) rfl s_X5_260_18 (by omega) (Nat.le_of_ble_eq_true rfl) rfl rfl (Nat.le_of_ble_eq_true rfl) dX5_readLine_18 ?_
          intro r18 I18 h18
          obtain ⟨rfl, u1, u2⟩ := h18
          have C1 := hC.sf u1
          have X1 := hX.sf u1
          have s1 : StM Bt sz (.error (5, beg Bt sz i)) I18 := u2
          first | refine AW.aload_n X dX5_readLine_21 rfl rfl ?_ | refine AW.aloadN_n X dX5_readLine_21 rfl rfl ?_
          first | refine AW.aload_n X dX5_readLine_22 rfl rfl ?_ | refine AW.aloadN_n X dX5_readLine_22 rfl rfl ?_
          refine AW.getR X f_X5_19_18 (by first | assumption | exact hT _ _ rfl) (by first | assumption | exact hR _ _ _ rfl) dX5_readLine_23 ?_
          refine AW.callV_r X (c_X5_which (c := 35) hT hR C1 X1 s1 (by omega) (by omega) (hT _ _ rfl) (fun k hk => hR _ _ _ (by rcases (show k = 0 ∨ k = 1 ∨ k = 2 ∨ k = 3 by omega) with rfl | rfl | rfl | rfl <;> rfl))) (ci := 18) (q := (RX5, TX5, 74)) (by first | assumption | exact hT _ _ rfl) rfl s_X5_291_18 (by omega) (Nat.le_of_ble_eq_true rfl) rfl rfl (Nat.le_of_ble_eq_true rfl) dX5_readLine_26 ?_
          refine AW.istore3 X dX5_readLine_29 ?_
          first | refine AW.aload_n X dX5_readLine_30 rfl rfl ?_ | refine AW.aloadN_n X dX5_readLine_30 rfl rfl ?_
          first | refine AW.aload_n X dX5_readLine_31 rfl rfl ?_ | refine AW.aloadN_n X dX5_readLine_31 rfl rfl ?_
          refine AW.getR X f_X5_31_18 (by first | assumption | exact hT _ _ rfl) (by first | assumption | exact hR _ _ _ rfl) dX5_readLine_32 ?_
          refine AW.callV_r X (c_X5_which (c := 22) hT hR C1 X1 s1 (by omega) (by omega) (hT _ _ rfl) (fun k hk => hR _ _ _ (by rcases (show k = 0 ∨ k = 1 ∨ k = 2 ∨ k = 3 by omega) with rfl | rfl | rfl | rfl <;> rfl))) (ci := 18) (q := (RX5, TX5, 74)) (by first | assumption | exact hT _ _ rfl) rfl s_X5_291_18 (by omega) (Nat.le_of_ble_eq_true rfl) rfl rfl (Nat.le_of_ble_eq_true rfl) dX5_readLine_35 ?_
          refine AW.istore4 X dX5_readLine_38 ?_
          first | refine AW.aload_n X dX5_readLine_40 rfl rfl ?_ | refine AW.aloadN_n X dX5_readLine_40 rfl rfl ?_
          first | refine AW.aload_n X dX5_readLine_41 rfl rfl ?_ | refine AW.aloadN_n X dX5_readLine_41 rfl rfl ?_
          refine AW.getR X f_X5_42_18 (by first | assumption | exact hT _ _ rfl) (by first | assumption | exact hR _ _ _ rfl) dX5_readLine_42 ?_
          refine AW.callV_r X (c_X5_which (c := 26) hT hR C1 X1 s1 (by omega) (by omega) (hT _ _ rfl) (fun k hk => hR _ _ _ (by rcases (show k = 0 ∨ k = 1 ∨ k = 2 ∨ k = 3 by omega) with rfl | rfl | rfl | rfl <;> rfl))) (ci := 18) (q := (RX5, TX5, 74)) (by first | assumption | exact hT _ _ rfl) rfl s_X5_291_18 (by omega) (Nat.le_of_ble_eq_true rfl) rfl rfl (Nat.le_of_ble_eq_true rfl) dX5_readLine_45 ?_
          refine AW.istore5 X dX5_readLine_48 ?_
          refine AW.iload_n X dX5_readLine_50 rfl rfl ?_
          refine AW.iconst X (v := -1) dX5_readLine_51 rfl ?_
          refine AW.icmp_eq X (tgt := 63) dX5_readLine_52 rfl ?_ ?_
          · intro t52
            refine AW.iload X dX5_readLine_63 rfl ?_
            refine AW.iconst X (v := -1) dX5_readLine_65 rfl ?_
            refine AW.icmp_eq X (tgt := 78) dX5_readLine_66 rfl ?_ ?_
            · intro t66
              refine AW.iload X dX5_readLine_78 rfl ?_
              refine AW.iconst X (v := -1) dX5_readLine_80 rfl ?_
              refine AW.icmp_eq X (tgt := 93) dX5_readLine_81 rfl ?_ ?_
              · intro t81
                first | refine AW.aload_n X dX5_readLine_93 rfl rfl ?_ | refine AW.aloadN_n X dX5_readLine_93 rfl rfl ?_
                refine AW.ldcwS X 34 rfl rfl dX5_readLine_94 ?_
                refine AW.callV_i X (c_X5_passes (c := 30) hT hR C1 X1 s1 (by omega) (by omega)) (ci := 18) (q := (RX5, TX5, 74)) (by first | assumption | exact hT _ _ rfl) rfl s_X5_277_18 (by omega) (Nat.le_of_ble_eq_true rfl) rfl rfl (Nat.le_of_ble_eq_true rfl) dX5_readLine_97 ?_
                intro r97 I97 h97
                obtain ⟨rfl, y1, y2⟩ := h97
                have s2 : StM Bt sz (.error (5, beg Bt sz i)) I97 := y2
                refine AW.if_eq X (tgt := 110) dX5_readLine_100 rfl ?_ ?_
                · intro t100
                  first | refine AW.aload_n X dX5_readLine_110 rfl rfl ?_ | refine AW.aloadN_n X dX5_readLine_110 rfl rfl ?_
                  refine AW.ldcwS X 35 rfl rfl dX5_readLine_111 ?_
                  refine AW.callV_i X (c_X5_passes (c := 31) hT hR (C1.sf y1) (X1.sf y1) s2 (by omega) (by omega)) (ci := 18) (q := (RX5, TX5, 74)) (by first | assumption | exact hT _ _ rfl) rfl s_X5_277_18 (by omega) (Nat.le_of_ble_eq_true rfl) rfl rfl (Nat.le_of_ble_eq_true rfl) dX5_readLine_114 ?_
                  intro r114 I114 h114
                  obtain ⟨rfl, y3, y4⟩ := h114
                  have s3 : StM Bt sz (.error (5, beg Bt sz i)) I114 := y4
                  refine AW.if_eq X (tgt := 127) dX5_readLine_117 rfl ?_ ?_
                  · intro t117
                    first | refine AW.aload_n X dX5_readLine_127 rfl rfl ?_ | refine AW.aloadN_n X dX5_readLine_127 rfl rfl ?_
                    refine AW.ldcwS X 36 rfl rfl dX5_readLine_128 ?_
                    refine AW.callV_i X (c_X5_passes (c := 32) hT hR ((C1.sf y1).sf y3) ((X1.sf y1).sf y3) s3 (by omega) (by omega)) (ci := 18) (q := (RX5, TX5, 74)) (by first | assumption | exact hT _ _ rfl) rfl s_X5_277_18 (by omega) (Nat.le_of_ble_eq_true rfl) rfl rfl (Nat.le_of_ble_eq_true rfl) dX5_readLine_131 ?_
                    intro r131 I131 h131
                    obtain ⟨rfl, y5, y6⟩ := h131
                    have s4 : StM Bt sz (.error (5, beg Bt sz i)) I131 := y6
                    refine AW.if_eq X (tgt := 144) dX5_readLine_134 rfl ?_ ?_
                    · intro t134
                      first | refine AW.aload_n X dX5_readLine_144 rfl rfl ?_ | refine AW.aloadN_n X dX5_readLine_144 rfl rfl ?_
                      refine AW.ldcwS X 37 rfl rfl dX5_readLine_145 ?_
                      refine AW.callV_r X (c_X5_is (c := 33) hT hR (((C1.sf y1).sf y3).sf y5) (((X1.sf y1).sf y3).sf y5) s4 (by omega) (by omega)) (ci := 18) (q := (RX5, TX5, 74)) (by first | assumption | exact hT _ _ rfl) rfl s_X5_253_18 (by omega) (Nat.le_of_ble_eq_true rfl) rfl rfl (Nat.le_of_ble_eq_true rfl) dX5_readLine_148 ?_
                      refine AW.if_eq X (tgt := 161) dX5_readLine_151 rfl ?_ ?_
                      · intro t151
                        refine AW.iload_n X dX5_readLine_161 rfl rfl ?_
                        refine AW.if_ne X (tgt := 170) dX5_readLine_162 rfl ?_ ?_
                        · intro t162
                          exact erE _ _ _ _ 1 (5, beg Bt sz i) ⟨fun z => absurd z (by decide), fun z => absurd h34 z⟩ (Or.inr rfl) (((u1.tr y1).tr y3).tr y5) s4 hl0
                        · intro f162
                          exact absurd f162 (by decide)
                      · intro f151
                        exact absurd rfl f151
                    · intro f134
                      exact absurd rfl f134
                  · intro f117
                    exact absurd rfl f117
                · intro f100
                  exact absurd rfl f100
              · intro f81
                exact absurd rfl f81
            · intro f66
              exact absurd rfl f66
          · intro f52
            exact absurd rfl f52
    · have hl0 : lin0 Bt sz i S = Except.bind (numF Bt sz 0 99 (en Bt sz i)) fun l => Except.bind (numF Bt sz 0 99 l.2) fun b => .ok (b.2, w2 (w2 S.1 304 4 (nI l.1)) 304 5 (nI b.1), true, S.2.2) := by rw [l34]; unfold priceF; rw [if_neg hp]
      have hbp : b01 S.2.1 = 0 := if_neg hp
      first | refine AW.aload_n X dX5_readLine_0 rfl rfl ?_ | refine AW.aloadN_n X dX5_readLine_0 rfl rfl ?_
      refine AW.ldcwS X 32 rfl rfl dX5_readLine_1 ?_
      refine AW.callV_r X (c_X5_is (c := 34) hT hR hC hX hx (by omega) (by omega)) (ci := 18) (q := (RX5, TX5, 74)) (by first | assumption | exact hT _ _ rfl) rfl s_X5_253_18 (by omega) (Nat.le_of_ble_eq_true rfl) rfl rfl (Nat.le_of_ble_eq_true rfl) dX5_readLine_4 ?_
      rw [hB1]
      refine AW.istore2 X dX5_readLine_7 ?_
      refine AW.iload_n X dX5_readLine_8 rfl rfl ?_
      refine AW.if_eq X (tgt := 21) dX5_readLine_9 rfl ?_ ?_
      · intro t9
        exact absurd t9 (by decide)
      · intro f9
        refine AW.iload_n X dX5_readLine_12 rfl rfl ?_
        refine AW.if_eq X (tgt := 21) dX5_readLine_13 rfl ?_ ?_
        · intro t13
          first | refine AW.aload_n X dX5_readLine_21 rfl rfl ?_ | refine AW.aloadN_n X dX5_readLine_21 rfl rfl ?_
          first | refine AW.aload_n X dX5_readLine_22 rfl rfl ?_ | refine AW.aloadN_n X dX5_readLine_22 rfl rfl ?_
          refine AW.getR X f_X5_19_18 (by first | assumption | exact hT _ _ rfl) (by first | assumption | exact hR _ _ _ rfl) dX5_readLine_23 ?_
          refine AW.callV_r X (c_X5_which (c := 35) hT hR hC hX hx (by omega) (by omega) (hT _ _ rfl) (fun k hk => hR _ _ _ (by rcases (show k = 0 ∨ k = 1 ∨ k = 2 ∨ k = 3 by omega) with rfl | rfl | rfl | rfl <;> rfl))) (ci := 18) (q := (RX5, TX5, 74)) (by first | assumption | exact hT _ _ rfl) rfl s_X5_291_18 (by omega) (Nat.le_of_ble_eq_true rfl) rfl rfl (Nat.le_of_ble_eq_true rfl) dX5_readLine_26 ?_
          rw [whB_ok, if_neg (by omega)]
          refine AW.istore3 X dX5_readLine_29 ?_
          first | refine AW.aload_n X dX5_readLine_30 rfl rfl ?_ | refine AW.aloadN_n X dX5_readLine_30 rfl rfl ?_
          first | refine AW.aload_n X dX5_readLine_31 rfl rfl ?_ | refine AW.aloadN_n X dX5_readLine_31 rfl rfl ?_
          refine AW.getR X f_X5_31_18 (by first | assumption | exact hT _ _ rfl) (by first | assumption | exact hR _ _ _ rfl) dX5_readLine_32 ?_
          refine AW.callV_r X (c_X5_which (c := 22) hT hR hC hX hx (by omega) (by omega) (hT _ _ rfl) (fun k hk => hR _ _ _ (by rcases (show k = 0 ∨ k = 1 ∨ k = 2 ∨ k = 3 by omega) with rfl | rfl | rfl | rfl <;> rfl))) (ci := 18) (q := (RX5, TX5, 74)) (by first | assumption | exact hT _ _ rfl) rfl s_X5_291_18 (by omega) (Nat.le_of_ble_eq_true rfl) rfl rfl (Nat.le_of_ble_eq_true rfl) dX5_readLine_35 ?_
          rw [whB_ok, if_neg (by omega)]
          refine AW.istore4 X dX5_readLine_38 ?_
          first | refine AW.aload_n X dX5_readLine_40 rfl rfl ?_ | refine AW.aloadN_n X dX5_readLine_40 rfl rfl ?_
          first | refine AW.aload_n X dX5_readLine_41 rfl rfl ?_ | refine AW.aloadN_n X dX5_readLine_41 rfl rfl ?_
          refine AW.getR X f_X5_42_18 (by first | assumption | exact hT _ _ rfl) (by first | assumption | exact hR _ _ _ rfl) dX5_readLine_42 ?_
          refine AW.callV_r X (c_X5_which (c := 26) hT hR hC hX hx (by omega) (by omega) (hT _ _ rfl) (fun k hk => hR _ _ _ (by rcases (show k = 0 ∨ k = 1 ∨ k = 2 ∨ k = 3 by omega) with rfl | rfl | rfl | rfl <;> rfl))) (ci := 18) (q := (RX5, TX5, 74)) (by first | assumption | exact hT _ _ rfl) rfl s_X5_291_18 (by omega) (Nat.le_of_ble_eq_true rfl) rfl rfl (Nat.le_of_ble_eq_true rfl) dX5_readLine_45 ?_
          rw [whB_ok, if_neg (by omega)]
          refine AW.istore5 X dX5_readLine_48 ?_
          refine AW.iload_n X dX5_readLine_50 rfl rfl ?_
          refine AW.iconst X (v := -1) dX5_readLine_51 rfl ?_
          refine AW.icmp_eq X (tgt := 63) dX5_readLine_52 rfl ?_ ?_
          · intro t52
            refine AW.iload X dX5_readLine_63 rfl ?_
            refine AW.iconst X (v := -1) dX5_readLine_65 rfl ?_
            refine AW.icmp_eq X (tgt := 78) dX5_readLine_66 rfl ?_ ?_
            · intro t66
              refine AW.iload X dX5_readLine_78 rfl ?_
              refine AW.iconst X (v := -1) dX5_readLine_80 rfl ?_
              refine AW.icmp_eq X (tgt := 93) dX5_readLine_81 rfl ?_ ?_
              · intro t81
                first | refine AW.aload_n X dX5_readLine_93 rfl rfl ?_ | refine AW.aloadN_n X dX5_readLine_93 rfl rfl ?_
                refine AW.ldcwS X 34 rfl rfl dX5_readLine_94 ?_
                refine AW.callV_i X (c_X5_passes (c := 30) hT hR hC hX hx (by omega) (by omega)) (ci := 18) (q := (RX5, TX5, 74)) (by first | assumption | exact hT _ _ rfl) rfl s_X5_277_18 (by omega) (Nat.le_of_ble_eq_true rfl) rfl rfl (Nat.le_of_ble_eq_true rfl) dX5_readLine_97 ?_
                intro r97 I97 h97
                obtain ⟨rfl, y1, y2⟩ := h97
                have s2 : StM Bt sz (.ok i) I97 := by rw [psX_no (show ¬ cls Bt sz i = 30 by omega)] at y2; exact y2
                refine AW.if_eq X (tgt := 110) dX5_readLine_100 rfl ?_ ?_
                · intro t100
                  first | refine AW.aload_n X dX5_readLine_110 rfl rfl ?_ | refine AW.aloadN_n X dX5_readLine_110 rfl rfl ?_
                  refine AW.ldcwS X 35 rfl rfl dX5_readLine_111 ?_
                  refine AW.callV_i X (c_X5_passes (c := 31) hT hR (hC.sf y1) (hX.sf y1) s2 (by omega) (by omega)) (ci := 18) (q := (RX5, TX5, 74)) (by first | assumption | exact hT _ _ rfl) rfl s_X5_277_18 (by omega) (Nat.le_of_ble_eq_true rfl) rfl rfl (Nat.le_of_ble_eq_true rfl) dX5_readLine_114 ?_
                  intro r114 I114 h114
                  obtain ⟨rfl, y3, y4⟩ := h114
                  have s3 : StM Bt sz (.ok i) I114 := by rw [psX_no (show ¬ cls Bt sz i = 31 by omega)] at y4; exact y4
                  refine AW.if_eq X (tgt := 127) dX5_readLine_117 rfl ?_ ?_
                  · intro t117
                    first | refine AW.aload_n X dX5_readLine_127 rfl rfl ?_ | refine AW.aloadN_n X dX5_readLine_127 rfl rfl ?_
                    refine AW.ldcwS X 36 rfl rfl dX5_readLine_128 ?_
                    refine AW.callV_i X (c_X5_passes (c := 32) hT hR ((hC.sf y1).sf y3) ((hX.sf y1).sf y3) s3 (by omega) (by omega)) (ci := 18) (q := (RX5, TX5, 74)) (by first | assumption | exact hT _ _ rfl) rfl s_X5_277_18 (by omega) (Nat.le_of_ble_eq_true rfl) rfl rfl (Nat.le_of_ble_eq_true rfl) dX5_readLine_131 ?_
                    intro r131 I131 h131
                    obtain ⟨rfl, y5, y6⟩ := h131
                    have s4 : StM Bt sz (.ok i) I131 := by rw [psX_no (show ¬ cls Bt sz i = 32 by omega)] at y6; exact y6
                    refine AW.if_eq X (tgt := 144) dX5_readLine_134 rfl ?_ ?_
                    · intro t134
                      first | refine AW.aload_n X dX5_readLine_144 rfl rfl ?_ | refine AW.aloadN_n X dX5_readLine_144 rfl rfl ?_
                      refine AW.ldcwS X 37 rfl rfl dX5_readLine_145 ?_
                      refine AW.callV_r X (c_X5_is (c := 33) hT hR (((hC.sf y1).sf y3).sf y5) (((hX.sf y1).sf y3).sf y5) s4 (by omega) (by omega)) (ci := 18) (q := (RX5, TX5, 74)) (by first | assumption | exact hT _ _ rfl) rfl s_X5_253_18 (by omega) (Nat.le_of_ble_eq_true rfl) rfl rfl (Nat.le_of_ble_eq_true rfl) dX5_readLine_148 ?_
                      rw [isB_ok, if_neg (show ¬ cls Bt sz i = 33 by omega)]
                      refine AW.if_eq X (tgt := 161) dX5_readLine_151 rfl ?_ ?_
                      · intro t151
                        refine AW.iload_n X dX5_readLine_161 rfl rfl ?_
                        refine AW.if_ne X (tgt := 170) dX5_readLine_162 rfl ?_ ?_
                        · intro t162
                          first | refine AW.aload_n X dX5_readLine_170 rfl rfl ?_ | refine AW.aloadN_n X dX5_readLine_170 rfl rfl ?_
                          refine AW.getI X f_X5_239_18 (by first | assumption | exact hT _ _ rfl) dX5_readLine_171 ?_
                          rw [s4.2.1]
                          refine AW.if_ne X (tgt := 181) dX5_readLine_174 rfl ?_ ?_
                          · intro t174
                            exact absurd rfl t174
                          · intro f174
                            first | refine AW.aload_n X dX5_readLine_177 rfl rfl ?_ | refine AW.aloadN_n X dX5_readLine_177 rfl rfl ?_
                            refine AW.callV_i X (c_X5_stepOn hT hR (((hX.sf y1).sf y3).sf y5) (en_sz hi) s4.2.2.1) (ci := 18) (q := (RX5, TX5, 74)) (by first | assumption | exact hT _ _ rfl) rfl s_X5_257_18 (by omega) (Nat.le_of_ble_eq_true rfl) rfl rfl (Nat.le_of_ble_eq_true rfl) dX5_readLine_178 ?_
                            intro r178 I178 h178
                            obtain ⟨rfl, u1, u2⟩ := h178
                            have s5 : StM Bt sz (.ok (en Bt sz i)) I178 := ⟨en_sz hi, (u1.2 32 (by omega)).trans s4.2.1, u2⟩
                            have X5 := ((((hX.sf y1).sf y3).sf y5).sf u1.sf)
                            first | refine AW.aload_n X dX5_readLine_181 rfl rfl ?_ | refine AW.aloadN_n X dX5_readLine_181 rfl rfl ?_
                            refine AW.getR X f_X5_45_18 (by first | assumption | exact hT _ _ rfl) (by first | assumption | exact hR _ _ _ rfl) dX5_readLine_182 ?_
                            refine AW.bipush X (v := 10) dX5_readLine_185 rfl ?_
                            first | refine AW.aload_n X dX5_readLine_187 rfl rfl ?_ | refine AW.aloadN_n X dX5_readLine_187 rfl rfl ?_
                            refine AW.iconst X (v := 0) dX5_readLine_188 rfl ?_
                            refine AW.bipush X (v := 99) dX5_readLine_189 rfl ?_
                            refine AW.callV_i X (c_X5_readNumber (lo := 0) (hi := 99) hT hR X5 s5 (by omega) (by omega)) (ci := 18) (q := (RX5, TX5, 74)) (by first | assumption | exact hT _ _ rfl) rfl s_X5_273_18 (by omega) (Nat.le_of_ble_eq_true rfl) rfl rfl (Nat.le_of_ble_eq_true rfl) dX5_readLine_191 ?_
                            intro r191 I191 h191
                            obtain ⟨rfl, v1, v2⟩ := h191
                            refine AW.iast X (j := 10) (by omega) (by first | assumption | exact hT _ _ rfl) rfl (by omega) dX5_readLine_194 ?_
                            first | refine AW.aload_n X dX5_readLine_195 rfl rfl ?_ | refine AW.aloadN_n X dX5_readLine_195 rfl rfl ?_
                            refine AW.getR X f_X5_45_18 (by first | assumption | exact hT _ _ rfl) (by first | assumption | exact hR _ _ _ rfl) dX5_readLine_196 ?_
                            refine AW.bipush X (v := 11) dX5_readLine_199 rfl ?_
                            first | refine AW.aload_n X dX5_readLine_201 rfl rfl ?_ | refine AW.aloadN_n X dX5_readLine_201 rfl rfl ?_
                            refine AW.iconst X (v := 0) dX5_readLine_202 rfl ?_
                            refine AW.bipush X (v := 99) dX5_readLine_203 rfl ?_
                            refine AW.callV_i X (c_X5_readNumber (lo := 0) (hi := 99) hT hR ((X5.sf v1).w (b := 304) (by omega) (by omega)) (v2.w (b := 304) (by omega)) (by omega) (by omega)) (ci := 18) (q := (RX5, TX5, 74)) (by first | assumption | exact hT _ _ rfl) rfl s_X5_273_18 (by omega) (Nat.le_of_ble_eq_true rfl) rfl rfl (Nat.le_of_ble_eq_true rfl) dX5_readLine_205 ?_
                            intro r205 I205 h205
                            obtain ⟨rfl, w1, w2'⟩ := h205
                            refine AW.iast X (j := 11) (by omega) (by first | assumption | exact hT _ _ rfl) rfl (by omega) dX5_readLine_208 ?_
                            have z := (((((Zr.rf.sf y1).sf y3).sf y5).sf u1.sf).sf v1).w (b := 304) (k := 10) (v := vOf ((Except.ok (en Bt sz i)).bind (numF Bt sz 0 99))) (by omega)
                            have z2 := (z.sf w1).w (b := 304) (k := 11) (v := vOf ((gsX (.ok (en Bt sz i)) (numF Bt sz 0 99)).bind (numF Bt sz 0 99))) (by omega)
                            refine tl _ _ _ _ 1 ⟨fun z => absurd z (by decide), fun z => absurd h34 z⟩ (Or.inr rfl) (z2.tf ((TFr.rf.w (by omega) (by omega) (by show 6 ≤ 10; omega)).w (by omega) (by omega) (by show 6 ≤ 11; omega))) ?_
                            rw [hl0]
                            rcases e1 : numF Bt sz 0 99 (en Bt sz i) with er | l
                            · rw [show gsX (gsX (.ok (en Bt sz i)) (numF Bt sz 0 99)) (numF Bt sz 0 99) = .error er by rw [gsX_er rfl e1]; rfl] at w2'
                              exact StM.w (x := .error er) w2' (by omega)
                            have c1 := gsX_ok (x := .ok (en Bt sz i)) (f := numF Bt sz 0 99) rfl e1
                            show LnP Bt sz (Except.bind (numF Bt sz 0 99 l.2) _) _
                            rcases e2 : numF Bt sz 0 99 l.2 with er | b
                            · rw [show gsX (gsX (.ok (en Bt sz i)) (numF Bt sz 0 99)) (numF Bt sz 0 99) = .error er from gsX_er c1 e2] at w2'
                              exact StM.w (x := .error er) w2' (by omega)
                            rw [gsX_ok c1 e2] at w2'
                            have gg := hg.price (l := l.1) (b := b.1) (numF_en e1).2.2 (numF_en e2).2.2
                            refine ⟨w2'.w (by omega), hH.price gg.2 ?_, gg.1⟩
                            rw [← vOf_ok (x := .ok (en Bt sz i)) rfl e1, ← vOf_ok c1 e2]
                            exact z2
                        · intro f162
                          exact absurd f162 (by decide)
                      · intro f151
                        exact absurd rfl f151
                    · intro f134
                      exact absurd (isB_z.mpr (show ¬ cls Bt sz i = 32 by omega)) f134
                  · intro f117
                    exact absurd (isB_z.mpr (show ¬ cls Bt sz i = 31 by omega)) f117
                · intro f100
                  exact absurd (isB_z.mpr (show ¬ cls Bt sz i = 30 by omega)) f100
              · intro f81
                exact absurd rfl f81
            · intro f66
              exact absurd rfl f66
          · intro f52
            exact absurd rfl f52
        · intro f13
          exact absurd hbp f13
  · have hB0 : isB Bt sz (.ok i) 34 = 0 := by rw [hB, if_neg h34]
    have hpr : (0 : Int32) = 0 ↔ ¬ cls Bt sz i = 34 := ⟨fun _ => h34, fun _ => rfl⟩
    by_cases h_q : 35 ≤ cls Bt sz i ∧ cls Bt sz i ≤ 38
    · have hl0 : lin0 Bt sz i S = quayF Bt sz (cls Bt sz i - 35) i S := by unfold lin0; rw [if_pos (by omega)]
      first | refine AW.aload_n X dX5_readLine_0 rfl rfl ?_ | refine AW.aloadN_n X dX5_readLine_0 rfl rfl ?_
      refine AW.ldcwS X 32 rfl rfl dX5_readLine_1 ?_
      refine AW.callV_r X (c_X5_is (c := 34) hT hR hC hX hx (by omega) (by omega)) (ci := 18) (q := (RX5, TX5, 74)) (by first | assumption | exact hT _ _ rfl) rfl s_X5_253_18 (by omega) (Nat.le_of_ble_eq_true rfl) rfl rfl (Nat.le_of_ble_eq_true rfl) dX5_readLine_4 ?_
      rw [hB0]
      refine AW.istore2 X dX5_readLine_7 ?_
      refine AW.iload_n X dX5_readLine_8 rfl rfl ?_
      refine AW.if_eq X (tgt := 21) dX5_readLine_9 rfl ?_ ?_
      · intro t9
        first | refine AW.aload_n X dX5_readLine_21 rfl rfl ?_ | refine AW.aloadN_n X dX5_readLine_21 rfl rfl ?_
        first | refine AW.aload_n X dX5_readLine_22 rfl rfl ?_ | refine AW.aloadN_n X dX5_readLine_22 rfl rfl ?_
        refine AW.getR X f_X5_19_18 (by first | assumption | exact hT _ _ rfl) (by first | assumption | exact hR _ _ _ rfl) dX5_readLine_23 ?_
        refine AW.callV_r X (c_X5_which (c := 35) hT hR hC hX hx (by omega) (by omega) (hT _ _ rfl) (fun k hk => hR _ _ _ (by rcases (show k = 0 ∨ k = 1 ∨ k = 2 ∨ k = 3 by omega) with rfl | rfl | rfl | rfl <;> rfl))) (ci := 18) (q := (RX5, TX5, 74)) (by first | assumption | exact hT _ _ rfl) rfl s_X5_291_18 (by omega) (Nat.le_of_ble_eq_true rfl) rfl rfl (Nat.le_of_ble_eq_true rfl) dX5_readLine_26 ?_
        rw [whB_ok, if_pos (by omega)]
        refine AW.istore3 X dX5_readLine_29 ?_
        first | refine AW.aload_n X dX5_readLine_30 rfl rfl ?_ | refine AW.aloadN_n X dX5_readLine_30 rfl rfl ?_
        first | refine AW.aload_n X dX5_readLine_31 rfl rfl ?_ | refine AW.aloadN_n X dX5_readLine_31 rfl rfl ?_
        refine AW.getR X f_X5_31_18 (by first | assumption | exact hT _ _ rfl) (by first | assumption | exact hR _ _ _ rfl) dX5_readLine_32 ?_
        refine AW.callV_r X (c_X5_which (c := 22) hT hR hC hX hx (by omega) (by omega) (hT _ _ rfl) (fun k hk => hR _ _ _ (by rcases (show k = 0 ∨ k = 1 ∨ k = 2 ∨ k = 3 by omega) with rfl | rfl | rfl | rfl <;> rfl))) (ci := 18) (q := (RX5, TX5, 74)) (by first | assumption | exact hT _ _ rfl) rfl s_X5_291_18 (by omega) (Nat.le_of_ble_eq_true rfl) rfl rfl (Nat.le_of_ble_eq_true rfl) dX5_readLine_35 ?_
        rw [whB_ok, if_neg (by omega)]
        refine AW.istore4 X dX5_readLine_38 ?_
        first | refine AW.aload_n X dX5_readLine_40 rfl rfl ?_ | refine AW.aloadN_n X dX5_readLine_40 rfl rfl ?_
        first | refine AW.aload_n X dX5_readLine_41 rfl rfl ?_ | refine AW.aloadN_n X dX5_readLine_41 rfl rfl ?_
        refine AW.getR X f_X5_42_18 (by first | assumption | exact hT _ _ rfl) (by first | assumption | exact hR _ _ _ rfl) dX5_readLine_42 ?_
        refine AW.callV_r X (c_X5_which (c := 26) hT hR hC hX hx (by omega) (by omega) (hT _ _ rfl) (fun k hk => hR _ _ _ (by rcases (show k = 0 ∨ k = 1 ∨ k = 2 ∨ k = 3 by omega) with rfl | rfl | rfl | rfl <;> rfl))) (ci := 18) (q := (RX5, TX5, 74)) (by first | assumption | exact hT _ _ rfl) rfl s_X5_291_18 (by omega) (Nat.le_of_ble_eq_true rfl) rfl rfl (Nat.le_of_ble_eq_true rfl) dX5_readLine_45 ?_
        rw [whB_ok, if_neg (by omega)]
        refine AW.istore5 X dX5_readLine_48 ?_
        refine AW.iload_n X dX5_readLine_50 rfl rfl ?_
        refine AW.iconst X (v := -1) dX5_readLine_51 rfl ?_
        refine AW.icmp_eq X (tgt := 63) dX5_readLine_52 rfl ?_ ?_
        · intro t52
          exact absurd t52 (nI_m1 (by omega))
        · intro f52
          first | refine AW.aload_n X dX5_readLine_55 rfl rfl ?_ | refine AW.aloadN_n X dX5_readLine_55 rfl rfl ?_
          refine AW.iload_n X dX5_readLine_56 rfl rfl ?_
          refine AW.callV_i X (c_X5_readQuay hT hR hC hX hx hH hg (show cls Bt sz i - 35 < 4 by omega)) (ci := 18) (q := (RX5, TX5, 74)) (by first | assumption | exact hT _ _ rfl) rfl s_X5_295_18 (by omega) (Nat.le_of_ble_eq_true rfl) rfl rfl (Nat.le_of_ble_eq_true rfl) dX5_readLine_57 ?_
          intro r57 I57 h57
          obtain ⟨rfl, u1, u2⟩ := h57
          refine AW.goto X (tgt := 209) dX5_readLine_60 rfl ?_
          exact tl _ _ _ _ 0 hpr (Or.inl rfl) u1 (by rw [hl0]; exact u2)
      · intro f9
        exact absurd rfl f9
    by_cases h_e : 22 ≤ cls Bt sz i ∧ cls Bt sz i ≤ 25
    · have hl0 : lin0 Bt sz i S = eelF Bt sz (cls Bt sz i - 22) i S := by unfold lin0; rw [if_neg (by omega), if_pos (by omega)]
      first | refine AW.aload_n X dX5_readLine_0 rfl rfl ?_ | refine AW.aloadN_n X dX5_readLine_0 rfl rfl ?_
      refine AW.ldcwS X 32 rfl rfl dX5_readLine_1 ?_
      refine AW.callV_r X (c_X5_is (c := 34) hT hR hC hX hx (by omega) (by omega)) (ci := 18) (q := (RX5, TX5, 74)) (by first | assumption | exact hT _ _ rfl) rfl s_X5_253_18 (by omega) (Nat.le_of_ble_eq_true rfl) rfl rfl (Nat.le_of_ble_eq_true rfl) dX5_readLine_4 ?_
      rw [hB0]
      refine AW.istore2 X dX5_readLine_7 ?_
      refine AW.iload_n X dX5_readLine_8 rfl rfl ?_
      refine AW.if_eq X (tgt := 21) dX5_readLine_9 rfl ?_ ?_
      · intro t9
        first | refine AW.aload_n X dX5_readLine_21 rfl rfl ?_ | refine AW.aloadN_n X dX5_readLine_21 rfl rfl ?_
        first | refine AW.aload_n X dX5_readLine_22 rfl rfl ?_ | refine AW.aloadN_n X dX5_readLine_22 rfl rfl ?_
        refine AW.getR X f_X5_19_18 (by first | assumption | exact hT _ _ rfl) (by first | assumption | exact hR _ _ _ rfl) dX5_readLine_23 ?_
        refine AW.callV_r X (c_X5_which (c := 35) hT hR hC hX hx (by omega) (by omega) (hT _ _ rfl) (fun k hk => hR _ _ _ (by rcases (show k = 0 ∨ k = 1 ∨ k = 2 ∨ k = 3 by omega) with rfl | rfl | rfl | rfl <;> rfl))) (ci := 18) (q := (RX5, TX5, 74)) (by first | assumption | exact hT _ _ rfl) rfl s_X5_291_18 (by omega) (Nat.le_of_ble_eq_true rfl) rfl rfl (Nat.le_of_ble_eq_true rfl) dX5_readLine_26 ?_
        rw [whB_ok, if_neg (by omega)]
        refine AW.istore3 X dX5_readLine_29 ?_
        first | refine AW.aload_n X dX5_readLine_30 rfl rfl ?_ | refine AW.aloadN_n X dX5_readLine_30 rfl rfl ?_
        first | refine AW.aload_n X dX5_readLine_31 rfl rfl ?_ | refine AW.aloadN_n X dX5_readLine_31 rfl rfl ?_
        refine AW.getR X f_X5_31_18 (by first | assumption | exact hT _ _ rfl) (by first | assumption | exact hR _ _ _ rfl) dX5_readLine_32 ?_
        refine AW.callV_r X (c_X5_which (c := 22) hT hR hC hX hx (by omega) (by omega) (hT _ _ rfl) (fun k hk => hR _ _ _ (by rcases (show k = 0 ∨ k = 1 ∨ k = 2 ∨ k = 3 by omega) with rfl | rfl | rfl | rfl <;> rfl))) (ci := 18) (q := (RX5, TX5, 74)) (by first | assumption | exact hT _ _ rfl) rfl s_X5_291_18 (by omega) (Nat.le_of_ble_eq_true rfl) rfl rfl (Nat.le_of_ble_eq_true rfl) dX5_readLine_35 ?_
        rw [whB_ok, if_pos (by omega)]
        refine AW.istore4 X dX5_readLine_38 ?_
        first | refine AW.aload_n X dX5_readLine_40 rfl rfl ?_ | refine AW.aloadN_n X dX5_readLine_40 rfl rfl ?_
        first | refine AW.aload_n X dX5_readLine_41 rfl rfl ?_ | refine AW.aloadN_n X dX5_readLine_41 rfl rfl ?_
        refine AW.getR X f_X5_42_18 (by first | assumption | exact hT _ _ rfl) (by first | assumption | exact hR _ _ _ rfl) dX5_readLine_42 ?_
        refine AW.callV_r X (c_X5_which (c := 26) hT hR hC hX hx (by omega) (by omega) (hT _ _ rfl) (fun k hk => hR _ _ _ (by rcases (show k = 0 ∨ k = 1 ∨ k = 2 ∨ k = 3 by omega) with rfl | rfl | rfl | rfl <;> rfl))) (ci := 18) (q := (RX5, TX5, 74)) (by first | assumption | exact hT _ _ rfl) rfl s_X5_291_18 (by omega) (Nat.le_of_ble_eq_true rfl) rfl rfl (Nat.le_of_ble_eq_true rfl) dX5_readLine_45 ?_
        rw [whB_ok, if_neg (by omega)]
        refine AW.istore5 X dX5_readLine_48 ?_
        refine AW.iload_n X dX5_readLine_50 rfl rfl ?_
        refine AW.iconst X (v := -1) dX5_readLine_51 rfl ?_
        refine AW.icmp_eq X (tgt := 63) dX5_readLine_52 rfl ?_ ?_
        · intro t52
          refine AW.iload X dX5_readLine_63 rfl ?_
          refine AW.iconst X (v := -1) dX5_readLine_65 rfl ?_
          refine AW.icmp_eq X (tgt := 78) dX5_readLine_66 rfl ?_ ?_
          · intro t66
            exact absurd t66 (nI_m1 (by omega))
          · intro f66
            first | refine AW.aload_n X dX5_readLine_69 rfl rfl ?_ | refine AW.aloadN_n X dX5_readLine_69 rfl rfl ?_
            refine AW.iload X dX5_readLine_70 rfl ?_
            refine AW.callV_i X (c_X5_readEel hT hR hX hx hH hg (show cls Bt sz i - 22 < 4 by omega)) (ci := 18) (q := (RX5, TX5, 74)) (by first | assumption | exact hT _ _ rfl) rfl s_X5_298_18 (by omega) (Nat.le_of_ble_eq_true rfl) rfl rfl (Nat.le_of_ble_eq_true rfl) dX5_readLine_72 ?_
            intro r72 I72 h72
            obtain ⟨rfl, u1, u2⟩ := h72
            refine AW.goto X (tgt := 209) dX5_readLine_75 rfl ?_
            exact tl _ _ _ _ 0 hpr (Or.inl rfl) u1 (by rw [hl0]; exact u2)
        · intro f52
          exact absurd rfl f52
      · intro f9
        exact absurd rfl f9
    by_cases h_s : 26 ≤ cls Bt sz i ∧ cls Bt sz i ≤ 29
    · have hl0 : lin0 Bt sz i S = shipF Bt sz (cls Bt sz i - 26) i S := by unfold lin0; rw [if_neg (by omega), if_neg (by omega), if_pos (by omega)]
      first | refine AW.aload_n X dX5_readLine_0 rfl rfl ?_ | refine AW.aloadN_n X dX5_readLine_0 rfl rfl ?_
      refine AW.ldcwS X 32 rfl rfl dX5_readLine_1 ?_
      refine AW.callV_r X (c_X5_is (c := 34) hT hR hC hX hx (by omega) (by omega)) (ci := 18) (q := (RX5, TX5, 74)) (by first | assumption | exact hT _ _ rfl) rfl s_X5_253_18 (by omega) (Nat.le_of_ble_eq_true rfl) rfl rfl (Nat.le_of_ble_eq_true rfl) dX5_readLine_4 ?_
      rw [hB0]
      refine AW.istore2 X dX5_readLine_7 ?_
      refine AW.iload_n X dX5_readLine_8 rfl rfl ?_
      refine AW.if_eq X (tgt := 21) dX5_readLine_9 rfl ?_ ?_
      · intro t9
        first | refine AW.aload_n X dX5_readLine_21 rfl rfl ?_ | refine AW.aloadN_n X dX5_readLine_21 rfl rfl ?_
        first | refine AW.aload_n X dX5_readLine_22 rfl rfl ?_ | refine AW.aloadN_n X dX5_readLine_22 rfl rfl ?_
        refine AW.getR X f_X5_19_18 (by first | assumption | exact hT _ _ rfl) (by first | assumption | exact hR _ _ _ rfl) dX5_readLine_23 ?_
        refine AW.callV_r X (c_X5_which (c := 35) hT hR hC hX hx (by omega) (by omega) (hT _ _ rfl) (fun k hk => hR _ _ _ (by rcases (show k = 0 ∨ k = 1 ∨ k = 2 ∨ k = 3 by omega) with rfl | rfl | rfl | rfl <;> rfl))) (ci := 18) (q := (RX5, TX5, 74)) (by first | assumption | exact hT _ _ rfl) rfl s_X5_291_18 (by omega) (Nat.le_of_ble_eq_true rfl) rfl rfl (Nat.le_of_ble_eq_true rfl) dX5_readLine_26 ?_
        rw [whB_ok, if_neg (by omega)]
        refine AW.istore3 X dX5_readLine_29 ?_
        first | refine AW.aload_n X dX5_readLine_30 rfl rfl ?_ | refine AW.aloadN_n X dX5_readLine_30 rfl rfl ?_
        first | refine AW.aload_n X dX5_readLine_31 rfl rfl ?_ | refine AW.aloadN_n X dX5_readLine_31 rfl rfl ?_
        refine AW.getR X f_X5_31_18 (by first | assumption | exact hT _ _ rfl) (by first | assumption | exact hR _ _ _ rfl) dX5_readLine_32 ?_
        refine AW.callV_r X (c_X5_which (c := 22) hT hR hC hX hx (by omega) (by omega) (hT _ _ rfl) (fun k hk => hR _ _ _ (by rcases (show k = 0 ∨ k = 1 ∨ k = 2 ∨ k = 3 by omega) with rfl | rfl | rfl | rfl <;> rfl))) (ci := 18) (q := (RX5, TX5, 74)) (by first | assumption | exact hT _ _ rfl) rfl s_X5_291_18 (by omega) (Nat.le_of_ble_eq_true rfl) rfl rfl (Nat.le_of_ble_eq_true rfl) dX5_readLine_35 ?_
        rw [whB_ok, if_neg (by omega)]
        refine AW.istore4 X dX5_readLine_38 ?_
        first | refine AW.aload_n X dX5_readLine_40 rfl rfl ?_ | refine AW.aloadN_n X dX5_readLine_40 rfl rfl ?_
        first | refine AW.aload_n X dX5_readLine_41 rfl rfl ?_ | refine AW.aloadN_n X dX5_readLine_41 rfl rfl ?_
        refine AW.getR X f_X5_42_18 (by first | assumption | exact hT _ _ rfl) (by first | assumption | exact hR _ _ _ rfl) dX5_readLine_42 ?_
        refine AW.callV_r X (c_X5_which (c := 26) hT hR hC hX hx (by omega) (by omega) (hT _ _ rfl) (fun k hk => hR _ _ _ (by rcases (show k = 0 ∨ k = 1 ∨ k = 2 ∨ k = 3 by omega) with rfl | rfl | rfl | rfl <;> rfl))) (ci := 18) (q := (RX5, TX5, 74)) (by first | assumption | exact hT _ _ rfl) rfl s_X5_291_18 (by omega) (Nat.le_of_ble_eq_true rfl) rfl rfl (Nat.le_of_ble_eq_true rfl) dX5_readLine_45 ?_
        rw [whB_ok, if_pos (by omega)]
        refine AW.istore5 X dX5_readLine_48 ?_
        refine AW.iload_n X dX5_readLine_50 rfl rfl ?_
        refine AW.iconst X (v := -1) dX5_readLine_51 rfl ?_
        refine AW.icmp_eq X (tgt := 63) dX5_readLine_52 rfl ?_ ?_
        · intro t52
          refine AW.iload X dX5_readLine_63 rfl ?_
          refine AW.iconst X (v := -1) dX5_readLine_65 rfl ?_
          refine AW.icmp_eq X (tgt := 78) dX5_readLine_66 rfl ?_ ?_
          · intro t66
            refine AW.iload X dX5_readLine_78 rfl ?_
            refine AW.iconst X (v := -1) dX5_readLine_80 rfl ?_
            refine AW.icmp_eq X (tgt := 93) dX5_readLine_81 rfl ?_ ?_
            · intro t81
              exact absurd t81 (nI_m1 (by omega))
            · intro f81
              first | refine AW.aload_n X dX5_readLine_84 rfl rfl ?_ | refine AW.aloadN_n X dX5_readLine_84 rfl rfl ?_
              refine AW.iload X dX5_readLine_85 rfl ?_
              refine AW.callV_i X (c_X5_readShip hT hR hX hx hH hg (show cls Bt sz i - 26 < 4 by omega)) (ci := 18) (q := (RX5, TX5, 74)) (by first | assumption | exact hT _ _ rfl) rfl s_X5_301_18 (by omega) (Nat.le_of_ble_eq_true rfl) rfl rfl (Nat.le_of_ble_eq_true rfl) dX5_readLine_87 ?_
              intro r87 I87 h87
              obtain ⟨rfl, u1, u2⟩ := h87
              refine AW.goto X (tgt := 209) dX5_readLine_90 rfl ?_
              exact tl _ _ _ _ 0 hpr (Or.inl rfl) u1 (by rw [hl0]; exact u2)
          · intro f66
            exact absurd rfl f66
        · intro f52
          exact absurd rfl f52
      · intro f9
        exact absurd rfl f9
    by_cases h30 : cls Bt sz i = 30
    · have hl0 : lin0 Bt sz i S = wayF Bt sz i S := by unfold lin0; rw [if_neg (by omega), if_neg (by omega), if_neg (by omega), if_pos h30]
      first | refine AW.aload_n X dX5_readLine_0 rfl rfl ?_ | refine AW.aloadN_n X dX5_readLine_0 rfl rfl ?_
      refine AW.ldcwS X 32 rfl rfl dX5_readLine_1 ?_
      refine AW.callV_r X (c_X5_is (c := 34) hT hR hC hX hx (by omega) (by omega)) (ci := 18) (q := (RX5, TX5, 74)) (by first | assumption | exact hT _ _ rfl) rfl s_X5_253_18 (by omega) (Nat.le_of_ble_eq_true rfl) rfl rfl (Nat.le_of_ble_eq_true rfl) dX5_readLine_4 ?_
      rw [hB0]
      refine AW.istore2 X dX5_readLine_7 ?_
      refine AW.iload_n X dX5_readLine_8 rfl rfl ?_
      refine AW.if_eq X (tgt := 21) dX5_readLine_9 rfl ?_ ?_
      · intro t9
        first | refine AW.aload_n X dX5_readLine_21 rfl rfl ?_ | refine AW.aloadN_n X dX5_readLine_21 rfl rfl ?_
        first | refine AW.aload_n X dX5_readLine_22 rfl rfl ?_ | refine AW.aloadN_n X dX5_readLine_22 rfl rfl ?_
        refine AW.getR X f_X5_19_18 (by first | assumption | exact hT _ _ rfl) (by first | assumption | exact hR _ _ _ rfl) dX5_readLine_23 ?_
        refine AW.callV_r X (c_X5_which (c := 35) hT hR hC hX hx (by omega) (by omega) (hT _ _ rfl) (fun k hk => hR _ _ _ (by rcases (show k = 0 ∨ k = 1 ∨ k = 2 ∨ k = 3 by omega) with rfl | rfl | rfl | rfl <;> rfl))) (ci := 18) (q := (RX5, TX5, 74)) (by first | assumption | exact hT _ _ rfl) rfl s_X5_291_18 (by omega) (Nat.le_of_ble_eq_true rfl) rfl rfl (Nat.le_of_ble_eq_true rfl) dX5_readLine_26 ?_
        rw [whB_ok, if_neg (by omega)]
        refine AW.istore3 X dX5_readLine_29 ?_
        first | refine AW.aload_n X dX5_readLine_30 rfl rfl ?_ | refine AW.aloadN_n X dX5_readLine_30 rfl rfl ?_
        first | refine AW.aload_n X dX5_readLine_31 rfl rfl ?_ | refine AW.aloadN_n X dX5_readLine_31 rfl rfl ?_
        refine AW.getR X f_X5_31_18 (by first | assumption | exact hT _ _ rfl) (by first | assumption | exact hR _ _ _ rfl) dX5_readLine_32 ?_
        refine AW.callV_r X (c_X5_which (c := 22) hT hR hC hX hx (by omega) (by omega) (hT _ _ rfl) (fun k hk => hR _ _ _ (by rcases (show k = 0 ∨ k = 1 ∨ k = 2 ∨ k = 3 by omega) with rfl | rfl | rfl | rfl <;> rfl))) (ci := 18) (q := (RX5, TX5, 74)) (by first | assumption | exact hT _ _ rfl) rfl s_X5_291_18 (by omega) (Nat.le_of_ble_eq_true rfl) rfl rfl (Nat.le_of_ble_eq_true rfl) dX5_readLine_35 ?_
        rw [whB_ok, if_neg (by omega)]
        refine AW.istore4 X dX5_readLine_38 ?_
        first | refine AW.aload_n X dX5_readLine_40 rfl rfl ?_ | refine AW.aloadN_n X dX5_readLine_40 rfl rfl ?_
        first | refine AW.aload_n X dX5_readLine_41 rfl rfl ?_ | refine AW.aloadN_n X dX5_readLine_41 rfl rfl ?_
        refine AW.getR X f_X5_42_18 (by first | assumption | exact hT _ _ rfl) (by first | assumption | exact hR _ _ _ rfl) dX5_readLine_42 ?_
        refine AW.callV_r X (c_X5_which (c := 26) hT hR hC hX hx (by omega) (by omega) (hT _ _ rfl) (fun k hk => hR _ _ _ (by rcases (show k = 0 ∨ k = 1 ∨ k = 2 ∨ k = 3 by omega) with rfl | rfl | rfl | rfl <;> rfl))) (ci := 18) (q := (RX5, TX5, 74)) (by first | assumption | exact hT _ _ rfl) rfl s_X5_291_18 (by omega) (Nat.le_of_ble_eq_true rfl) rfl rfl (Nat.le_of_ble_eq_true rfl) dX5_readLine_45 ?_
        rw [whB_ok, if_neg (by omega)]
        refine AW.istore5 X dX5_readLine_48 ?_
        refine AW.iload_n X dX5_readLine_50 rfl rfl ?_
        refine AW.iconst X (v := -1) dX5_readLine_51 rfl ?_
        refine AW.icmp_eq X (tgt := 63) dX5_readLine_52 rfl ?_ ?_
        · intro t52
          refine AW.iload X dX5_readLine_63 rfl ?_
          refine AW.iconst X (v := -1) dX5_readLine_65 rfl ?_
          refine AW.icmp_eq X (tgt := 78) dX5_readLine_66 rfl ?_ ?_
          · intro t66
            refine AW.iload X dX5_readLine_78 rfl ?_
            refine AW.iconst X (v := -1) dX5_readLine_80 rfl ?_
            refine AW.icmp_eq X (tgt := 93) dX5_readLine_81 rfl ?_ ?_
            · intro t81
              first | refine AW.aload_n X dX5_readLine_93 rfl rfl ?_ | refine AW.aloadN_n X dX5_readLine_93 rfl rfl ?_
              refine AW.ldcwS X 34 rfl rfl dX5_readLine_94 ?_
              refine AW.callV_i X (c_X5_passes (c := 30) hT hR hC hX hx (by omega) (by omega)) (ci := 18) (q := (RX5, TX5, 74)) (by first | assumption | exact hT _ _ rfl) rfl s_X5_277_18 (by omega) (Nat.le_of_ble_eq_true rfl) rfl rfl (Nat.le_of_ble_eq_true rfl) dX5_readLine_97 ?_
              intro r97 I97 h97
              obtain ⟨rfl, p1, p2⟩ := h97
              rw [psX_yes h30] at p2
              refine AW.if_eq X (tgt := 110) dX5_readLine_100 rfl ?_ ?_
              · intro t100
                exact absurd h30 (isB_z.mp t100)
              · intro f100
                first | refine AW.aload_n X dX5_readLine_103 rfl rfl ?_ | refine AW.aloadN_n X dX5_readLine_103 rfl rfl ?_
                refine AW.callV_i X (c_X5_readWay hT hR (hX.sf p1) p2 (hH.sf p1) hg) (ci := 18) (q := (RX5, TX5, 74)) (by first | assumption | exact hT _ _ rfl) rfl s_X5_306_18 (by omega) (Nat.le_of_ble_eq_true rfl) rfl rfl (Nat.le_of_ble_eq_true rfl) dX5_readLine_104 ?_
                intro r104 I104 h104
                obtain ⟨rfl, u1, u2⟩ := h104
                refine AW.goto X (tgt := 209) dX5_readLine_107 rfl ?_
                exact tl _ _ _ _ 0 hpr (Or.inl rfl) (p1.tf.tr u1) (by rw [hl0]; exact u2)
            · intro f81
              exact absurd rfl f81
          · intro f66
            exact absurd rfl f66
        · intro f52
          exact absurd rfl f52
      · intro f9
        exact absurd rfl f9
    by_cases h31 : cls Bt sz i = 31
    · have hl0 : lin0 Bt sz i S = moonF Bt sz i S := by unfold lin0; rw [if_neg (by omega), if_neg (by omega), if_neg (by omega), if_neg (by omega), if_pos h31]
      first | refine AW.aload_n X dX5_readLine_0 rfl rfl ?_ | refine AW.aloadN_n X dX5_readLine_0 rfl rfl ?_
      refine AW.ldcwS X 32 rfl rfl dX5_readLine_1 ?_
      refine AW.callV_r X (c_X5_is (c := 34) hT hR hC hX hx (by omega) (by omega)) (ci := 18) (q := (RX5, TX5, 74)) (by first | assumption | exact hT _ _ rfl) rfl s_X5_253_18 (by omega) (Nat.le_of_ble_eq_true rfl) rfl rfl (Nat.le_of_ble_eq_true rfl) dX5_readLine_4 ?_
      rw [hB0]
      refine AW.istore2 X dX5_readLine_7 ?_
      refine AW.iload_n X dX5_readLine_8 rfl rfl ?_
      refine AW.if_eq X (tgt := 21) dX5_readLine_9 rfl ?_ ?_
      · intro t9
        first | refine AW.aload_n X dX5_readLine_21 rfl rfl ?_ | refine AW.aloadN_n X dX5_readLine_21 rfl rfl ?_
        first | refine AW.aload_n X dX5_readLine_22 rfl rfl ?_ | refine AW.aloadN_n X dX5_readLine_22 rfl rfl ?_
        refine AW.getR X f_X5_19_18 (by first | assumption | exact hT _ _ rfl) (by first | assumption | exact hR _ _ _ rfl) dX5_readLine_23 ?_
        refine AW.callV_r X (c_X5_which (c := 35) hT hR hC hX hx (by omega) (by omega) (hT _ _ rfl) (fun k hk => hR _ _ _ (by rcases (show k = 0 ∨ k = 1 ∨ k = 2 ∨ k = 3 by omega) with rfl | rfl | rfl | rfl <;> rfl))) (ci := 18) (q := (RX5, TX5, 74)) (by first | assumption | exact hT _ _ rfl) rfl s_X5_291_18 (by omega) (Nat.le_of_ble_eq_true rfl) rfl rfl (Nat.le_of_ble_eq_true rfl) dX5_readLine_26 ?_
        rw [whB_ok, if_neg (by omega)]
        refine AW.istore3 X dX5_readLine_29 ?_
        first | refine AW.aload_n X dX5_readLine_30 rfl rfl ?_ | refine AW.aloadN_n X dX5_readLine_30 rfl rfl ?_
        first | refine AW.aload_n X dX5_readLine_31 rfl rfl ?_ | refine AW.aloadN_n X dX5_readLine_31 rfl rfl ?_
        refine AW.getR X f_X5_31_18 (by first | assumption | exact hT _ _ rfl) (by first | assumption | exact hR _ _ _ rfl) dX5_readLine_32 ?_
        refine AW.callV_r X (c_X5_which (c := 22) hT hR hC hX hx (by omega) (by omega) (hT _ _ rfl) (fun k hk => hR _ _ _ (by rcases (show k = 0 ∨ k = 1 ∨ k = 2 ∨ k = 3 by omega) with rfl | rfl | rfl | rfl <;> rfl))) (ci := 18) (q := (RX5, TX5, 74)) (by first | assumption | exact hT _ _ rfl) rfl s_X5_291_18 (by omega) (Nat.le_of_ble_eq_true rfl) rfl rfl (Nat.le_of_ble_eq_true rfl) dX5_readLine_35 ?_
        rw [whB_ok, if_neg (by omega)]
        refine AW.istore4 X dX5_readLine_38 ?_
        first | refine AW.aload_n X dX5_readLine_40 rfl rfl ?_ | refine AW.aloadN_n X dX5_readLine_40 rfl rfl ?_
        first | refine AW.aload_n X dX5_readLine_41 rfl rfl ?_ | refine AW.aloadN_n X dX5_readLine_41 rfl rfl ?_
        refine AW.getR X f_X5_42_18 (by first | assumption | exact hT _ _ rfl) (by first | assumption | exact hR _ _ _ rfl) dX5_readLine_42 ?_
        refine AW.callV_r X (c_X5_which (c := 26) hT hR hC hX hx (by omega) (by omega) (hT _ _ rfl) (fun k hk => hR _ _ _ (by rcases (show k = 0 ∨ k = 1 ∨ k = 2 ∨ k = 3 by omega) with rfl | rfl | rfl | rfl <;> rfl))) (ci := 18) (q := (RX5, TX5, 74)) (by first | assumption | exact hT _ _ rfl) rfl s_X5_291_18 (by omega) (Nat.le_of_ble_eq_true rfl) rfl rfl (Nat.le_of_ble_eq_true rfl) dX5_readLine_45 ?_
        rw [whB_ok, if_neg (by omega)]
        refine AW.istore5 X dX5_readLine_48 ?_
        refine AW.iload_n X dX5_readLine_50 rfl rfl ?_
        refine AW.iconst X (v := -1) dX5_readLine_51 rfl ?_
        refine AW.icmp_eq X (tgt := 63) dX5_readLine_52 rfl ?_ ?_
        · intro t52
          refine AW.iload X dX5_readLine_63 rfl ?_
          refine AW.iconst X (v := -1) dX5_readLine_65 rfl ?_
          refine AW.icmp_eq X (tgt := 78) dX5_readLine_66 rfl ?_ ?_
          · intro t66
            refine AW.iload X dX5_readLine_78 rfl ?_
            refine AW.iconst X (v := -1) dX5_readLine_80 rfl ?_
            refine AW.icmp_eq X (tgt := 93) dX5_readLine_81 rfl ?_ ?_
            · intro t81
              first | refine AW.aload_n X dX5_readLine_93 rfl rfl ?_ | refine AW.aloadN_n X dX5_readLine_93 rfl rfl ?_
              refine AW.ldcwS X 34 rfl rfl dX5_readLine_94 ?_
              refine AW.callV_i X (c_X5_passes (c := 30) hT hR hC hX hx (by omega) (by omega)) (ci := 18) (q := (RX5, TX5, 74)) (by first | assumption | exact hT _ _ rfl) rfl s_X5_277_18 (by omega) (Nat.le_of_ble_eq_true rfl) rfl rfl (Nat.le_of_ble_eq_true rfl) dX5_readLine_97 ?_
              intro r97 I97 h97
              obtain ⟨rfl, y1, y2⟩ := h97
              have s2 : StM Bt sz (.ok i) I97 := by rw [psX_no (show ¬ cls Bt sz i = 30 by omega)] at y2; exact y2
              refine AW.if_eq X (tgt := 110) dX5_readLine_100 rfl ?_ ?_
              · intro t100
                first | refine AW.aload_n X dX5_readLine_110 rfl rfl ?_ | refine AW.aloadN_n X dX5_readLine_110 rfl rfl ?_
                refine AW.ldcwS X 35 rfl rfl dX5_readLine_111 ?_
                refine AW.callV_i X (c_X5_passes (c := 31) hT hR (hC.sf y1) (hX.sf y1) s2 (by omega) (by omega)) (ci := 18) (q := (RX5, TX5, 74)) (by first | assumption | exact hT _ _ rfl) rfl s_X5_277_18 (by omega) (Nat.le_of_ble_eq_true rfl) rfl rfl (Nat.le_of_ble_eq_true rfl) dX5_readLine_114 ?_
                intro r114 I114 h114
                obtain ⟨rfl, p1, p2⟩ := h114
                rw [psX_yes h31] at p2
                refine AW.if_eq X (tgt := 127) dX5_readLine_117 rfl ?_ ?_
                · intro t117
                  exact absurd h31 (isB_z.mp t117)
                · intro f117
                  first | refine AW.aload_n X dX5_readLine_120 rfl rfl ?_ | refine AW.aloadN_n X dX5_readLine_120 rfl rfl ?_
                  refine AW.callV_i X (c_X5_readMoon hT hR ((hX.sf y1).sf p1) p2 ((hH.sf y1).sf p1) hg) (ci := 18) (q := (RX5, TX5, 74)) (by first | assumption | exact hT _ _ rfl) rfl s_X5_310_18 (by omega) (Nat.le_of_ble_eq_true rfl) rfl rfl (Nat.le_of_ble_eq_true rfl) dX5_readLine_121 ?_
                  intro r121 I121 h121
                  obtain ⟨rfl, u1, u2⟩ := h121
                  refine AW.goto X (tgt := 209) dX5_readLine_124 rfl ?_
                  exact tl _ _ _ _ 0 hpr (Or.inl rfl) ((y1.tr p1).tf.tr u1) (by rw [hl0]; exact u2)
              · intro f100
                exact absurd (isB_z.mpr (show ¬ cls Bt sz i = 30 by omega)) f100
            · intro f81
              exact absurd rfl f81
          · intro f66
            exact absurd rfl f66
        · intro f52
          exact absurd rfl f52
      · intro f9
        exact absurd rfl f9
    by_cases h32 : cls Bt sz i = 32
    · have hl0 : lin0 Bt sz i S = coldF Bt sz i S := by unfold lin0; rw [if_neg (by omega), if_neg (by omega), if_neg (by omega), if_neg (by omega), if_neg (by omega), if_pos h32]
      first | refine AW.aload_n X dX5_readLine_0 rfl rfl ?_ | refine AW.aloadN_n X dX5_readLine_0 rfl rfl ?_
      refine AW.ldcwS X 32 rfl rfl dX5_readLine_1 ?_
      refine AW.callV_r X (c_X5_is (c := 34) hT hR hC hX hx (by omega) (by omega)) (ci := 18) (q := (RX5, TX5, 74)) (by first | assumption | exact hT _ _ rfl) rfl s_X5_253_18 (by omega) (Nat.le_of_ble_eq_true rfl) rfl rfl (Nat.le_of_ble_eq_true rfl) dX5_readLine_4 ?_
      rw [hB0]
      refine AW.istore2 X dX5_readLine_7 ?_
      refine AW.iload_n X dX5_readLine_8 rfl rfl ?_
      refine AW.if_eq X (tgt := 21) dX5_readLine_9 rfl ?_ ?_
      · intro t9
        first | refine AW.aload_n X dX5_readLine_21 rfl rfl ?_ | refine AW.aloadN_n X dX5_readLine_21 rfl rfl ?_
        first | refine AW.aload_n X dX5_readLine_22 rfl rfl ?_ | refine AW.aloadN_n X dX5_readLine_22 rfl rfl ?_
        refine AW.getR X f_X5_19_18 (by first | assumption | exact hT _ _ rfl) (by first | assumption | exact hR _ _ _ rfl) dX5_readLine_23 ?_
        refine AW.callV_r X (c_X5_which (c := 35) hT hR hC hX hx (by omega) (by omega) (hT _ _ rfl) (fun k hk => hR _ _ _ (by rcases (show k = 0 ∨ k = 1 ∨ k = 2 ∨ k = 3 by omega) with rfl | rfl | rfl | rfl <;> rfl))) (ci := 18) (q := (RX5, TX5, 74)) (by first | assumption | exact hT _ _ rfl) rfl s_X5_291_18 (by omega) (Nat.le_of_ble_eq_true rfl) rfl rfl (Nat.le_of_ble_eq_true rfl) dX5_readLine_26 ?_
        rw [whB_ok, if_neg (by omega)]
        refine AW.istore3 X dX5_readLine_29 ?_
        first | refine AW.aload_n X dX5_readLine_30 rfl rfl ?_ | refine AW.aloadN_n X dX5_readLine_30 rfl rfl ?_
        first | refine AW.aload_n X dX5_readLine_31 rfl rfl ?_ | refine AW.aloadN_n X dX5_readLine_31 rfl rfl ?_
        refine AW.getR X f_X5_31_18 (by first | assumption | exact hT _ _ rfl) (by first | assumption | exact hR _ _ _ rfl) dX5_readLine_32 ?_
        refine AW.callV_r X (c_X5_which (c := 22) hT hR hC hX hx (by omega) (by omega) (hT _ _ rfl) (fun k hk => hR _ _ _ (by rcases (show k = 0 ∨ k = 1 ∨ k = 2 ∨ k = 3 by omega) with rfl | rfl | rfl | rfl <;> rfl))) (ci := 18) (q := (RX5, TX5, 74)) (by first | assumption | exact hT _ _ rfl) rfl s_X5_291_18 (by omega) (Nat.le_of_ble_eq_true rfl) rfl rfl (Nat.le_of_ble_eq_true rfl) dX5_readLine_35 ?_
        rw [whB_ok, if_neg (by omega)]
        refine AW.istore4 X dX5_readLine_38 ?_
        first | refine AW.aload_n X dX5_readLine_40 rfl rfl ?_ | refine AW.aloadN_n X dX5_readLine_40 rfl rfl ?_
        first | refine AW.aload_n X dX5_readLine_41 rfl rfl ?_ | refine AW.aloadN_n X dX5_readLine_41 rfl rfl ?_
        refine AW.getR X f_X5_42_18 (by first | assumption | exact hT _ _ rfl) (by first | assumption | exact hR _ _ _ rfl) dX5_readLine_42 ?_
        refine AW.callV_r X (c_X5_which (c := 26) hT hR hC hX hx (by omega) (by omega) (hT _ _ rfl) (fun k hk => hR _ _ _ (by rcases (show k = 0 ∨ k = 1 ∨ k = 2 ∨ k = 3 by omega) with rfl | rfl | rfl | rfl <;> rfl))) (ci := 18) (q := (RX5, TX5, 74)) (by first | assumption | exact hT _ _ rfl) rfl s_X5_291_18 (by omega) (Nat.le_of_ble_eq_true rfl) rfl rfl (Nat.le_of_ble_eq_true rfl) dX5_readLine_45 ?_
        rw [whB_ok, if_neg (by omega)]
        refine AW.istore5 X dX5_readLine_48 ?_
        refine AW.iload_n X dX5_readLine_50 rfl rfl ?_
        refine AW.iconst X (v := -1) dX5_readLine_51 rfl ?_
        refine AW.icmp_eq X (tgt := 63) dX5_readLine_52 rfl ?_ ?_
        · intro t52
          refine AW.iload X dX5_readLine_63 rfl ?_
          refine AW.iconst X (v := -1) dX5_readLine_65 rfl ?_
          refine AW.icmp_eq X (tgt := 78) dX5_readLine_66 rfl ?_ ?_
          · intro t66
            refine AW.iload X dX5_readLine_78 rfl ?_
            refine AW.iconst X (v := -1) dX5_readLine_80 rfl ?_
            refine AW.icmp_eq X (tgt := 93) dX5_readLine_81 rfl ?_ ?_
            · intro t81
              first | refine AW.aload_n X dX5_readLine_93 rfl rfl ?_ | refine AW.aloadN_n X dX5_readLine_93 rfl rfl ?_
              refine AW.ldcwS X 34 rfl rfl dX5_readLine_94 ?_
              refine AW.callV_i X (c_X5_passes (c := 30) hT hR hC hX hx (by omega) (by omega)) (ci := 18) (q := (RX5, TX5, 74)) (by first | assumption | exact hT _ _ rfl) rfl s_X5_277_18 (by omega) (Nat.le_of_ble_eq_true rfl) rfl rfl (Nat.le_of_ble_eq_true rfl) dX5_readLine_97 ?_
              intro r97 I97 h97
              obtain ⟨rfl, y1, y2⟩ := h97
              have s2 : StM Bt sz (.ok i) I97 := by rw [psX_no (show ¬ cls Bt sz i = 30 by omega)] at y2; exact y2
              refine AW.if_eq X (tgt := 110) dX5_readLine_100 rfl ?_ ?_
              · intro t100
                first | refine AW.aload_n X dX5_readLine_110 rfl rfl ?_ | refine AW.aloadN_n X dX5_readLine_110 rfl rfl ?_
                refine AW.ldcwS X 35 rfl rfl dX5_readLine_111 ?_
                refine AW.callV_i X (c_X5_passes (c := 31) hT hR (hC.sf y1) (hX.sf y1) s2 (by omega) (by omega)) (ci := 18) (q := (RX5, TX5, 74)) (by first | assumption | exact hT _ _ rfl) rfl s_X5_277_18 (by omega) (Nat.le_of_ble_eq_true rfl) rfl rfl (Nat.le_of_ble_eq_true rfl) dX5_readLine_114 ?_
                intro r114 I114 h114
                obtain ⟨rfl, y3, y4⟩ := h114
                have s3 : StM Bt sz (.ok i) I114 := by rw [psX_no (show ¬ cls Bt sz i = 31 by omega)] at y4; exact y4
                refine AW.if_eq X (tgt := 127) dX5_readLine_117 rfl ?_ ?_
                · intro t117
                  first | refine AW.aload_n X dX5_readLine_127 rfl rfl ?_ | refine AW.aloadN_n X dX5_readLine_127 rfl rfl ?_
                  refine AW.ldcwS X 36 rfl rfl dX5_readLine_128 ?_
                  refine AW.callV_i X (c_X5_passes (c := 32) hT hR ((hC.sf y1).sf y3) ((hX.sf y1).sf y3) s3 (by omega) (by omega)) (ci := 18) (q := (RX5, TX5, 74)) (by first | assumption | exact hT _ _ rfl) rfl s_X5_277_18 (by omega) (Nat.le_of_ble_eq_true rfl) rfl rfl (Nat.le_of_ble_eq_true rfl) dX5_readLine_131 ?_
                  intro r131 I131 h131
                  obtain ⟨rfl, p1, p2⟩ := h131
                  rw [psX_yes h32] at p2
                  refine AW.if_eq X (tgt := 144) dX5_readLine_134 rfl ?_ ?_
                  · intro t134
                    exact absurd h32 (isB_z.mp t134)
                  · intro f134
                    first | refine AW.aload_n X dX5_readLine_137 rfl rfl ?_ | refine AW.aloadN_n X dX5_readLine_137 rfl rfl ?_
                    refine AW.callV_i X (c_X5_readCold hT hR (((hX.sf y1).sf y3).sf p1) p2 (((hH.sf y1).sf y3).sf p1) hg) (ci := 18) (q := (RX5, TX5, 74)) (by first | assumption | exact hT _ _ rfl) rfl s_X5_315_18 (by omega) (Nat.le_of_ble_eq_true rfl) rfl rfl (Nat.le_of_ble_eq_true rfl) dX5_readLine_138 ?_
                    intro r138 I138 h138
                    obtain ⟨rfl, u1, u2⟩ := h138
                    refine AW.goto X (tgt := 209) dX5_readLine_141 rfl ?_
                    exact tl _ _ _ _ 0 hpr (Or.inl rfl) (((y1.tr y3).tr p1).tf.tr u1) (by rw [hl0]; exact u2)
                · intro f117
                  exact absurd (isB_z.mpr (show ¬ cls Bt sz i = 31 by omega)) f117
              · intro f100
                exact absurd (isB_z.mpr (show ¬ cls Bt sz i = 30 by omega)) f100
            · intro f81
              exact absurd rfl f81
          · intro f66
            exact absurd rfl f66
        · intro f52
          exact absurd rfl f52
      · intro f9
        exact absurd rfl f9
    by_cases h33 : cls Bt sz i = 33
    · have hl0 : lin0 Bt sz i S = hoodF Bt sz i S := by unfold lin0; rw [if_neg (by omega), if_neg (by omega), if_neg (by omega), if_neg (by omega), if_neg (by omega), if_neg (by omega), if_pos h33]
      first | refine AW.aload_n X dX5_readLine_0 rfl rfl ?_ | refine AW.aloadN_n X dX5_readLine_0 rfl rfl ?_
      refine AW.ldcwS X 32 rfl rfl dX5_readLine_1 ?_
      refine AW.callV_r X (c_X5_is (c := 34) hT hR hC hX hx (by omega) (by omega)) (ci := 18) (q := (RX5, TX5, 74)) (by first | assumption | exact hT _ _ rfl) rfl s_X5_253_18 (by omega) (Nat.le_of_ble_eq_true rfl) rfl rfl (Nat.le_of_ble_eq_true rfl) dX5_readLine_4 ?_
      rw [hB0]
      refine AW.istore2 X dX5_readLine_7 ?_
      refine AW.iload_n X dX5_readLine_8 rfl rfl ?_
      refine AW.if_eq X (tgt := 21) dX5_readLine_9 rfl ?_ ?_
      · intro t9
        first | refine AW.aload_n X dX5_readLine_21 rfl rfl ?_ | refine AW.aloadN_n X dX5_readLine_21 rfl rfl ?_
        first | refine AW.aload_n X dX5_readLine_22 rfl rfl ?_ | refine AW.aloadN_n X dX5_readLine_22 rfl rfl ?_
        refine AW.getR X f_X5_19_18 (by first | assumption | exact hT _ _ rfl) (by first | assumption | exact hR _ _ _ rfl) dX5_readLine_23 ?_
        refine AW.callV_r X (c_X5_which (c := 35) hT hR hC hX hx (by omega) (by omega) (hT _ _ rfl) (fun k hk => hR _ _ _ (by rcases (show k = 0 ∨ k = 1 ∨ k = 2 ∨ k = 3 by omega) with rfl | rfl | rfl | rfl <;> rfl))) (ci := 18) (q := (RX5, TX5, 74)) (by first | assumption | exact hT _ _ rfl) rfl s_X5_291_18 (by omega) (Nat.le_of_ble_eq_true rfl) rfl rfl (Nat.le_of_ble_eq_true rfl) dX5_readLine_26 ?_
        rw [whB_ok, if_neg (by omega)]
        refine AW.istore3 X dX5_readLine_29 ?_
        first | refine AW.aload_n X dX5_readLine_30 rfl rfl ?_ | refine AW.aloadN_n X dX5_readLine_30 rfl rfl ?_
        first | refine AW.aload_n X dX5_readLine_31 rfl rfl ?_ | refine AW.aloadN_n X dX5_readLine_31 rfl rfl ?_
        refine AW.getR X f_X5_31_18 (by first | assumption | exact hT _ _ rfl) (by first | assumption | exact hR _ _ _ rfl) dX5_readLine_32 ?_
        refine AW.callV_r X (c_X5_which (c := 22) hT hR hC hX hx (by omega) (by omega) (hT _ _ rfl) (fun k hk => hR _ _ _ (by rcases (show k = 0 ∨ k = 1 ∨ k = 2 ∨ k = 3 by omega) with rfl | rfl | rfl | rfl <;> rfl))) (ci := 18) (q := (RX5, TX5, 74)) (by first | assumption | exact hT _ _ rfl) rfl s_X5_291_18 (by omega) (Nat.le_of_ble_eq_true rfl) rfl rfl (Nat.le_of_ble_eq_true rfl) dX5_readLine_35 ?_
        rw [whB_ok, if_neg (by omega)]
        refine AW.istore4 X dX5_readLine_38 ?_
        first | refine AW.aload_n X dX5_readLine_40 rfl rfl ?_ | refine AW.aloadN_n X dX5_readLine_40 rfl rfl ?_
        first | refine AW.aload_n X dX5_readLine_41 rfl rfl ?_ | refine AW.aloadN_n X dX5_readLine_41 rfl rfl ?_
        refine AW.getR X f_X5_42_18 (by first | assumption | exact hT _ _ rfl) (by first | assumption | exact hR _ _ _ rfl) dX5_readLine_42 ?_
        refine AW.callV_r X (c_X5_which (c := 26) hT hR hC hX hx (by omega) (by omega) (hT _ _ rfl) (fun k hk => hR _ _ _ (by rcases (show k = 0 ∨ k = 1 ∨ k = 2 ∨ k = 3 by omega) with rfl | rfl | rfl | rfl <;> rfl))) (ci := 18) (q := (RX5, TX5, 74)) (by first | assumption | exact hT _ _ rfl) rfl s_X5_291_18 (by omega) (Nat.le_of_ble_eq_true rfl) rfl rfl (Nat.le_of_ble_eq_true rfl) dX5_readLine_45 ?_
        rw [whB_ok, if_neg (by omega)]
        refine AW.istore5 X dX5_readLine_48 ?_
        refine AW.iload_n X dX5_readLine_50 rfl rfl ?_
        refine AW.iconst X (v := -1) dX5_readLine_51 rfl ?_
        refine AW.icmp_eq X (tgt := 63) dX5_readLine_52 rfl ?_ ?_
        · intro t52
          refine AW.iload X dX5_readLine_63 rfl ?_
          refine AW.iconst X (v := -1) dX5_readLine_65 rfl ?_
          refine AW.icmp_eq X (tgt := 78) dX5_readLine_66 rfl ?_ ?_
          · intro t66
            refine AW.iload X dX5_readLine_78 rfl ?_
            refine AW.iconst X (v := -1) dX5_readLine_80 rfl ?_
            refine AW.icmp_eq X (tgt := 93) dX5_readLine_81 rfl ?_ ?_
            · intro t81
              first | refine AW.aload_n X dX5_readLine_93 rfl rfl ?_ | refine AW.aloadN_n X dX5_readLine_93 rfl rfl ?_
              refine AW.ldcwS X 34 rfl rfl dX5_readLine_94 ?_
              refine AW.callV_i X (c_X5_passes (c := 30) hT hR hC hX hx (by omega) (by omega)) (ci := 18) (q := (RX5, TX5, 74)) (by first | assumption | exact hT _ _ rfl) rfl s_X5_277_18 (by omega) (Nat.le_of_ble_eq_true rfl) rfl rfl (Nat.le_of_ble_eq_true rfl) dX5_readLine_97 ?_
              intro r97 I97 h97
              obtain ⟨rfl, y1, y2⟩ := h97
              have s2 : StM Bt sz (.ok i) I97 := by rw [psX_no (show ¬ cls Bt sz i = 30 by omega)] at y2; exact y2
              refine AW.if_eq X (tgt := 110) dX5_readLine_100 rfl ?_ ?_
              · intro t100
                first | refine AW.aload_n X dX5_readLine_110 rfl rfl ?_ | refine AW.aloadN_n X dX5_readLine_110 rfl rfl ?_
                refine AW.ldcwS X 35 rfl rfl dX5_readLine_111 ?_
                refine AW.callV_i X (c_X5_passes (c := 31) hT hR (hC.sf y1) (hX.sf y1) s2 (by omega) (by omega)) (ci := 18) (q := (RX5, TX5, 74)) (by first | assumption | exact hT _ _ rfl) rfl s_X5_277_18 (by omega) (Nat.le_of_ble_eq_true rfl) rfl rfl (Nat.le_of_ble_eq_true rfl) dX5_readLine_114 ?_
                intro r114 I114 h114
                obtain ⟨rfl, y3, y4⟩ := h114
                have s3 : StM Bt sz (.ok i) I114 := by rw [psX_no (show ¬ cls Bt sz i = 31 by omega)] at y4; exact y4
                refine AW.if_eq X (tgt := 127) dX5_readLine_117 rfl ?_ ?_
                · intro t117
                  first | refine AW.aload_n X dX5_readLine_127 rfl rfl ?_ | refine AW.aloadN_n X dX5_readLine_127 rfl rfl ?_
                  refine AW.ldcwS X 36 rfl rfl dX5_readLine_128 ?_
                  refine AW.callV_i X (c_X5_passes (c := 32) hT hR ((hC.sf y1).sf y3) ((hX.sf y1).sf y3) s3 (by omega) (by omega)) (ci := 18) (q := (RX5, TX5, 74)) (by first | assumption | exact hT _ _ rfl) rfl s_X5_277_18 (by omega) (Nat.le_of_ble_eq_true rfl) rfl rfl (Nat.le_of_ble_eq_true rfl) dX5_readLine_131 ?_
                  intro r131 I131 h131
                  obtain ⟨rfl, y5, y6⟩ := h131
                  have s4 : StM Bt sz (.ok i) I131 := by rw [psX_no (show ¬ cls Bt sz i = 32 by omega)] at y6; exact y6
                  refine AW.if_eq X (tgt := 144) dX5_readLine_134 rfl ?_ ?_
                  · intro t134
                    first | refine AW.aload_n X dX5_readLine_144 rfl rfl ?_ | refine AW.aloadN_n X dX5_readLine_144 rfl rfl ?_
                    refine AW.ldcwS X 37 rfl rfl dX5_readLine_145 ?_
                    refine AW.callV_r X (c_X5_is (c := 33) hT hR (((hC.sf y1).sf y3).sf y5) (((hX.sf y1).sf y3).sf y5) s4 (by omega) (by omega)) (ci := 18) (q := (RX5, TX5, 74)) (by first | assumption | exact hT _ _ rfl) rfl s_X5_253_18 (by omega) (Nat.le_of_ble_eq_true rfl) rfl rfl (Nat.le_of_ble_eq_true rfl) dX5_readLine_148 ?_
                    refine AW.if_eq X (tgt := 161) dX5_readLine_151 rfl ?_ ?_
                    · intro t151
                      exact absurd h33 (isB_z.mp t151)
                    · intro f151
                      first | refine AW.aload_n X dX5_readLine_154 rfl rfl ?_ | refine AW.aloadN_n X dX5_readLine_154 rfl rfl ?_
                      refine AW.callV_i X (c_X5_readHood hT hR (((hX.sf y1).sf y3).sf y5) s4 (((hH.sf y1).sf y3).sf y5) hg) (ci := 18) (q := (RX5, TX5, 74)) (by first | assumption | exact hT _ _ rfl) rfl s_X5_320_18 (by omega) (Nat.le_of_ble_eq_true rfl) rfl rfl (Nat.le_of_ble_eq_true rfl) dX5_readLine_155 ?_
                      intro r155 I155 h155
                      obtain ⟨rfl, u1, u2⟩ := h155
                      refine AW.goto X (tgt := 209) dX5_readLine_158 rfl ?_
                      exact tl _ _ _ _ 0 hpr (Or.inl rfl) (((y1.tr y3).tr y5).tf.tr u1) (by rw [hl0]; exact u2)
                  · intro f134
                    exact absurd (isB_z.mpr (show ¬ cls Bt sz i = 32 by omega)) f134
                · intro f117
                  exact absurd (isB_z.mpr (show ¬ cls Bt sz i = 31 by omega)) f117
              · intro f100
                exact absurd (isB_z.mpr (show ¬ cls Bt sz i = 30 by omega)) f100
            · intro f81
              exact absurd rfl f81
          · intro f66
            exact absurd rfl f66
        · intro f52
          exact absurd rfl f52
      · intro f9
        exact absurd rfl f9
    · have hl0 : lin0 Bt sz i S = .error (1, beg Bt sz i) := by unfold lin0; rw [if_neg (by omega), if_neg (by omega), if_neg (by omega), if_neg (by omega), if_neg (by omega), if_neg (by omega), if_neg (by omega), if_neg (by omega)]
      first | refine AW.aload_n X dX5_readLine_0 rfl rfl ?_ | refine AW.aloadN_n X dX5_readLine_0 rfl rfl ?_
      refine AW.ldcwS X 32 rfl rfl dX5_readLine_1 ?_
      refine AW.callV_r X (c_X5_is (c := 34) hT hR hC hX hx (by omega) (by omega)) (ci := 18) (q := (RX5, TX5, 74)) (by first | assumption | exact hT _ _ rfl) rfl s_X5_253_18 (by omega) (Nat.le_of_ble_eq_true rfl) rfl rfl (Nat.le_of_ble_eq_true rfl) dX5_readLine_4 ?_
      rw [hB0]
      refine AW.istore2 X dX5_readLine_7 ?_
      refine AW.iload_n X dX5_readLine_8 rfl rfl ?_
      refine AW.if_eq X (tgt := 21) dX5_readLine_9 rfl ?_ ?_
      · intro t9
        first | refine AW.aload_n X dX5_readLine_21 rfl rfl ?_ | refine AW.aloadN_n X dX5_readLine_21 rfl rfl ?_
        first | refine AW.aload_n X dX5_readLine_22 rfl rfl ?_ | refine AW.aloadN_n X dX5_readLine_22 rfl rfl ?_
        refine AW.getR X f_X5_19_18 (by first | assumption | exact hT _ _ rfl) (by first | assumption | exact hR _ _ _ rfl) dX5_readLine_23 ?_
        refine AW.callV_r X (c_X5_which (c := 35) hT hR hC hX hx (by omega) (by omega) (hT _ _ rfl) (fun k hk => hR _ _ _ (by rcases (show k = 0 ∨ k = 1 ∨ k = 2 ∨ k = 3 by omega) with rfl | rfl | rfl | rfl <;> rfl))) (ci := 18) (q := (RX5, TX5, 74)) (by first | assumption | exact hT _ _ rfl) rfl s_X5_291_18 (by omega) (Nat.le_of_ble_eq_true rfl) rfl rfl (Nat.le_of_ble_eq_true rfl) dX5_readLine_26 ?_
        rw [whB_ok, if_neg (by omega)]
        refine AW.istore3 X dX5_readLine_29 ?_
        first | refine AW.aload_n X dX5_readLine_30 rfl rfl ?_ | refine AW.aloadN_n X dX5_readLine_30 rfl rfl ?_
        first | refine AW.aload_n X dX5_readLine_31 rfl rfl ?_ | refine AW.aloadN_n X dX5_readLine_31 rfl rfl ?_
        refine AW.getR X f_X5_31_18 (by first | assumption | exact hT _ _ rfl) (by first | assumption | exact hR _ _ _ rfl) dX5_readLine_32 ?_
        refine AW.callV_r X (c_X5_which (c := 22) hT hR hC hX hx (by omega) (by omega) (hT _ _ rfl) (fun k hk => hR _ _ _ (by rcases (show k = 0 ∨ k = 1 ∨ k = 2 ∨ k = 3 by omega) with rfl | rfl | rfl | rfl <;> rfl))) (ci := 18) (q := (RX5, TX5, 74)) (by first | assumption | exact hT _ _ rfl) rfl s_X5_291_18 (by omega) (Nat.le_of_ble_eq_true rfl) rfl rfl (Nat.le_of_ble_eq_true rfl) dX5_readLine_35 ?_
        rw [whB_ok, if_neg (by omega)]
        refine AW.istore4 X dX5_readLine_38 ?_
        first | refine AW.aload_n X dX5_readLine_40 rfl rfl ?_ | refine AW.aloadN_n X dX5_readLine_40 rfl rfl ?_
        first | refine AW.aload_n X dX5_readLine_41 rfl rfl ?_ | refine AW.aloadN_n X dX5_readLine_41 rfl rfl ?_
        refine AW.getR X f_X5_42_18 (by first | assumption | exact hT _ _ rfl) (by first | assumption | exact hR _ _ _ rfl) dX5_readLine_42 ?_
        refine AW.callV_r X (c_X5_which (c := 26) hT hR hC hX hx (by omega) (by omega) (hT _ _ rfl) (fun k hk => hR _ _ _ (by rcases (show k = 0 ∨ k = 1 ∨ k = 2 ∨ k = 3 by omega) with rfl | rfl | rfl | rfl <;> rfl))) (ci := 18) (q := (RX5, TX5, 74)) (by first | assumption | exact hT _ _ rfl) rfl s_X5_291_18 (by omega) (Nat.le_of_ble_eq_true rfl) rfl rfl (Nat.le_of_ble_eq_true rfl) dX5_readLine_45 ?_
        rw [whB_ok, if_neg (by omega)]
        refine AW.istore5 X dX5_readLine_48 ?_
        refine AW.iload_n X dX5_readLine_50 rfl rfl ?_
        refine AW.iconst X (v := -1) dX5_readLine_51 rfl ?_
        refine AW.icmp_eq X (tgt := 63) dX5_readLine_52 rfl ?_ ?_
        · intro t52
          refine AW.iload X dX5_readLine_63 rfl ?_
          refine AW.iconst X (v := -1) dX5_readLine_65 rfl ?_
          refine AW.icmp_eq X (tgt := 78) dX5_readLine_66 rfl ?_ ?_
          · intro t66
            refine AW.iload X dX5_readLine_78 rfl ?_
            refine AW.iconst X (v := -1) dX5_readLine_80 rfl ?_
            refine AW.icmp_eq X (tgt := 93) dX5_readLine_81 rfl ?_ ?_
            · intro t81
              first | refine AW.aload_n X dX5_readLine_93 rfl rfl ?_ | refine AW.aloadN_n X dX5_readLine_93 rfl rfl ?_
              refine AW.ldcwS X 34 rfl rfl dX5_readLine_94 ?_
              refine AW.callV_i X (c_X5_passes (c := 30) hT hR hC hX hx (by omega) (by omega)) (ci := 18) (q := (RX5, TX5, 74)) (by first | assumption | exact hT _ _ rfl) rfl s_X5_277_18 (by omega) (Nat.le_of_ble_eq_true rfl) rfl rfl (Nat.le_of_ble_eq_true rfl) dX5_readLine_97 ?_
              intro r97 I97 h97
              obtain ⟨rfl, y1, y2⟩ := h97
              have s2 : StM Bt sz (.ok i) I97 := by rw [psX_no (show ¬ cls Bt sz i = 30 by omega)] at y2; exact y2
              refine AW.if_eq X (tgt := 110) dX5_readLine_100 rfl ?_ ?_
              · intro t100
                first | refine AW.aload_n X dX5_readLine_110 rfl rfl ?_ | refine AW.aloadN_n X dX5_readLine_110 rfl rfl ?_
                refine AW.ldcwS X 35 rfl rfl dX5_readLine_111 ?_
                refine AW.callV_i X (c_X5_passes (c := 31) hT hR (hC.sf y1) (hX.sf y1) s2 (by omega) (by omega)) (ci := 18) (q := (RX5, TX5, 74)) (by first | assumption | exact hT _ _ rfl) rfl s_X5_277_18 (by omega) (Nat.le_of_ble_eq_true rfl) rfl rfl (Nat.le_of_ble_eq_true rfl) dX5_readLine_114 ?_
                intro r114 I114 h114
                obtain ⟨rfl, y3, y4⟩ := h114
                have s3 : StM Bt sz (.ok i) I114 := by rw [psX_no (show ¬ cls Bt sz i = 31 by omega)] at y4; exact y4
                refine AW.if_eq X (tgt := 127) dX5_readLine_117 rfl ?_ ?_
                · intro t117
                  first | refine AW.aload_n X dX5_readLine_127 rfl rfl ?_ | refine AW.aloadN_n X dX5_readLine_127 rfl rfl ?_
                  refine AW.ldcwS X 36 rfl rfl dX5_readLine_128 ?_
                  refine AW.callV_i X (c_X5_passes (c := 32) hT hR ((hC.sf y1).sf y3) ((hX.sf y1).sf y3) s3 (by omega) (by omega)) (ci := 18) (q := (RX5, TX5, 74)) (by first | assumption | exact hT _ _ rfl) rfl s_X5_277_18 (by omega) (Nat.le_of_ble_eq_true rfl) rfl rfl (Nat.le_of_ble_eq_true rfl) dX5_readLine_131 ?_
                  intro r131 I131 h131
                  obtain ⟨rfl, y5, y6⟩ := h131
                  have s4 : StM Bt sz (.ok i) I131 := by rw [psX_no (show ¬ cls Bt sz i = 32 by omega)] at y6; exact y6
                  refine AW.if_eq X (tgt := 144) dX5_readLine_134 rfl ?_ ?_
                  · intro t134
                    first | refine AW.aload_n X dX5_readLine_144 rfl rfl ?_ | refine AW.aloadN_n X dX5_readLine_144 rfl rfl ?_
                    refine AW.ldcwS X 37 rfl rfl dX5_readLine_145 ?_
                    refine AW.callV_r X (c_X5_is (c := 33) hT hR (((hC.sf y1).sf y3).sf y5) (((hX.sf y1).sf y3).sf y5) s4 (by omega) (by omega)) (ci := 18) (q := (RX5, TX5, 74)) (by first | assumption | exact hT _ _ rfl) rfl s_X5_253_18 (by omega) (Nat.le_of_ble_eq_true rfl) rfl rfl (Nat.le_of_ble_eq_true rfl) dX5_readLine_148 ?_
                    refine AW.if_eq X (tgt := 161) dX5_readLine_151 rfl ?_ ?_
                    · intro t151
                      refine AW.iload_n X dX5_readLine_161 rfl rfl ?_
                      refine AW.if_ne X (tgt := 170) dX5_readLine_162 rfl ?_ ?_
                      · intro t162
                        exact absurd rfl t162
                      · intro f162
                        first | refine AW.aload_n X dX5_readLine_165 rfl rfl ?_ | refine AW.aloadN_n X dX5_readLine_165 rfl rfl ?_
                        refine AW.iconst X (v := 1) dX5_readLine_166 rfl ?_
                        refine AW.callV_i X (c_X5_wrong hT s4 (k := 1) (by omega) (by omega)) (ci := 18) (q := (RX5, TX5, 74)) (by first | assumption | exact hT _ _ rfl) rfl s_X5_260_18 (by omega) (Nat.le_of_ble_eq_true rfl) rfl rfl (Nat.le_of_ble_eq_true rfl) dX5_readLine_167 ?_
                        intro r167 I167 h167
                        obtain ⟨rfl, u1, u2⟩ := h167
                        exact erE _ _ _ _ 0 (1, beg Bt sz i) hpr (Or.inl rfl) (((y1.tr y3).tr y5).tr u1) u2 hl0
                    · intro f151
                      exact absurd (isB_z.mpr h33) f151
                  · intro f134
                    exact absurd (isB_z.mpr (show ¬ cls Bt sz i = 32 by omega)) f134
                · intro f117
                  exact absurd (isB_z.mpr (show ¬ cls Bt sz i = 31 by omega)) f117
              · intro f100
                exact absurd (isB_z.mpr (show ¬ cls Bt sz i = 30 by omega)) f100
            · intro f81
              exact absurd rfl f81
          · intro f66
            exact absurd rfl f66
        · intro f52
          exact absurd rfl f52
      · intro f9
        exact absurd rfl f9
end MLJ
