/-! 09l: the model's port, 2 (steps printed by src/walk.py) -/
set_option maxRecDepth 100000
set_option maxHeartbeats 4000000
def PortM (Bt : Nat → Nat) (n : Nat) (I : KI) (r : Option Value) (I' : KI) : Prop := I' 200 3 = 0 ∧ I' 200 25 = 0 ∧ (∀ k, 54 ≤ k → k ≠ 63 → I' 200 k = I 200 k) ∧ match parF Bt n (n + 1) 0 S0 with
  | .ok V => r = some (.int 0) ∧ HsM V I' ∧ Gd V ∧ (∀ a, a ≠ 200 → (a < 304 ∨ 322 < a) → I' a = I a) ∧ I' 200 34 = -1 ∧ I' 200 44 = 0 ∧ I' 200 45 = 0 ∧ I' 200 46 = 0 ∧ I' 200 53 = -1 ∧ I' 200 63 = 0
  | .error e => r = some (.int (nI e.1)) ∧ 1 ≤ e.1 ∧ e.1 ≤ 5 ∧ (∀ a, a ≠ 200 → a ≠ 323 → (a < 304 ∨ 322 < a) → I' a = I a) ∧ (∀ a k, 304 ≤ a → a ≤ 322 → k < hlf a → I' a k = I a k) ∧ I' 323 0 = I 323 0 + 1 ∧ (∀ k, k ≠ 0 → I' 323 k = I 323 k) ∧ I' 200 34 = nI e.2 ∧ ∀ k, 37 ≤ k → I' 200 k = I 200 k
section MPP
variable {T : KT} {I : KI} {R : KR} {J : KJ} {Bt : Nat → Nat}
theorem c_X5_port {n t : Nat} (hT : XT T) (hR : XRf R) (hC : SC I) (ht : I 200 25 = nI t) (ht7 : t ≤ 700) (hn : n ≤ t) (hb : ∀ k, k < n → I 324 k = nI (Bt k) ∧ Bt k < 256) : MX5_port 10 0 [.ref 200, .int (nI n)] T I R J (qI (PortM Bt n I) T R J) noX := by
  refine AMet.of (by decide) (Nat.le_of_ble_eq_true rfl) (cats1 rfl) fun cx X E => ?_
  show AW _ _ _ (_ :: _ :: _ :: []) _ _ _ _ _
  have h25 : w2 I 200 3 0 200 25 = nI t := (w2_n2 (by omega)).trans ht
  generalize hIb : w2 (w2 (w2 (w2 (w2 (w2 I 200 3 0) 200 25 0) 200 27 (nI n)) 200 26 0) 200 32 0) 200 34 (-1) = Ib
  have b3 : Ib 200 3 = 0 := by rw [← hIb, w2_n2 (by omega), w2_n2 (by omega), w2_n2 (by omega), w2_n2 (by omega), w2_n2 (by omega), w2_s]
  have b25 : Ib 200 25 = 0 := by rw [← hIb, w2_n2 (by omega), w2_n2 (by omega), w2_n2 (by omega), w2_n2 (by omega), w2_s]
  have b27 : Ib 200 27 = nI n := by rw [← hIb, w2_n2 (by omega), w2_n2 (by omega), w2_n2 (by omega), w2_s]
  have b26 : Ib 200 26 = nI 0 := by rw [← hIb, w2_n2 (by omega), w2_n2 (by omega), w2_s]; rfl
  have b32 : Ib 200 32 = 0 := by rw [← hIb, w2_n2 (by omega), w2_s]
  have b34 : Ib 200 34 = -1 := by rw [← hIb, w2_s]
  have bk : ∀ k, 37 ≤ k → Ib 200 k = I 200 k := fun k hk => by rw [← hIb, w2_n2 (by omega), w2_n2 (by omega), w2_n2 (by omega), w2_n2 (by omega), w2_n2 (by omega), w2_n2 (by omega)]
  have br : ∀ a, a ≠ 200 → Ib a = I a := fun a ha => by rw [← hIb, w2_r ha, w2_r ha, w2_r ha, w2_r ha, w2_r ha, w2_r ha]
  have hXb : TxM Bt n Ib := ⟨b27, by omega, by rw [br 324 (by omega)]; exact hb⟩
  have hCb : SC Ib := fun a h1 h2 => by rw [br a (by omega), br (a + 40) (by omega)]; exact hC a h1 h2
  -- the end, by what was read
  have fin : ∀ (x : Except Er (Nat × Rd)) (I' : KI) l2, TF Ib I' → LnP Bt n x I' → (match x with | .ok y => parF Bt n (n + 1) 0 S0 = .ok y.2.1 | .error e => parF Bt n (n + 1) 0 S0 = .error e) → AW cx 0 185 [.ref 200, .int (nI n), l2] [] T I' R J := by
    intro x I' l2 hf hl hp
    have f3 : I' 200 3 = 0 := (hf.2 3 (by omega)).trans b3
    have f25 : I' 200 25 = 0 := (hf.2 25 (by omega)).trans b25
    rcases x with e | y
    · obtain ⟨p1, p2, p3, p4⟩ := id hl
      first | refine AW.aload_n X dX5_port_185 rfl rfl ?_ | refine AW.aloadN_n X dX5_port_185 rfl rfl ?_
      refine AW.getI X f_X5_239_18 (by first | assumption | exact hT _ _ rfl) dX5_port_186 ?_
      refine AW.if_eq X (tgt := 215) dX5_port_189 rfl ?_ ?_
      · intro t189
        exact absurd t189 (StM.bad (Bt := Bt) (sz := n) (e := e) hl)
      · intro f189
        first | refine AW.aload_n X dX5_port_192 rfl rfl ?_ | refine AW.aloadN_n X dX5_port_192 rfl rfl ?_
        first | refine AW.aload_n X dX5_port_193 rfl rfl ?_ | refine AW.aloadN_n X dX5_port_193 rfl rfl ?_
        refine AW.getI X f_X5_242_18 (by first | assumption | exact hT _ _ rfl) dX5_port_194 ?_
        rw [p2]
        refine AW.putI X g_X5_port_109_18 (by omega) (by first | assumption | exact hT _ _ rfl) dX5_port_197 ?_ 
        first | refine AW.aload_n X dX5_port_200 rfl rfl ?_ | refine AW.aloadN_n X dX5_port_200 rfl rfl ?_
        refine AW.getR X f_X5_103_18 (by first | assumption | exact hT _ _ rfl) (by first | assumption | exact hR _ _ _ rfl) dX5_port_201 ?_
        refine AW.iconst X (v := 0) dX5_port_204 rfl ?_
        refine AW.dup2 X dX5_port_205 rfl rfl ?_
        refine AW.iald X (j := 0) (by first | assumption | exact hT _ _ rfl) rfl (by omega) dX5_port_206 ?_
        rw [w2_r (by omega), hf.1.1 323 (by omega) (by omega), br 323 (by omega)]
        refine AW.iconst X (v := 1) dX5_port_207 rfl ?_
        refine AW.iadd X dX5_port_208 ?_
        refine AW.iast X (j := 0) (by omega) (by first | assumption | exact hT _ _ rfl) rfl (by omega) dX5_port_209 ?_
        first | refine AW.aload_n X dX5_port_210 rfl rfl ?_ | refine AW.aloadN_n X dX5_port_210 rfl rfl ?_
        refine AW.getI X f_X5_239_18 (by first | assumption | exact hT _ _ rfl) dX5_port_211 ?_
        rw [w2_n1 (by omega), w2_n2 (by omega), p1]
        refine AW.ireturn X E ?_ dX5_port_214 
        refine ⟨rfl, rfl, rfl, (w2_n1 (by omega)).trans ((w2_n2 (by omega)).trans f3), (w2_n1 (by omega)).trans ((w2_n2 (by omega)).trans f25), fun k k1 _ => (w2_n1 (by omega)).trans ((w2_n2 (by omega)).trans ((hf.2 k (by omega)).trans (bk k (by omega)))), ?_⟩
        have hp' : parF Bt n (n + 1) 0 S0 = .error e := hp
        rw [hp']
        refine ⟨rfl, p3, p4, fun a a1 a2 a3 => ?_, fun a k a1 a2 a3 => ?_, w2_s _ _ _ _, fun k hk => ?_, (w2_n1 (by omega)).trans (w2_s _ _ _ _), fun k hk => ?_⟩
        · rw [w2_r a2, w2_r a1, hf.1.1 a a1 a3, br a a1]
        · rw [w2_n1 (by omega), w2_n1 (by omega), hf.1.2 a k a1 a2 a3, br a (by omega)]
        · rw [w2_n2 hk, w2_n1 (by omega), hf.1.1 323 (by omega) (by omega), br 323 (by omega)]
        · rw [w2_n1 (by omega), w2_n2 (by omega), hf.2 k (by omega), bk k hk]
    · obtain ⟨⟨p1, p2, p3⟩, hh, hg⟩ := hl
      first | refine AW.aload_n X dX5_port_185 rfl rfl ?_ | refine AW.aloadN_n X dX5_port_185 rfl rfl ?_
      refine AW.getI X f_X5_239_18 (by first | assumption | exact hT _ _ rfl) dX5_port_186 ?_
      rw [p2]
      refine AW.if_eq X (tgt := 215) dX5_port_189 rfl ?_ ?_
      · intro t189
        first | refine AW.aload_n X dX5_port_215 rfl rfl ?_ | refine AW.aloadN_n X dX5_port_215 rfl rfl ?_
        refine AW.callV_i X (c_X5_take hT hR) (ci := 18) (q := (RX5, TX5, 74)) (by first | assumption | exact hT _ _ rfl) rfl s_X5_330_18 (by omega) (Nat.le_of_ble_eq_true rfl) rfl rfl (Nat.le_of_ble_eq_true rfl) dX5_port_216 ?_
        intro r216 I216 h216
        obtain ⟨rfl, q1, q2, q3⟩ := h216
        refine AW.iconst X (v := 0) dX5_port_219 rfl ?_
        refine AW.ireturn X E ?_ dX5_port_220 
        have hp' : parF Bt n (n + 1) 0 S0 = .ok y.2.1 := hp
        refine ⟨rfl, rfl, rfl, ?_, ?_, fun k k1 k2 => ?_, ?_⟩
        · rw [q3, w2_n2 (by omega), w2_n2 (by omega), w2_n2 (by omega), w2_n2 (by omega), w2_n2 (by omega)]; exact f3
        · rw [q3, w2_n2 (by omega), w2_n2 (by omega), w2_n2 (by omega), w2_n2 (by omega), w2_n2 (by omega)]; exact f25
        · rw [q3, w2_n2 k2, w2_n2 (by omega), w2_n2 (by omega), w2_n2 (by omega), w2_n2 (by omega), hf.2 k (by omega), bk k (by omega)]
        rw [hp']
        refine ⟨rfl, hh.take hg q1, hg, fun a a1 a2 => (q2 a a1 a2).trans ((hf.1.1 a a1 a2).trans (br a a1)), ?_, ?_, ?_, ?_, ?_, ?_⟩
        · rw [q3, w2_n2 (by omega), w2_n2 (by omega), w2_n2 (by omega), w2_n2 (by omega), w2_n2 (by omega), hf.2 34 (by omega), b34]
        · rw [q3, w2_n2 (by omega), w2_n2 (by omega), w2_n2 (by omega), w2_n2 (by omega), w2_s]
        · rw [q3, w2_n2 (by omega), w2_n2 (by omega), w2_n2 (by omega), w2_s]
        · rw [q3, w2_n2 (by omega), w2_n2 (by omega), w2_s]
        · rw [q3, w2_n2 (by omega), w2_s]
        · rw [q3, w2_s]
      · intro f189
        exact absurd rfl f189
  have lp : ∀ fuel i (S : Rd) (I' : KI), n - i < fuel → i ≤ n → TF Ib I' → StM Bt n (.ok i) I' → HfM S I' → Gd S.1 → parF Bt n (n + 1) 0 S0 = parF Bt n fuel i S → AW cx 0 162 [.ref 200, .int (nI n), .int (b01 S.2.1)] [] T I' R J := by
    intro fuel
    induction fuel with
    | zero => intro i S I' h; omega
    | succ fuel ih =>
      intro i S I' hfu hi hf hs hh hg hp
      obtain ⟨p1, p2, p3⟩ := id hs
      have hkl := kd_le (Bt := Bt) (sz := n) (i := i)
      by_cases h4 : kd Bt n i = 4
      · have hpe : parF Bt n (fuel + 1) i S = .ok S.1 := if_pos h4
        first | refine AW.aload_n X dX5_port_162 rfl rfl ?_ | refine AW.aloadN_n X dX5_port_162 rfl rfl ?_
        refine AW.getI X f_X5_239_18 (by first | assumption | exact hT _ _ rfl) dX5_port_163 ?_
        rw [p2]
        refine AW.if_ne X (tgt := 185) dX5_port_166 rfl ?_ ?_
        · intro t166
          exact absurd rfl t166
        · intro f166
          first | refine AW.aload_n X dX5_port_169 rfl rfl ?_ | refine AW.aloadN_n X dX5_port_169 rfl rfl ?_
          refine AW.getI X f_X5_217_18 (by first | assumption | exact hT _ _ rfl) dX5_port_170 ?_
          rw [p3.2.1, h4]
          refine AW.if_eq X (tgt := 185) dX5_port_173 rfl ?_ ?_
          · intro t173
            exact fin (.ok (i, S)) I' _ hf ⟨hs, hh, hg⟩ (hp.trans hpe)
          · intro f173
            exact absurd rfl f173
      · have hpe : parF Bt n (fuel + 1) i S = Except.bind (linF Bt n i S) fun x => parF Bt n fuel x.1 x.2 := if_neg h4
        rw [hpe] at hp
        first | refine AW.aload_n X dX5_port_162 rfl rfl ?_ | refine AW.aloadN_n X dX5_port_162 rfl rfl ?_
        refine AW.getI X f_X5_239_18 (by first | assumption | exact hT _ _ rfl) dX5_port_163 ?_
        rw [p2]
        refine AW.if_ne X (tgt := 185) dX5_port_166 rfl ?_ ?_
        · intro t166
          exact absurd rfl t166
        · intro f166
          first | refine AW.aload_n X dX5_port_169 rfl rfl ?_ | refine AW.aloadN_n X dX5_port_169 rfl rfl ?_
          refine AW.getI X f_X5_217_18 (by first | assumption | exact hT _ _ rfl) dX5_port_170 ?_
          rw [p3.2.1]
          refine AW.if_eq X (tgt := 185) dX5_port_173 rfl ?_ ?_
          · intro t173
            exact absurd ((kd_tok (t := 0) (by omega)).mp t173) (by omega)
          · intro f173
            first | refine AW.aload_n X dX5_port_176 rfl rfl ?_ | refine AW.aloadN_n X dX5_port_176 rfl rfl ?_
            refine AW.iload_n X dX5_port_177 rfl rfl ?_
            refine AW.callV_i X (c_X5_readLine hT hR (hCb.tf hf) (hXb.tf hf) hs hh hg) (ci := 18) (q := (RX5, TX5, 74)) (by first | assumption | exact hT _ _ rfl) rfl s_X5_326_18 (by omega) (Nat.le_of_ble_eq_true rfl) rfl rfl (Nat.le_of_ble_eq_true rfl) dX5_port_178 ?_
            intro r178 I178 h178
            obtain ⟨⟨v, rfl, hv⟩, u1, u2⟩ := h178
            refine AW.istore2 X dX5_port_181 ?_
            refine AW.goto X (tgt := 162) dX5_port_182 rfl ?_
            rcases hl : linF Bt n i S with e | y
            · rw [hl] at u2 hp
              refine AW.aload_n X dX5_port_162 rfl rfl ?_
              refine AW.getI X f_X5_239_18 (by first | assumption | exact hT _ _ rfl) dX5_port_163 ?_
              refine AW.if_ne X (tgt := 185) dX5_port_166 rfl ?_ ?_
              · intro _
                exact fin (.error e) I178 _ (hf.tr u1) u2 hp
              · intro f166b
                exact absurd f166b (StM.bad (Bt := Bt) (sz := n) (e := e) u2)
            · have hgt := linF_gt h4 hl
              rw [hv y hl]
              rw [hl] at u2 hp
              obtain ⟨w1, w2', w3⟩ := u2
              have hin := kd_lt h4
              have hbi := beg_le (Bt := Bt) (sz := n) (i := i)
              exact ih y.1 y.2 I178 (by have := w1.1; omega) w1.1 (hf.tr u1) w1 w2' w3 hp
  have aft : ∀ I' l2, TFr Ib I' → I' 200 = Ib 200 → (∀ k, k < 6 → I' 304 (6 + k) = V0 304 k) → (∀ h, h < 24 → I' 318 (24 + h) = 0) → (∀ c, c < 10 → I' 319 (10 + c) = V0 319 c) → AW cx 0 146 [.ref 200, .int (nI n), l2] [] T I' R J := by
    intro I' l2 hf h200 g1 g2 g3
    obtain ⟨n1, n2, n3, n4⟩ := V0_n
    have hz : ∀ h : Nat, h < 24 → ((0 : Int32) >>> (nI h &&& 31) &&& 1 = 1 ↔ false = true) := fun h hh => by
      rw [bit_iff _ (by omega), b_0]
    have hTF : TF Ib (w2 (w2 I' 200 35 0) 200 36 0) := ⟨⟨fun a a1 a2 => by rw [w2_r a1, w2_r a1]; exact hf.1 a a1 a2, fun a k a1 a2 a3 => by rw [w2_n1 (by omega), w2_n1 (by omega)]; exact hf.2 a k a1 a2 a3⟩, fun k hk => by rw [w2_n2 (by omega), w2_n2 (by omega), h200]⟩
    have hH0 : HfM S0 (w2 (w2 I' 200 35 0) 200 36 0) := by
      refine ⟨fun k hk => ?_, fun q hq => absurd hq (by show ¬ q < nQ V0; omega), fun e he => absurd he (by show ¬ e < nE V0; omega), fun s hs => absurd hs (by show ¬ s < nS V0; omega), fun h hh => ?_, fun c hc => ?_, fun k hk => absurd hk (by show ¬ k < nH V0; omega), fun h hh => ?_, fun c hc => ?_⟩
      · rw [w2_r (by omega), w2_r (by omega)]; exact g1 k hk
      · rw [w2_r (by omega), w2_r (by omega)]; exact g2 h hh
      · rw [w2_r (by omega), w2_r (by omega)]; exact g3 c hc
      · rw [w2_n2 (by omega), w2_s]; exact hz h hh
      · rw [w2_s]; exact hz c (by omega)
    first | refine AW.aload_n X dX5_port_146 rfl rfl ?_ | refine AW.aloadN_n X dX5_port_146 rfl rfl ?_
    refine AW.iconst X (v := 0) dX5_port_147 rfl ?_
    refine AW.putI X g_X5_port_283_18 (by omega) (by first | assumption | exact hT _ _ rfl) dX5_port_148 ?_ 
    first | refine AW.aload_n X dX5_port_151 rfl rfl ?_ | refine AW.aloadN_n X dX5_port_151 rfl rfl ?_
    refine AW.iconst X (v := 0) dX5_port_152 rfl ?_
    refine AW.putI X g_X5_port_286_18 (by omega) (by first | assumption | exact hT _ _ rfl) dX5_port_153 ?_ 
    first | refine AW.aload_n X dX5_port_156 rfl rfl ?_ | refine AW.aloadN_n X dX5_port_156 rfl rfl ?_
    refine AW.callV_i X (c_X5_stepOn (Bt := Bt) (sz := n) (i := 0) hT hR (hXb.tf hTF) (by omega) (by rw [w2_n2 (by omega), w2_n2 (by omega), h200]; exact b26)) (ci := 18) (q := (RX5, TX5, 74)) (by first | assumption | exact hT _ _ rfl) rfl s_X5_257_18 (by omega) (Nat.le_of_ble_eq_true rfl) rfl rfl (Nat.le_of_ble_eq_true rfl) dX5_port_157 ?_
    intro r157 I157 h157
    obtain ⟨rfl, u1, u2⟩ := h157
    refine AW.iconst X (v := 0) dX5_port_160 rfl ?_
    refine AW.istore2 X dX5_port_161 ?_
    exact lp (n + 1) 0 S0 I157 (by omega) (by omega) (hTF.tr u1.sf.tf) ⟨by omega, (u1.2 32 (by omega)).trans (by rw [w2_n2 (by omega), w2_n2 (by omega), h200]; exact b32), u2⟩ (hH0.sf u1.sf) V0_gd rfl
  have l3 : ∀ j c (I' : KI), c + j = 10 → TFr Ib I' → I' 200 = Ib 200 → (∀ k, k < 6 → I' 304 (6 + k) = V0 304 k) → (∀ h, h < 24 → I' 318 (24 + h) = 0) → (∀ c', c' < c → I' 319 (10 + c') = V0 319 c') → AW cx 0 116 [.ref 200, .int (nI n), .int (nI c)] [] T I' R J := by
    intro j
    induction j with
    | zero =>
      intro c I' hc hf h200 g1 g2 g3
      obtain rfl : c = 10 := by omega
      refine AW.iload_n X dX5_port_116 rfl rfl ?_
      refine AW.bipush X (v := 10) dX5_port_117 rfl ?_
      refine AW.icmp_ge X (tgt := 146) dX5_port_119 rfl ?_ ?_
      · intro t119
        exact aft I' _ hf h200 g1 g2 g3
      · intro f119
        exact absurd (by decide) f119
    | succ j ih =>
      intro c I' hc hf h200 g1 g2 g3
      have nx : ∀ v, v = V0 319 c → AW cx 0 139 [.ref 200, .int (nI n), .int (nI c)] [.int v, .int (nI 10 + nI c), .ref 319] T I' R J := by
        intro v hv
        refine AW.iast X (j := 10 + c) (by omega) (by first | assumption | exact hT _ _ rfl) (by repeat (first | with_reducible exact rfl | assumption | exact ix_l _ | apply ix_add | apply ix_mul)) (by omega) dX5_port_139 ?_
        refine AW.iinc2 X (v := _ + 1) dX5_port_140 rfl ?_
        refine AW.goto X (tgt := 116) dX5_port_143 rfl ?_
        rw [nI_1]
        refine ih (c + 1) _ (by omega) (hf.w (by omega) (by omega) (by show 10 ≤ _; omega)) ((w2_r (by omega)).trans h200) (fun k hk => by rw [w2_n1 (by omega)]; exact g1 k hk) (fun h hh => by rw [w2_n1 (by omega)]; exact g2 h hh) (fun c' hc' => ?_)
        by_cases hx : c' = c
        · subst hx; rw [w2_s, hv]
        · rw [w2_n2 (by omega)]; exact g3 c' (by omega)
      refine AW.iload_n X dX5_port_116 rfl rfl ?_
      refine AW.bipush X (v := 10) dX5_port_117 rfl ?_
      refine AW.icmp_ge X (tgt := 146) dX5_port_119 rfl ?_ ?_
      · intro t119
        exact absurd t119 (nI_ge (b := 10) (by omega) (by omega))
      · intro f119
        first | refine AW.aload_n X dX5_port_122 rfl rfl ?_ | refine AW.aloadN_n X dX5_port_122 rfl rfl ?_
        refine AW.getR X f_X5_91_18 (by first | assumption | exact hT _ _ rfl) (by first | assumption | exact hR _ _ _ rfl) dX5_port_123 ?_
        refine AW.bipush X (v := 10) dX5_port_126 rfl ?_
        refine AW.iload_n X dX5_port_128 rfl rfl ?_
        refine AW.iadd X dX5_port_129 ?_
        refine AW.iload_n X dX5_port_130 rfl rfl ?_
        refine AW.if_ne X (tgt := 138) dX5_port_131 rfl ?_ ?_
        · intro t131
          have hc0 : ¬ c = 0 := fun z => t131 (by rw [z]; rfl)
          refine AW.iconst X (v := 0) dX5_port_138 rfl ?_
          exact nx _ (by rw [V0_319]; first | (rw [if_pos hc0]; done) | (rw [if_neg hc0]; done))
        · intro f131
          have hc0 : c = 0 := (nI_eq (b := 0) (by omega) (by omega)).mp f131
          refine AW.iconst X (v := 1) dX5_port_134 rfl ?_
          refine AW.goto X (tgt := 139) dX5_port_135 rfl ?_
          exact nx _ (by rw [V0_319]; first | (rw [if_pos hc0]; done) | (rw [if_neg hc0]; done))
  have l2' : ∀ j h (I' : KI), h + j = 24 → TFr Ib I' → I' 200 = Ib 200 → (∀ k, k < 6 → I' 304 (6 + k) = V0 304 k) → (∀ h', h' < h → I' 318 (24 + h') = 0) → AW cx 0 92 [.ref 200, .int (nI n), .int (nI h)] [] T I' R J := by
    intro j
    induction j with
    | zero =>
      intro h I' hh hf h200 g1 g2
      obtain rfl : h = 24 := by omega
      refine AW.iload_n X dX5_port_92 rfl rfl ?_
      refine AW.bipush X (v := 24) dX5_port_93 rfl ?_
      refine AW.icmp_ge X (tgt := 114) dX5_port_95 rfl ?_ ?_
      · intro t95
        refine AW.iconst X (v := 0) dX5_port_114 rfl ?_
        refine AW.istore2 X dX5_port_115 ?_
        exact l3 10 0 I' rfl hf h200 g1 g2 (fun _ h => absurd h (Nat.not_lt_zero _))
      · intro f95
        exact absurd (by decide) f95
    | succ j ih =>
      intro h I' hh hf h200 g1 g2
      refine AW.iload_n X dX5_port_92 rfl rfl ?_
      refine AW.bipush X (v := 24) dX5_port_93 rfl ?_
      refine AW.icmp_ge X (tgt := 114) dX5_port_95 rfl ?_ ?_
      · intro t95
        exact absurd t95 (nI_ge (b := 24) (by omega) (by omega))
      · intro f95
        first | refine AW.aload_n X dX5_port_98 rfl rfl ?_ | refine AW.aloadN_n X dX5_port_98 rfl rfl ?_
        refine AW.getR X f_X5_88_18 (by first | assumption | exact hT _ _ rfl) (by first | assumption | exact hR _ _ _ rfl) dX5_port_99 ?_
        refine AW.bipush X (v := 24) dX5_port_102 rfl ?_
        refine AW.iload_n X dX5_port_104 rfl rfl ?_
        refine AW.iadd X dX5_port_105 ?_
        refine AW.iconst X (v := 0) dX5_port_106 rfl ?_
        refine AW.iast X (j := 24 + h) (by omega) (by first | assumption | exact hT _ _ rfl) (by repeat (first | with_reducible exact rfl | assumption | exact ix_l _ | apply ix_add | apply ix_mul)) (by omega) dX5_port_107 ?_
        refine AW.iinc2 X (v := _ + 1) dX5_port_108 rfl ?_
        refine AW.goto X (tgt := 92) dX5_port_111 rfl ?_
        rw [nI_1]
        refine ih (h + 1) _ (by omega) (hf.w (by omega) (by omega) (by show 24 ≤ _; omega)) ((w2_r (by omega)).trans h200) (fun k hk => by rw [w2_n1 (by omega)]; exact g1 k hk) (fun h' hh' => ?_)
        by_cases hx : h' = h
        · subst hx; rw [w2_s]
        · rw [w2_n2 (by omega)]; exact g2 h' (by omega)
  have l1' : ∀ j k (I' : KI), k + j = 6 → TFr Ib I' → I' 200 = Ib 200 → (∀ k', k' < k → I' 304 (6 + k') = V0 304 k') → AW cx 0 50 [.ref 200, .int (nI n), .int (nI k)] [] T I' R J := by
    intro j
    induction j with
    | zero =>
      intro k I' hk hf h200 g1
      obtain rfl : k = 6 := by omega
      refine AW.iload_n X dX5_port_50 rfl rfl ?_
      refine AW.bipush X (v := 6) dX5_port_51 rfl ?_
      refine AW.icmp_ge X (tgt := 90) dX5_port_53 rfl ?_ ?_
      · intro t53
        refine AW.iconst X (v := 0) dX5_port_90 rfl ?_
        refine AW.istore2 X dX5_port_91 ?_
        exact l2' 24 0 I' rfl hf h200 g1 (fun _ h => absurd h (Nat.not_lt_zero _))
      · intro f53
        exact absurd (by decide) f53
    | succ j ih =>
      intro k I' hk hf h200 g1
      have hv0 : V0 304 k = if k = 4 then 3 else if k = 5 then 1 else 0 := rfl
      have nx : ∀ v, v = V0 304 k → AW cx 0 83 [.ref 200, .int (nI n), .int (nI k)] [.int v, .int (nI 6 + nI k), .ref 304] T I' R J := by
        intro v hv
        refine AW.iast X (j := 6 + k) (by omega) (by first | assumption | exact hT _ _ rfl) (by repeat (first | with_reducible exact rfl | assumption | exact ix_l _ | apply ix_add | apply ix_mul)) (by omega) dX5_port_83 ?_
        refine AW.iinc2 X (v := _ + 1) dX5_port_84 rfl ?_
        refine AW.goto X (tgt := 50) dX5_port_87 rfl ?_
        rw [nI_1]
        refine ih (k + 1) _ (by omega) (hf.w (by omega) (by omega) (by show 6 ≤ _; omega)) ((w2_r (by omega)).trans h200) (fun k' hk' => ?_)
        by_cases hx : k' = k
        · subst hx; rw [w2_s, hv]
        · rw [w2_n2 (by omega)]; exact g1 k' (by omega)
      refine AW.iload_n X dX5_port_50 rfl rfl ?_
      refine AW.bipush X (v := 6) dX5_port_51 rfl ?_
      refine AW.icmp_ge X (tgt := 90) dX5_port_53 rfl ?_ ?_
      · intro t53
        exact absurd t53 (nI_ge (b := 6) (by omega) (by omega))
      · intro f53
        first | refine AW.aload_n X dX5_port_56 rfl rfl ?_ | refine AW.aloadN_n X dX5_port_56 rfl rfl ?_
        refine AW.getR X f_X5_45_18 (by first | assumption | exact hT _ _ rfl) (by first | assumption | exact hR _ _ _ rfl) dX5_port_57 ?_
        refine AW.bipush X (v := 6) dX5_port_60 rfl ?_
        refine AW.iload_n X dX5_port_62 rfl rfl ?_
        refine AW.iadd X dX5_port_63 ?_
        refine AW.iload_n X dX5_port_64 rfl rfl ?_
        refine AW.iconst X (v := 4) dX5_port_65 rfl ?_
        refine AW.icmp_ne X (tgt := 73) dX5_port_66 rfl ?_ ?_
        · intro t66
          rw [if_neg (fun z => t66 (by rw [z]; rfl))] at hv0
          refine AW.iload_n X dX5_port_73 rfl rfl ?_
          refine AW.iconst X (v := 5) dX5_port_74 rfl ?_
          refine AW.icmp_ne X (tgt := 82) dX5_port_75 rfl ?_ ?_
          · intro t75
            rw [if_neg (fun z => t75 (by rw [z]; rfl))] at hv0
            refine AW.iconst X (v := 0) dX5_port_82 rfl ?_
            exact nx _ hv0.symm
          · intro f75
            rw [if_pos ((nI_eq (b := 5) (by omega) (by omega)).mp f75)] at hv0
            refine AW.iconst X (v := 1) dX5_port_78 rfl ?_
            refine AW.goto X (tgt := 83) dX5_port_79 rfl ?_
            exact nx _ hv0.symm
        · intro f66
          rw [if_pos ((nI_eq (b := 4) (by omega) (by omega)).mp f66)] at hv0
          refine AW.iconst X (v := 3) dX5_port_69 rfl ?_
          refine AW.goto X (tgt := 83) dX5_port_70 rfl ?_
          exact nx _ hv0.symm
  first | refine AW.aload_n X dX5_port_0 rfl rfl ?_ | refine AW.aloadN_n X dX5_port_0 rfl rfl ?_
  refine AW.iconst X (v := 0) dX5_port_1 rfl ?_
  refine AW.putI X g_X5_port_194_18 (by omega) (by first | assumption | exact hT _ _ rfl) dX5_port_2 ?_ 
  refine AW.iload_n X dX5_port_5 rfl rfl ?_
  refine AW.if_lt X (tgt := 17) dX5_port_6 rfl ?_ ?_
  · intro t6
    exact absurd t6 (nI_pos (by omega))
  · intro f6
    refine AW.iload_n X dX5_port_9 rfl rfl ?_
    first | refine AW.aload_n X dX5_port_10 rfl rfl ?_ | refine AW.aloadN_n X dX5_port_10 rfl rfl ?_
    refine AW.getI X f_X5_201_18 (by first | assumption | exact hT _ _ rfl) dX5_port_11 ?_
    rw [h25]
    refine AW.icmp_le X (tgt := 23) dX5_port_14 rfl ?_ ?_
    · intro t14
      first | refine AW.aload_n X dX5_port_23 rfl rfl ?_ | refine AW.aloadN_n X dX5_port_23 rfl rfl ?_
      refine AW.iconst X (v := 0) dX5_port_24 rfl ?_
      refine AW.putI X g_X5_port_201_18 (by omega) (by first | assumption | exact hT _ _ rfl) dX5_port_25 ?_ 
      first | refine AW.aload_n X dX5_port_28 rfl rfl ?_ | refine AW.aloadN_n X dX5_port_28 rfl rfl ?_
      refine AW.iload_n X dX5_port_29 rfl rfl ?_
      refine AW.putI X g_X5_port_204_18 (by omega) (by first | assumption | exact hT _ _ rfl) dX5_port_30 ?_ 
      first | refine AW.aload_n X dX5_port_33 rfl rfl ?_ | refine AW.aloadN_n X dX5_port_33 rfl rfl ?_
      refine AW.iconst X (v := 0) dX5_port_34 rfl ?_
      refine AW.putI X g_X5_port_207_18 (by omega) (by first | assumption | exact hT _ _ rfl) dX5_port_35 ?_ 
      first | refine AW.aload_n X dX5_port_38 rfl rfl ?_ | refine AW.aloadN_n X dX5_port_38 rfl rfl ?_
      refine AW.iconst X (v := 0) dX5_port_39 rfl ?_
      refine AW.putI X g_X5_port_239_18 (by omega) (by first | assumption | exact hT _ _ rfl) dX5_port_40 ?_ 
      first | refine AW.aload_n X dX5_port_43 rfl rfl ?_ | refine AW.aloadN_n X dX5_port_43 rfl rfl ?_
      refine AW.iconst X (v := -1) dX5_port_44 rfl ?_
      refine AW.putI X g_X5_port_109_18 (by omega) (by first | assumption | exact hT _ _ rfl) dX5_port_45 ?_ 
      refine AW.iconst X (v := 0) dX5_port_48 rfl ?_
      refine AW.istore2 X dX5_port_49 ?_
      rw [hIb]; exact l1' 6 0 Ib rfl TFr.rf rfl (fun _ h => absurd h (Nat.not_lt_zero _))
    · intro f14
      exact absurd (nI_le hn (by omega)) f14
theorem c_X5_port_bad {n : Int32} {t m : Nat} (hT : XT T) (ht : I 200 25 = nI t) (hb : ¬ (0 ≤ n ∧ n ≤ nI t)) : MX5_port 10 0 [.ref 200, .int n] T I R J (qF 1 m T I R J) noX := by
  have h25 : w2 I 200 3 0 200 25 = nI t := (w2_n2 (by omega)).trans ht
  refine AMet.of (by decide) (Nat.le_of_ble_eq_true rfl) (cats1 rfl) fun cx X E => ?_
  show AW _ _ _ (_ :: _ :: _ :: []) _ _ _ _ _
  have fl : AW cx 0 17 [.ref 200, .int n, .retAddr 0] [] T (w2 I 200 3 0) R J := by
    first | refine AW.aload_n X dX5_port_17 rfl rfl ?_ | refine AW.aloadN_n X dX5_port_17 rfl rfl ?_
    refine AW.iconst X (v := 1) dX5_port_18 rfl ?_
    refine AW.callV_i X (c_X5_fail hT 1) (ci := 18) (q := (RX5, TX5, 74)) (by first | assumption | exact hT _ _ rfl) rfl s_X5_323_18 (by omega) (Nat.le_of_ble_eq_true rfl) rfl rfl (Nat.le_of_ble_eq_true rfl) dX5_port_19 ?_
    intro r19 I19 h19
    obtain ⟨rfl, rfl⟩ := h19
    refine AW.ireturn X E ?_ dX5_port_22 
    exact ⟨rfl, rfl, rfl, ⟨_, rfl⟩, w2_s _ _ _ _, FM.cod.tr FM.cod⟩
  first | refine AW.aload_n X dX5_port_0 rfl rfl ?_ | refine AW.aloadN_n X dX5_port_0 rfl rfl ?_
  refine AW.iconst X (v := 0) dX5_port_1 rfl ?_
  refine AW.putI X g_X5_port_194_18 (by omega) (by first | assumption | exact hT _ _ rfl) dX5_port_2 ?_ 
  refine AW.iload_n X dX5_port_5 rfl rfl ?_
  refine AW.if_lt X (tgt := 17) dX5_port_6 rfl ?_ ?_
  · intro t6
    exact fl
  · intro f6
    refine AW.iload_n X dX5_port_9 rfl rfl ?_
    first | refine AW.aload_n X dX5_port_10 rfl rfl ?_ | refine AW.aloadN_n X dX5_port_10 rfl rfl ?_
    refine AW.getI X f_X5_201_18 (by first | assumption | exact hT _ _ rfl) dX5_port_11 ?_
    rw [h25]
    refine AW.icmp_le X (tgt := 23) dX5_port_14 rfl ?_ ?_
    · intro t14
      exact absurd ⟨Int32.not_lt.mp f6, t14⟩ hb
    · intro f14
      exact fl
end MPP
