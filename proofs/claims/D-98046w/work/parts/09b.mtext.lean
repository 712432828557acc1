/-! 09b: the model's tokens (steps printed by src/walk.py) -/
set_option maxRecDepth 100000
set_option maxHeartbeats 4000000
/-- a string that reads l -/
def StrP (w : Nat) (l : List Nat) (T : KT) (I : KI) (R : KR) : Prop := T w = (120, 0) ∧ (∃ b, R w 0 = some b ∧ T b = (3, l.length) ∧ ∀ k, k < l.length → I b k = nI (l.getD k 0)) ∧ I w 1 = 0 ∧ l.length ≤ 9 ∧ ∀ k, k < l.length → l.getD k 0 < 128
/-- the constants' texts -/
def SC (I : KI) : Prop := ∀ a, 20 ≤ a → a < 40 → I a 1 = 0 ∧ ∀ k, k < (kS a).length → I (a + 40) k = nI ((kS a).getD k 0)
theorem sc_x : ∀ c, c < 40 → 20 ≤ c → xT c = some (120, 0) ∧ xT (c + 40) = some (3, (kS c).length) ∧ xR c 0 = some (c + 40) := by decide +kernel
theorem SC.str {T : KT} {I : KI} {R : KR} (h : SC I) (hT : XT T) (hR : XRf R) {c : Nat} (h1 : 20 ≤ c) (h2 : c < 40) : StrP c (kS c) T I R := by
  obtain ⟨x1, x2, x3⟩ := sc_x c h2 h1
  exact ⟨hT _ _ x1, ⟨c + 40, hR _ _ _ x3, hT _ _ x2, (h c h1 h2).2⟩, (h c h1 h2).1, by have := (kS_len c h2).1; omega, (kS_len c h2).2⟩
theorem shr0 (x : Int32) : x >>> ((0 : Int32) &&& 31) = x := by
  rw [show ((0 : Int32) &&& 31) = 0 from by decide]
  exact Int32.toBitVec_inj.mp (by simp)
theorem chr_ok : ∀ v, v < 256 → nI v &&& 255 = nI v ∧ ((nI v).toUInt32 % 65536).toInt32 = nI v := by decide +kernel
def bA (Bt : Nat → Nat) (sz k : Nat) : Int32 := if k < sz then nI (Bt k) else -1
def TxM (Bt : Nat → Nat) (sz : Nat) (I : KI) : Prop := I 200 27 = nI sz ∧ sz ≤ 700 ∧ ∀ k, k < sz → I 324 k = nI (Bt k) ∧ Bt k < 256
theorem bA_in {Bt : Nat → Nat} {sz k : Nat} (hb : ∀ k, k < sz → Bt k < 256) {lo hi : Nat} (h1 : 1 ≤ lo) (h2 : hi < 256) (h3 : lo < 256 := by omega) : (nI lo ≤ bA Bt sz k ∧ bA Bt sz k ≤ nI hi) ↔ k < sz ∧ lo ≤ Bt k ∧ Bt k ≤ hi := by
  unfold bA
  by_cases h : k < sz
  · have := hb k h
    rw [if_pos h]
    constructor
    · intro ⟨a, b⟩; exact ⟨h, (nI_leI (by omega) (by omega)).mp a, (nI_leI (by omega) (by omega)).mp b⟩
    · intro ⟨_, a, b⟩; exact ⟨nI_le a (by omega), nI_le b (by omega)⟩
  · rw [if_neg h]
    constructor
    · intro ⟨a, b⟩
      exact absurd (Int32.le_trans (nI_pos' (n := lo) (by omega)) a) (by decide)
    · intro hc; exact absurd hc.1 h
theorem bA_eq {Bt : Nat → Nat} {sz k : Nat} (hb : ∀ k, k < sz → Bt k < 256) {c : Nat} (h2 : c < 256) : bA Bt sz k = nI c ↔ k < sz ∧ Bt k = c := by
  unfold bA
  by_cases h : k < sz
  · have := hb k h
    rw [if_pos h]
    exact ⟨fun a => ⟨h, (nI_eq (by omega) (by omega)).mp a⟩, fun a => by rw [a.2]⟩
  · rw [if_neg h]
    exact ⟨fun a => absurd a.symm (nI_m1 (by omega)), fun a => absurd a.1 h⟩
theorem bA_m {Bt : Nat → Nat} {sz k : Nat} (hb : ∀ k, k < sz → Bt k < 256) : bA Bt sz k = -1 ↔ ¬ k < sz := by
  unfold bA
  by_cases h : k < sz
  · have := hb k h
    rw [if_pos h]; exact ⟨fun a => absurd a (nI_m1 (by omega)), fun a => absurd h a⟩
  · rw [if_neg h]; exact ⟨fun _ => h, fun _ => rfl⟩
/-- a text's own cells alone -/
def SF (I I' : KI) : Prop := (∀ a, a ≠ 200 → I' a = I a) ∧ ∀ k, k < 26 ∨ k = 27 ∨ 33 < k → I' 200 k = I 200 k
theorem SF.rf {I : KI} : SF I I := ⟨fun _ _ => rfl, fun _ _ => rfl⟩
theorem SF.tr {I I1 I2 : KI} (h : SF I I1) (h2 : SF I1 I2) : SF I I2 := ⟨fun a ha => (h2.1 a ha).trans (h.1 a ha), fun k hk => (h2.2 k hk).trans (h.2 k hk)⟩
theorem SF.w {I I' : KI} {k : Nat} {v : Int32} (h : SF I I') (hk : k = 26 ∨ (28 ≤ k ∧ k ≤ 33)) : SF I (w2 I' 200 k v) := ⟨fun a ha => (w2_r ha).trans (h.1 a ha), fun j hj => (w2_n2 (by omega)).trans (h.2 j hj)⟩
/-- what a step changes -/
def ST (I I' : KI) : Prop := (∀ a, a ≠ 200 → I' a = I a) ∧ ∀ k, k < 26 ∨ k = 27 ∨ 31 < k → I' 200 k = I 200 k
theorem ST.rf {I : KI} : ST I I := ⟨fun _ _ => rfl, fun _ _ => rfl⟩
theorem ST.w {I I' : KI} {k : Nat} {v : Int32} (h : ST I I') (hk : k = 26 ∨ (28 ≤ k ∧ k ≤ 31)) : ST I (w2 I' 200 k v) := ⟨fun a ha => (w2_r ha).trans (h.1 a ha), fun j hj => (w2_n2 (by omega)).trans (h.2 j hj)⟩
theorem ST.sf {I I' : KI} (h : ST I I') : SF I I' := ⟨h.1, fun k hk => h.2 k (by omega)⟩
theorem TxM.sf {Bt : Nat → Nat} {sz : Nat} {I I' : KI} (h : TxM Bt sz I) (hf : SF I I') : TxM Bt sz I' := ⟨(hf.2 27 (by omega)).trans h.1, h.2.1, by rw [hf.1 324 (by omega)]; exact h.2.2⟩
/-- the token that stands -/
def TkM (Bt : Nat → Nat) (sz i : Nat) (I : KI) : Prop := I 200 26 = nI (en Bt sz i) ∧ I 200 28 = nI ((kd Bt sz i + 1) % 5) ∧ I 200 30 = nI (beg Bt sz i) ∧ I 200 31 = nI (en Bt sz i) ∧ (kd Bt sz i = 1 → ¬ ln Bt sz i → I 200 29 = nI (nv Bt sz i))
def StM (Bt : Nat → Nat) (sz : Nat) (x : Except Er Nat) (I : KI) : Prop := match x with
  | .ok i => i ≤ sz ∧ I 200 32 = 0 ∧ TkM Bt sz i I
  | .error e => I 200 32 = nI e.1 ∧ I 200 33 = nI e.2 ∧ 1 ≤ e.1 ∧ e.1 ≤ 5
def isB (Bt : Nat → Nat) (sz : Nat) (x : Except Er Nat) (c : Nat) : Int32 := match x with
  | .ok i => if cls Bt sz i = c then 1 else 0
  | .error _ => 0
def whB (Bt : Nat → Nat) (sz : Nat) (x : Except Er Nat) (c : Nat) : Int32 := match x with
  | .ok i => if c ≤ cls Bt sz i ∧ cls Bt sz i ≤ c + 3 then nI (cls Bt sz i - c) else -1
  | .error _ => -1
def vOf : Except Er (Nat × Nat) → Int32
  | .ok v => nI v.1
  | .error _ => 0
def psX (Bt : Nat → Nat) (sz : Nat) (x : Except Er Nat) (c : Nat) : Except Er Nat := x.bind fun i => .ok (if cls Bt sz i = c then en Bt sz i else i)
def fsX (x : Except Er Nat) (f : Nat → Except Er (Nat × Nat)) : Except Er Nat := x.bind fun i => (f i).bind fun _ => .ok i
def gsX (x : Except Er Nat) (f : Nat → Except Er (Nat × Nat)) : Except Er Nat := x.bind fun i => (f i).bind fun v => .ok v.2
def opX (Bt : Nat → Nat) (sz : Nat) (x : Except Er Nat) (m most : Nat) : Except Er Nat := x.bind fun i => if m = most then .error (2, beg Bt sz i) else .ok (en Bt sz i)
section MT
variable {T : KT} {I : KI} {R : KR} {J : KJ} {Bt : Nat → Nat} {sz : Nat}
theorem c_J9_coder {w : Nat} (hT : T w = (120, 0)) (h0 : I w 1 = 0) : MJ9_coder 0 0 [.ref w] T I R J (qR (some (.int 0)) T I R J) noX := by
  refine AMet.of (by decide) (Nat.le_of_ble_eq_true rfl) (cats1 rfl) fun cx X E => ?_
  show AW _ _ _ (_ :: []) _ _ _ _ _
  refine AW.gets X 0 rfl q323 dJ9_coder_0 ?_
  refine AW.if_eq X (tgt := 13) dJ9_coder_3 rfl ?_ ?_
  · intro t3
    exact absurd t3 (by decide)
  · intro f3
    first | refine AW.aload_n X dJ9_coder_6 rfl rfl ?_ | refine AW.aloadN_n X dJ9_coder_6 rfl rfl ?_
    refine AW.getI X f_J9_15_20 (by first | assumption | exact hT _ _ rfl) dJ9_coder_7 ?_
    rw [h0]
    refine AW.goto X (tgt := 14) dJ9_coder_10 rfl ?_
    exact AW.ireturn X E ⟨rfl, rfl, rfl, rfl, rfl⟩ dJ9_coder_14 
theorem c_J9_isLatin1 {w : Nat} (hT : T w = (120, 0)) (h0 : I w 1 = 0) : MJ9_isLatin1 0 0 [.ref w] T I R J (qR (some (.int 1)) T I R J) noX := by
  refine AMet.of (by decide) (Nat.le_of_ble_eq_true rfl) (cats1 rfl) fun cx X E => ?_
  show AW _ _ _ (_ :: []) _ _ _ _ _
  refine AW.gets X 0 rfl q323 dJ9_isLatin1_0 ?_
  refine AW.if_eq X (tgt := 17) dJ9_isLatin1_3 rfl ?_ ?_
  · intro t3
    exact absurd t3 (by decide)
  · intro f3
    first | refine AW.aload_n X dJ9_isLatin1_6 rfl rfl ?_ | refine AW.aloadN_n X dJ9_isLatin1_6 rfl rfl ?_
    refine AW.getI X f_J9_15_20 (by first | assumption | exact hT _ _ rfl) dJ9_isLatin1_7 ?_
    rw [h0]
    refine AW.if_ne X (tgt := 17) dJ9_isLatin1_10 rfl ?_ ?_
    · intro t10
      exact absurd rfl t10
    · intro f10
      refine AW.iconst X (v := 1) dJ9_isLatin1_13 rfl ?_
      refine AW.goto X (tgt := 18) dJ9_isLatin1_14 rfl ?_
      exact AW.ireturn X E ⟨rfl, rfl, rfl, rfl, rfl⟩ dJ9_isLatin1_18 (hnar := by first | rfl | (unfold bI; split <;> rfl))
theorem c_J9_length {w : Nat} {l : List Nat} (h : StrP w l T I R) : MJ9_length 1 0 [.ref w] T I R J (qR (some (.int (nI l.length))) T I R J) noX := by
  obtain ⟨hT, ⟨b, h1, h2, h3⟩, h4, h5, h6⟩ := h
  refine AMet.of (by decide) (Nat.le_of_ble_eq_true rfl) (cats1 rfl) fun cx X E => ?_
  show AW _ _ _ (_ :: []) _ _ _ _ _
  first | refine AW.aload_n X dJ9_length_0 rfl rfl ?_ | refine AW.aloadN_n X dJ9_length_0 rfl rfl ?_
  refine AW.getR X f_J9_9_20 (by first | assumption | exact hT _ _ rfl) (by first | assumption | exact hR _ _ _ rfl) dJ9_length_1 ?_
  first | refine AW.alen X (by first | assumption | exact hT _ _ rfl) rfl dJ9_length_4 ?_ | refine AW.alenQ X (by first | assumption | exact hT _ _ rfl) rfl dJ9_length_4 ?_
  first | refine AW.aload_n X dJ9_length_5 rfl rfl ?_ | refine AW.aloadN_n X dJ9_length_5 rfl rfl ?_
  refine AW.callV_r X (c_J9_coder hT h4) (ci := 20) (q := (RJ9, TJ9, 2)) (by first | assumption | exact hT _ _ rfl) rfl s_J9_335_20 (by omega) (Nat.le_of_ble_eq_true rfl) rfl rfl (Nat.le_of_ble_eq_true rfl) dJ9_length_6 ?_
  refine AW.ishr X dJ9_length_9 ?_
  rw [shr0]
  exact AW.ireturn X E ⟨rfl, rfl, rfl, rfl, rfl⟩ dJ9_length_10 
theorem c_J9_checkIndex {k n : Nat} (hk : k < n) (hn : n < 2 ^ 31) : MJ9_checkIndex 1 0 [.int (nI k), .int (nI n)] T I R J (qR none T I R J) noX := by
  refine AMet.of (by decide) (Nat.le_of_ble_eq_true rfl) (cats1 rfl) fun cx X E => ?_
  show AW _ _ _ (_ :: _ :: []) _ _ _ _ _
  refine AW.iload_n X dJ9_checkIndex_0 rfl rfl ?_
  refine AW.iload_n X dJ9_checkIndex_1 rfl rfl ?_
  refine AW.getsU X q301 dJ9_checkIndex_2 ?_
  intro v2 hv2
  refine AW.callS_r X (c_J14_checkIndex v2 hv2 hk hn) s_J9_1059 (by omega) (Nat.le_of_ble_eq_true rfl) rfl rfl (Nat.le_of_ble_eq_true rfl) dJ9_checkIndex_5 ?_
  refine AW.pop X dJ9_checkIndex_8 rfl ?_
  exact AW.vreturn X E ⟨rfl, rfl, rfl, rfl, rfl⟩ dJ9_checkIndex_9
theorem c_J15_charAt {b k n v : Nat} (h1 : T b = (3, n)) (hk : k < n) (hn : n < 2 ^ 31) (hv : I b k = nI v) (hv2 : v < 128) : MJ15_charAt 2 0 [.ref b, .int (nI k)] T I R J (qR (some (.int (nI v))) T I R J) noX := by
  obtain ⟨e1, e2⟩ := chr_ok v (by omega)
  have hc : narrow .char (.int (nI v)) = .int (nI v) := by
    have : ∀ v, v < 128 → narrow .char (.int (nI v)) = .int (nI v) := by decide +kernel
    exact this v hv2
  refine AMet.of (by decide) (Nat.le_of_ble_eq_true rfl) (cats1 rfl) fun cx X E => ?_
  show AW _ _ _ (_ :: _ :: []) _ _ _ _ _
  refine AW.iload_n X dJ15_charAt_0 rfl rfl ?_
  first | refine AW.aload_n X dJ15_charAt_1 rfl rfl ?_ | refine AW.aloadN_n X dJ15_charAt_1 rfl rfl ?_
  first | refine AW.alen X (by first | assumption | exact hT _ _ rfl) rfl dJ15_charAt_2 ?_ | refine AW.alenQ X (by first | assumption | exact hT _ _ rfl) rfl dJ15_charAt_2 ?_
  refine AW.callS_r X (c_J9_checkIndex hk hn) s_J15_9 (by omega) (Nat.le_of_ble_eq_true rfl) rfl rfl (Nat.le_of_ble_eq_true rfl) dJ15_charAt_3 ?_
  first | refine AW.aload_n X dJ15_charAt_6 rfl rfl ?_ | refine AW.aloadN_n X dJ15_charAt_6 rfl rfl ?_
  refine AW.iload_n X dJ15_charAt_7 rfl rfl ?_
  first | refine AW.bald X (j := k) (by first | assumption | exact hT _ _ rfl) (by repeat (first | with_reducible exact rfl | assumption | exact ix_l _ | apply ix_add | apply ix_mul)) (by omega) dJ15_charAt_8 ?_ | refine AW.zald X (j := k) (by first | assumption | exact hT _ _ rfl) (by repeat (first | with_reducible exact rfl | assumption | exact ix_l _ | apply ix_add | apply ix_mul)) (by omega) dJ15_charAt_8 ?_
  rw [hv]
  refine AW.sipush X (v := 255) dJ15_charAt_9 rfl ?_
  refine AW.iand X dJ15_charAt_12 ?_
  rw [e1]
  refine AW.i2c X dJ15_charAt_13 ?_
  rw [e2]
  exact AW.ireturn X E ⟨rfl, rfl, rfl, rfl, rfl⟩ dJ15_charAt_14 (hnar := hc)
theorem c_J9_charAt {w k : Nat} {l : List Nat} (h : StrP w l T I R) (hk : k < l.length) : MJ9_charAt 3 0 [.ref w, .int (nI k)] T I R J (qR (some (.int (nI (l.getD k 0)))) T I R J) noX := by
  obtain ⟨hT, ⟨b, h1, h2, h3⟩, h4, h5, h6⟩ := h
  have hc : narrow .char (.int (nI (l.getD k 0))) = .int (nI (l.getD k 0)) := by
    have : ∀ v, v < 128 → narrow .char (.int (nI v)) = .int (nI v) := by decide +kernel
    exact this _ (h6 k hk)
  refine AMet.of (by decide) (Nat.le_of_ble_eq_true rfl) (cats1 rfl) fun cx X E => ?_
  show AW _ _ _ (_ :: _ :: []) _ _ _ _ _
  first | refine AW.aload_n X dJ9_charAt_0 rfl rfl ?_ | refine AW.aloadN_n X dJ9_charAt_0 rfl rfl ?_
  refine AW.callV_r X (c_J9_isLatin1 hT h4) (ci := 20) (q := (RJ9, TJ9, 2)) (by first | assumption | exact hT _ _ rfl) rfl s_J9_492_20 (by omega) (Nat.le_of_ble_eq_true rfl) rfl rfl (Nat.le_of_ble_eq_true rfl) dJ9_charAt_1 ?_
  refine AW.if_eq X (tgt := 16) dJ9_charAt_4 rfl ?_ ?_
  · intro t4
    exact absurd t4 (by decide)
  · intro f4
    first | refine AW.aload_n X dJ9_charAt_7 rfl rfl ?_ | refine AW.aloadN_n X dJ9_charAt_7 rfl rfl ?_
    refine AW.getR X f_J9_9_20 (by first | assumption | exact hT _ _ rfl) (by first | assumption | exact hR _ _ _ rfl) dJ9_charAt_8 ?_
    refine AW.iload_n X dJ9_charAt_11 rfl rfl ?_
    refine AW.callS_r X (c_J15_charAt h2 hk (by omega) (h3 k hk) (h6 k hk)) s_J9_495 (by omega) (Nat.le_of_ble_eq_true rfl) rfl rfl (Nat.le_of_ble_eq_true rfl) dJ9_charAt_12 ?_
    exact AW.ireturn X E ⟨rfl, rfl, rfl, rfl, rfl⟩ dJ9_charAt_15 (hnar := hc)
theorem c_X5_byteAt {k : Nat} (hT : XT T) (hR : XRf R) (hx : TxM Bt sz I) (hk : k ≤ 700) : MX5_byteAt 0 0 [.ref 200, .int (nI k)] T I R J (qR (some (.int (bA Bt sz k))) T I R J) noX := by
  obtain ⟨h1, h2, h3⟩ := hx
  unfold bA
  refine AMet.of (by decide) (Nat.le_of_ble_eq_true rfl) (cats1 rfl) fun cx X E => ?_
  show AW _ _ _ (_ :: _ :: []) _ _ _ _ _
  by_cases hc : k < sz
  · rw [if_pos hc] at E
    refine AW.iload_n X dX5_byteAt_0 rfl rfl ?_
    first | refine AW.aload_n X dX5_byteAt_1 rfl rfl ?_ | refine AW.aloadN_n X dX5_byteAt_1 rfl rfl ?_
    refine AW.getI X f_X5_204_18 (by first | assumption | exact hT _ _ rfl) dX5_byteAt_2 ?_
    rw [h1]
    refine AW.icmp_ge X (tgt := 17) dX5_byteAt_5 rfl ?_ ?_
    · intro t5
      exact absurd t5 (nI_ge (by omega) (by omega))
    · intro f5
      first | refine AW.aload_n X dX5_byteAt_8 rfl rfl ?_ | refine AW.aloadN_n X dX5_byteAt_8 rfl rfl ?_
      refine AW.getR X f_X5_106_18 (by first | assumption | exact hT _ _ rfl) (by first | assumption | exact hR _ _ _ rfl) dX5_byteAt_9 ?_
      refine AW.iload_n X dX5_byteAt_12 rfl rfl ?_
      refine AW.iald X (j := k) (by first | assumption | exact hT _ _ rfl) (by repeat (first | with_reducible exact rfl | assumption | exact ix_l _ | apply ix_add | apply ix_mul)) (by omega) dX5_byteAt_13 ?_
      rw [(h3 k hc).1]
      refine AW.goto X (tgt := 18) dX5_byteAt_14 rfl ?_
      exact AW.ireturn X E ⟨rfl, rfl, rfl, rfl, rfl⟩ dX5_byteAt_18 
  · rw [if_neg hc] at E
    refine AW.iload_n X dX5_byteAt_0 rfl rfl ?_
    first | refine AW.aload_n X dX5_byteAt_1 rfl rfl ?_ | refine AW.aloadN_n X dX5_byteAt_1 rfl rfl ?_
    refine AW.getI X f_X5_204_18 (by first | assumption | exact hT _ _ rfl) dX5_byteAt_2 ?_
    rw [h1]
    refine AW.icmp_ge X (tgt := 17) dX5_byteAt_5 rfl ?_ ?_
    · intro t5
      refine AW.iconst X (v := -1) dX5_byteAt_17 rfl ?_
      exact AW.ireturn X E ⟨rfl, rfl, rfl, rfl, rfl⟩ dX5_byteAt_18 
    · intro f5
      exact absurd (nI_le (by omega) (by omega)) f5
theorem c_X5_isLetter (v : Int32) : MX5_isLetter 0 0 [.int v] T I R J (qR (some (.int (bI (97 ≤ v ∧ v ≤ 122)))) T I R J) noX := by
  refine AMet.of (by decide) (Nat.le_of_ble_eq_true rfl) (cats1 rfl) fun cx X E => ?_
  show AW _ _ _ (_ :: []) _ _ _ _ _
  refine AW.iload_n X dX5_isLetter_0 rfl rfl ?_
  refine AW.bipush X (v := 97) dX5_isLetter_1 rfl ?_
  refine AW.icmp_lt X (tgt := 16) dX5_isLetter_3 rfl ?_ ?_
  · intro t3
    rw [bI_f (fun hc => absurd hc.1 (Int32.not_le.mpr t3))] at E
    refine AW.iconst X (v := 0) dX5_isLetter_16 rfl ?_
    exact AW.ireturn X E ⟨rfl, rfl, rfl, rfl, rfl⟩ dX5_isLetter_17 (hnar := by first | rfl | (unfold bI; split <;> rfl))
  · intro f3
    refine AW.iload_n X dX5_isLetter_6 rfl rfl ?_
    refine AW.bipush X (v := 122) dX5_isLetter_7 rfl ?_
    refine AW.icmp_gt X (tgt := 16) dX5_isLetter_9 rfl ?_ ?_
    · intro t9
      rw [bI_f (fun hc => absurd hc.2 (Int32.not_le.mpr t9))] at E
      refine AW.iconst X (v := 0) dX5_isLetter_16 rfl ?_
      exact AW.ireturn X E ⟨rfl, rfl, rfl, rfl, rfl⟩ dX5_isLetter_17 (hnar := by first | rfl | (unfold bI; split <;> rfl))
    · intro f9
      rw [bI_t (show (97 : Int32) ≤ v ∧ v ≤ 122 from ⟨Int32.not_lt.mp f3, Int32.not_lt.mp f9⟩)] at E
      refine AW.iconst X (v := 1) dX5_isLetter_12 rfl ?_
      refine AW.goto X (tgt := 17) dX5_isLetter_13 rfl ?_
      exact AW.ireturn X E ⟨rfl, rfl, rfl, rfl, rfl⟩ dX5_isLetter_17 (hnar := by first | rfl | (unfold bI; split <;> rfl))
theorem c_X5_isDigit (v : Int32) : MX5_isDigit 0 0 [.int v] T I R J (qR (some (.int (bI (48 ≤ v ∧ v ≤ 57)))) T I R J) noX := by
  refine AMet.of (by decide) (Nat.le_of_ble_eq_true rfl) (cats1 rfl) fun cx X E => ?_
  show AW _ _ _ (_ :: []) _ _ _ _ _
  refine AW.iload_n X dX5_isDigit_0 rfl rfl ?_
  refine AW.bipush X (v := 48) dX5_isDigit_1 rfl ?_
  refine AW.icmp_lt X (tgt := 16) dX5_isDigit_3 rfl ?_ ?_
  · intro t3
    rw [bI_f (fun hc => absurd hc.1 (Int32.not_le.mpr t3))] at E
    refine AW.iconst X (v := 0) dX5_isDigit_16 rfl ?_
    exact AW.ireturn X E ⟨rfl, rfl, rfl, rfl, rfl⟩ dX5_isDigit_17 (hnar := by first | rfl | (unfold bI; split <;> rfl))
  · intro f3
    refine AW.iload_n X dX5_isDigit_6 rfl rfl ?_
    refine AW.bipush X (v := 57) dX5_isDigit_7 rfl ?_
    refine AW.icmp_gt X (tgt := 16) dX5_isDigit_9 rfl ?_ ?_
    · intro t9
      rw [bI_f (fun hc => absurd hc.2 (Int32.not_le.mpr t9))] at E
      refine AW.iconst X (v := 0) dX5_isDigit_16 rfl ?_
      exact AW.ireturn X E ⟨rfl, rfl, rfl, rfl, rfl⟩ dX5_isDigit_17 (hnar := by first | rfl | (unfold bI; split <;> rfl))
    · intro f9
      rw [bI_t (show (48 : Int32) ≤ v ∧ v ≤ 57 from ⟨Int32.not_lt.mp f3, Int32.not_lt.mp f9⟩)] at E
      refine AW.iconst X (v := 1) dX5_isDigit_12 rfl ?_
      refine AW.goto X (tgt := 17) dX5_isDigit_13 rfl ?_
      exact AW.ireturn X E ⟨rfl, rfl, rfl, rfl, rfl⟩ dX5_isDigit_17 (hnar := by first | rfl | (unfold bI; split <;> rfl))
theorem c_X5_stepOn {i : Nat} (hT : XT T) (hR : XRf R) (hx : TxM Bt sz I) (hi : i ≤ sz) (h26 : I 200 26 = nI i) : MX5_stepOn 1 0 [.ref 200] T I R J (qI (fun r I' => r = none ∧ ST I I' ∧ TkM Bt sz i I') T R J) noX := by
  have hb : ∀ k, k < sz → Bt k < 256 := fun k hk => (hx.2.2 k hk).2
  have hsz := hx.2.1
  have hbe := beg_sz (Bt := Bt) hi
  have hen := en_sz (Bt := Bt) hi
  have le_i : ∀ k, (97 ≤ bA Bt sz k ∧ bA Bt sz k ≤ 122) ↔ (k < sz ∧ isLe (Bt k) = true) := fun k => (bA_in hb (lo := 97) (hi := 122) (by omega) (by omega)).trans ⟨fun z => ⟨z.1, decide_eq_true z.2⟩, fun z => ⟨z.1, of_decide_eq_true z.2⟩⟩
  have di_i : ∀ k, (48 ≤ bA Bt sz k ∧ bA Bt sz k ≤ 57) ↔ (k < sz ∧ isDi (Bt k) = true) := fun k => (bA_in hb (lo := 48) (hi := 57) (by omega) (by omega)).trans ⟨fun z => ⟨z.1, decide_eq_true z.2⟩, fun z => ⟨z.1, of_decide_eq_true z.2⟩⟩
  refine AMet.of (by decide) (Nat.le_of_ble_eq_true rfl) (cats1 rfl) fun cx X E => ?_
  show AW _ _ _ (_ :: _ :: []) _ _ _ _ _
  have fin : ∀ (I' : KI) v1, ST I I' → I' 200 26 = nI (en Bt sz i) → I' 200 28 = nI ((kd Bt sz i + 1) % 5) → I' 200 30 = nI (beg Bt sz i) → (kd Bt sz i = 1 → ¬ ln Bt sz i → I' 200 29 = nI (nv Bt sz i)) → AW cx 0 212 [.ref 200, v1] [] T I' R J := by
    intro I' v1 hf g26 g28 g30 g29
    first | refine AW.aload_n X dX5_stepOn_212 rfl rfl ?_ | refine AW.aloadN_n X dX5_stepOn_212 rfl rfl ?_
    first | refine AW.aload_n X dX5_stepOn_213 rfl rfl ?_ | refine AW.aloadN_n X dX5_stepOn_213 rfl rfl ?_
    refine AW.getI X f_X5_207_18 (by first | assumption | exact hT _ _ rfl) dX5_stepOn_214 ?_
    rw [g26]
    refine AW.putI X g_X5_stepOn_236_18 (by omega) (by first | assumption | exact hT _ _ rfl) dX5_stepOn_217 ?_ 
    refine AW.vreturn X E ?_ dX5_stepOn_220
    exact ⟨rfl, rfl, rfl, rfl, hf.w (by omega), (w2_n2 (by omega)).trans g26, (w2_n2 (by omega)).trans g28, (w2_n2 (by omega)).trans g30, w2_s _ _ _ _, fun k1 k2 => (w2_n2 (by omega)).trans (g29 k1 k2)⟩
  have lW : ∀ d j (I' : KI) v1, sz - j = d → j ≤ sz → kd Bt sz i = 0 → run isLe Bt sz j = en Bt sz i → ST I I' → I' 200 26 = nI j → I' 200 30 = nI (beg Bt sz i) → AW cx 0 76 [.ref 200, v1] [] T I' R J := by
    intro d
    induction d with
    | zero =>
      intro j I' v1 hd hj hk hr hf g26 g30
      have hno : ¬ (j < sz ∧ isLe (Bt j) = true) := by omega
      rw [run_e hno] at hr
      first | refine AW.aload_n X dX5_stepOn_76 rfl rfl ?_ | refine AW.aloadN_n X dX5_stepOn_76 rfl rfl ?_
      first | refine AW.aload_n X dX5_stepOn_77 rfl rfl ?_ | refine AW.aloadN_n X dX5_stepOn_77 rfl rfl ?_
      refine AW.getI X f_X5_207_18 (by first | assumption | exact hT _ _ rfl) dX5_stepOn_78 ?_
      rw [g26]
      refine AW.callV_r X (c_X5_byteAt hT hR (hx.sf hf.sf) (by omega)) (ci := 18) (q := (RX5, TX5, 74)) (by first | assumption | exact hT _ _ rfl) rfl s_X5_210_18 (by omega) (Nat.le_of_ble_eq_true rfl) rfl rfl (Nat.le_of_ble_eq_true rfl) dX5_stepOn_81 ?_
      refine AW.callS_r X (c_X5_isLetter _) s_X5_220 (by omega) (Nat.le_of_ble_eq_true rfl) rfl rfl (Nat.le_of_ble_eq_true rfl) dX5_stepOn_84 ?_
      rw [bI_f (fun z => hno ((le_i j).mp z))]
      refine AW.if_eq X (tgt := 103) dX5_stepOn_87 rfl ?_ ?_
      · intro t87
        first | refine AW.aload_n X dX5_stepOn_103 rfl rfl ?_ | refine AW.aloadN_n X dX5_stepOn_103 rfl rfl ?_
        refine AW.iconst X (v := 1) dX5_stepOn_104 rfl ?_
        refine AW.putI X g_X5_stepOn_217_18 (by omega) (by first | assumption | exact hT _ _ rfl) dX5_stepOn_105 ?_ 
        refine AW.goto X (tgt := 212) dX5_stepOn_108 rfl ?_
        exact fin _ _ (hf.w (by omega)) (by rw [w2_n2 (by omega), g26, hr]) (by rw [w2_s, hk]; rfl) ((w2_n2 (by omega)).trans g30) (fun k1 => by omega)
      · intro f87
        exact absurd rfl f87
    | succ d ih =>
      intro j I' v1 hd hj hk hr hf g26 g30
      by_cases hc : j < sz ∧ isLe (Bt j) = true
      · rw [run_s hc.1 hc.2] at hr
        first | refine AW.aload_n X dX5_stepOn_76 rfl rfl ?_ | refine AW.aloadN_n X dX5_stepOn_76 rfl rfl ?_
        first | refine AW.aload_n X dX5_stepOn_77 rfl rfl ?_ | refine AW.aloadN_n X dX5_stepOn_77 rfl rfl ?_
        refine AW.getI X f_X5_207_18 (by first | assumption | exact hT _ _ rfl) dX5_stepOn_78 ?_
        rw [g26]
        refine AW.callV_r X (c_X5_byteAt hT hR (hx.sf hf.sf) (by omega)) (ci := 18) (q := (RX5, TX5, 74)) (by first | assumption | exact hT _ _ rfl) rfl s_X5_210_18 (by omega) (Nat.le_of_ble_eq_true rfl) rfl rfl (Nat.le_of_ble_eq_true rfl) dX5_stepOn_81 ?_
        refine AW.callS_r X (c_X5_isLetter _) s_X5_220 (by omega) (Nat.le_of_ble_eq_true rfl) rfl rfl (Nat.le_of_ble_eq_true rfl) dX5_stepOn_84 ?_
        rw [bI_t ((le_i j).mpr hc)]
        refine AW.if_eq X (tgt := 103) dX5_stepOn_87 rfl ?_ ?_
        · intro t87
          exact absurd t87 (by decide)
        · intro f87
          first | refine AW.aload_n X dX5_stepOn_90 rfl rfl ?_ | refine AW.aloadN_n X dX5_stepOn_90 rfl rfl ?_
          refine AW.dup X dX5_stepOn_91 rfl ?_
          refine AW.getI X f_X5_207_18 (by first | assumption | exact hT _ _ rfl) dX5_stepOn_92 ?_
          rw [g26]
          refine AW.iconst X (v := 1) dX5_stepOn_95 rfl ?_
          refine AW.iadd X dX5_stepOn_96 ?_
          rw [nI_1]
          refine AW.putI X g_X5_stepOn_207_18 (by omega) (by first | assumption | exact hT _ _ rfl) dX5_stepOn_97 ?_ 
          refine AW.goto X (tgt := 76) dX5_stepOn_100 rfl ?_
          exact ih (j + 1) _ _ (by omega) (by omega) hk hr (hf.w (by omega)) (w2_s _ _ _ _) ((w2_n2 (by omega)).trans g30)
      · rw [run_e hc] at hr
        first | refine AW.aload_n X dX5_stepOn_76 rfl rfl ?_ | refine AW.aloadN_n X dX5_stepOn_76 rfl rfl ?_
        first | refine AW.aload_n X dX5_stepOn_77 rfl rfl ?_ | refine AW.aloadN_n X dX5_stepOn_77 rfl rfl ?_
        refine AW.getI X f_X5_207_18 (by first | assumption | exact hT _ _ rfl) dX5_stepOn_78 ?_
        rw [g26]
        refine AW.callV_r X (c_X5_byteAt hT hR (hx.sf hf.sf) (by omega)) (ci := 18) (q := (RX5, TX5, 74)) (by first | assumption | exact hT _ _ rfl) rfl s_X5_210_18 (by omega) (Nat.le_of_ble_eq_true rfl) rfl rfl (Nat.le_of_ble_eq_true rfl) dX5_stepOn_81 ?_
        refine AW.callS_r X (c_X5_isLetter _) s_X5_220 (by omega) (Nat.le_of_ble_eq_true rfl) rfl rfl (Nat.le_of_ble_eq_true rfl) dX5_stepOn_84 ?_
        rw [bI_f (fun z => hc ((le_i j).mp z))]
        refine AW.if_eq X (tgt := 103) dX5_stepOn_87 rfl ?_ ?_
        · intro t87
          first | refine AW.aload_n X dX5_stepOn_103 rfl rfl ?_ | refine AW.aloadN_n X dX5_stepOn_103 rfl rfl ?_
          refine AW.iconst X (v := 1) dX5_stepOn_104 rfl ?_
          refine AW.putI X g_X5_stepOn_217_18 (by omega) (by first | assumption | exact hT _ _ rfl) dX5_stepOn_105 ?_ 
          refine AW.goto X (tgt := 212) dX5_stepOn_108 rfl ?_
          exact fin _ _ (hf.w (by omega)) (by rw [w2_n2 (by omega), g26, hr]) (by rw [w2_s, hk]; rfl) ((w2_n2 (by omega)).trans g30) (fun k1 => by omega)
        · intro f87
          exact absurd rfl f87
  have lD : ∀ d k (I' : KI) v1, sz - (beg Bt sz i + k) = d → beg Bt sz i + k ≤ sz → kd Bt sz i = 1 → run isDi Bt sz (beg Bt sz i + k) = en Bt sz i → (∀ j, j < k → isDi (Bt (beg Bt sz i + j)) = true) → ST I I' → I' 200 26 = nI (beg Bt sz i + k) → I' 200 30 = nI (beg Bt sz i) → I' 200 29 = nI (nmC Bt (beg Bt sz i) k) → AW cx 0 123 [.ref 200, v1] [] T I' R J := by
    intro d
    induction d with
    | zero =>
      intro k I' v1 hd hj hk hr hdg hf g26 g30 g29
      have hno : ¬ (beg Bt sz i + k < sz ∧ isDi (Bt (beg Bt sz i + k)) = true) := by omega
      rw [run_e hno] at hr
      first | refine AW.aload_n X dX5_stepOn_123 rfl rfl ?_ | refine AW.aloadN_n X dX5_stepOn_123 rfl rfl ?_
      first | refine AW.aload_n X dX5_stepOn_124 rfl rfl ?_ | refine AW.aloadN_n X dX5_stepOn_124 rfl rfl ?_
      refine AW.getI X f_X5_207_18 (by first | assumption | exact hT _ _ rfl) dX5_stepOn_125 ?_
      rw [g26]
      refine AW.callV_r X (c_X5_byteAt hT hR (hx.sf hf.sf) (by omega)) (ci := 18) (q := (RX5, TX5, 74)) (by first | assumption | exact hT _ _ rfl) rfl s_X5_210_18 (by omega) (Nat.le_of_ble_eq_true rfl) rfl rfl (Nat.le_of_ble_eq_true rfl) dX5_stepOn_128 ?_
      refine AW.callS_r X (c_X5_isDigit _) s_X5_224 (by omega) (Nat.le_of_ble_eq_true rfl) rfl rfl (Nat.le_of_ble_eq_true rfl) dX5_stepOn_131 ?_
      rw [bI_f (fun z => hno ((di_i _).mp z))]
      refine AW.if_eq X (tgt := 179) dX5_stepOn_134 rfl ?_ ?_
      · intro t134
        first | refine AW.aload_n X dX5_stepOn_179 rfl rfl ?_ | refine AW.aloadN_n X dX5_stepOn_179 rfl rfl ?_
        refine AW.iconst X (v := 2) dX5_stepOn_180 rfl ?_
        refine AW.putI X g_X5_stepOn_217_18 (by omega) (by first | assumption | exact hT _ _ rfl) dX5_stepOn_181 ?_ 
        refine AW.goto X (tgt := 212) dX5_stepOn_184 rfl ?_
        exact fin _ _ (hf.w (by omega)) (by rw [w2_n2 (by omega), g26, hr]) (by rw [w2_s, hk]; rfl) ((w2_n2 (by omega)).trans g30) (fun _ k2 => by
          rw [w2_n2 (by omega), g29]
          have hk3 : k ≤ 3 := by unfold ln at k2; omega
          rw [nmC_vl hk3 hdg]
          unfold nv
          rw [← hr, Nat.add_sub_cancel_left, Nat.min_eq_right hk3])
      · intro f134
        exact absurd rfl f134
    | succ d ih =>
      intro k I' v1 hd hj hk hr hdg hf g26 g30 g29
      by_cases hc : beg Bt sz i + k < sz ∧ isDi (Bt (beg Bt sz i + k)) = true
      · rw [run_s hc.1 hc.2] at hr
        have hnb := nmC_b (Bt := Bt) (p := beg Bt sz i) (k := k)
        have hdd := of_decide_eq_true hc.2
        have hbA : bA Bt sz (beg Bt sz i + k) = nI (Bt (beg Bt sz i + k)) := if_pos hc.1
        have hst : mn2 10000 (10 * nI (nmC Bt (beg Bt sz i) k) + nI (Bt (beg Bt sz i + k)) - 48) = nI (nmC Bt (beg Bt sz i) (k + 1)) := by
          rw [show (10 : Int32) = nI 10 from rfl, nI_mul, nI_add, show (48 : Int32) = nI 48 from rfl, nI_sub (by omega), show (10000 : Int32) = nI 10000 from rfl, mn2_nI (by omega) (by omega)]
          rfl
        first | refine AW.aload_n X dX5_stepOn_123 rfl rfl ?_ | refine AW.aloadN_n X dX5_stepOn_123 rfl rfl ?_
        first | refine AW.aload_n X dX5_stepOn_124 rfl rfl ?_ | refine AW.aloadN_n X dX5_stepOn_124 rfl rfl ?_
        refine AW.getI X f_X5_207_18 (by first | assumption | exact hT _ _ rfl) dX5_stepOn_125 ?_
        rw [g26]
        refine AW.callV_r X (c_X5_byteAt hT hR (hx.sf hf.sf) (by omega)) (ci := 18) (q := (RX5, TX5, 74)) (by first | assumption | exact hT _ _ rfl) rfl s_X5_210_18 (by omega) (Nat.le_of_ble_eq_true rfl) rfl rfl (Nat.le_of_ble_eq_true rfl) dX5_stepOn_128 ?_
        refine AW.callS_r X (c_X5_isDigit _) s_X5_224 (by omega) (Nat.le_of_ble_eq_true rfl) rfl rfl (Nat.le_of_ble_eq_true rfl) dX5_stepOn_131 ?_
        rw [bI_t ((di_i _).mpr hc)]
        refine AW.if_eq X (tgt := 179) dX5_stepOn_134 rfl ?_ ?_
        · intro t134
          exact absurd t134 (by decide)
        · intro f134
          first | refine AW.aload_n X dX5_stepOn_137 rfl rfl ?_ | refine AW.aloadN_n X dX5_stepOn_137 rfl rfl ?_
          refine AW.sipush X (v := 10000) dX5_stepOn_138 rfl ?_
          refine AW.bipush X (v := 10) dX5_stepOn_141 rfl ?_
          first | refine AW.aload_n X dX5_stepOn_143 rfl rfl ?_ | refine AW.aloadN_n X dX5_stepOn_143 rfl rfl ?_
          refine AW.getI X f_X5_227_18 (by first | assumption | exact hT _ _ rfl) dX5_stepOn_144 ?_
          rw [g29]
          refine AW.imul X dX5_stepOn_147 ?_
          first | refine AW.aload_n X dX5_stepOn_148 rfl rfl ?_ | refine AW.aloadN_n X dX5_stepOn_148 rfl rfl ?_
          first | refine AW.aload_n X dX5_stepOn_149 rfl rfl ?_ | refine AW.aloadN_n X dX5_stepOn_149 rfl rfl ?_
          refine AW.getI X f_X5_207_18 (by first | assumption | exact hT _ _ rfl) dX5_stepOn_150 ?_
          rw [g26]
          refine AW.callV_r X (c_X5_byteAt hT hR (hx.sf hf.sf) (by omega)) (ci := 18) (q := (RX5, TX5, 74)) (by first | assumption | exact hT _ _ rfl) rfl s_X5_210_18 (by omega) (Nat.le_of_ble_eq_true rfl) rfl rfl (Nat.le_of_ble_eq_true rfl) dX5_stepOn_153 ?_
          rw [hbA]
          refine AW.iadd X dX5_stepOn_156 ?_
          refine AW.bipush X (v := 48) dX5_stepOn_157 rfl ?_
          refine AW.isub X dX5_stepOn_159 ?_
          refine AW.mmin X q1847 (by omega) (Nat.le_of_ble_eq_true rfl) dX5_stepOn_160 ?_
          rw [hst]
          refine AW.putI X g_X5_stepOn_227_18 (by omega) (by first | assumption | exact hT _ _ rfl) dX5_stepOn_163 ?_ 
          first | refine AW.aload_n X dX5_stepOn_166 rfl rfl ?_ | refine AW.aloadN_n X dX5_stepOn_166 rfl rfl ?_
          refine AW.dup X dX5_stepOn_167 rfl ?_
          refine AW.getI X f_X5_207_18 (by first | assumption | exact hT _ _ rfl) dX5_stepOn_168 ?_
          rw [w2_n2 (by omega), g26]
          refine AW.iconst X (v := 1) dX5_stepOn_171 rfl ?_
          refine AW.iadd X dX5_stepOn_172 ?_
          rw [nI_1]
          refine AW.putI X g_X5_stepOn_207_18 (by omega) (by first | assumption | exact hT _ _ rfl) dX5_stepOn_173 ?_ 
          refine AW.goto X (tgt := 123) dX5_stepOn_176 rfl ?_
          exact ih (k + 1) _ _ (by omega) (by omega) hk hr (fun j hj => by
            rcases Nat.lt_or_eq_of_le (Nat.le_of_lt_succ hj) with hl | rfl
            · exact hdg j hl
            · exact hc.2) ((hf.w (by omega)).w (by omega)) (w2_s _ _ _ _) ((w2_n2 (by omega)).trans ((w2_n2 (by omega)).trans g30)) ((w2_n2 (by omega)).trans (w2_s _ _ _ _))
      · rw [run_e hc] at hr
        first | refine AW.aload_n X dX5_stepOn_123 rfl rfl ?_ | refine AW.aloadN_n X dX5_stepOn_123 rfl rfl ?_
        first | refine AW.aload_n X dX5_stepOn_124 rfl rfl ?_ | refine AW.aloadN_n X dX5_stepOn_124 rfl rfl ?_
        refine AW.getI X f_X5_207_18 (by first | assumption | exact hT _ _ rfl) dX5_stepOn_125 ?_
        rw [g26]
        refine AW.callV_r X (c_X5_byteAt hT hR (hx.sf hf.sf) (by omega)) (ci := 18) (q := (RX5, TX5, 74)) (by first | assumption | exact hT _ _ rfl) rfl s_X5_210_18 (by omega) (Nat.le_of_ble_eq_true rfl) rfl rfl (Nat.le_of_ble_eq_true rfl) dX5_stepOn_128 ?_
        refine AW.callS_r X (c_X5_isDigit _) s_X5_224 (by omega) (Nat.le_of_ble_eq_true rfl) rfl rfl (Nat.le_of_ble_eq_true rfl) dX5_stepOn_131 ?_
        rw [bI_f (fun z => hc ((di_i _).mp z))]
        refine AW.if_eq X (tgt := 179) dX5_stepOn_134 rfl ?_ ?_
        · intro t134
          first | refine AW.aload_n X dX5_stepOn_179 rfl rfl ?_ | refine AW.aloadN_n X dX5_stepOn_179 rfl rfl ?_
          refine AW.iconst X (v := 2) dX5_stepOn_180 rfl ?_
          refine AW.putI X g_X5_stepOn_217_18 (by omega) (by first | assumption | exact hT _ _ rfl) dX5_stepOn_181 ?_ 
          refine AW.goto X (tgt := 212) dX5_stepOn_184 rfl ?_
          exact fin _ _ (hf.w (by omega)) (by rw [w2_n2 (by omega), g26, hr]) (by rw [w2_s, hk]; rfl) ((w2_n2 (by omega)).trans g30) (fun _ k2 => by
            rw [w2_n2 (by omega), g29]
            have hk3 : k ≤ 3 := by unfold ln at k2; omega
            rw [nmC_vl hk3 hdg]
            unfold nv
            rw [← hr, Nat.add_sub_cancel_left, Nat.min_eq_right hk3])
        · intro f134
          exact absurd rfl f134
  have aft : ∀ I', ST I I' → I' 200 26 = nI (beg Bt sz i) → AW cx 0 39 [.ref 200, .retAddr 0] [] T I' R J := by
    intro I' hf g26
    have hxf := hx.sf (hf.w (k := 30) (v := nI (beg Bt sz i)) (by omega)).sf
    by_cases h4 : kd Bt sz i = 4
    · have hge := kd4.mp h4
      have hee : en Bt sz i = beg Bt sz i := by unfold en; rw [if_pos h4]
      first | refine AW.aload_n X dX5_stepOn_39 rfl rfl ?_ | refine AW.aloadN_n X dX5_stepOn_39 rfl rfl ?_
      first | refine AW.aload_n X dX5_stepOn_40 rfl rfl ?_ | refine AW.aloadN_n X dX5_stepOn_40 rfl rfl ?_
      refine AW.getI X f_X5_207_18 (by first | assumption | exact hT _ _ rfl) dX5_stepOn_41 ?_
      rw [g26]
      refine AW.putI X g_X5_stepOn_214_18 (by omega) (by first | assumption | exact hT _ _ rfl) dX5_stepOn_44 ?_ 
      first | refine AW.aload_n X dX5_stepOn_47 rfl rfl ?_ | refine AW.aloadN_n X dX5_stepOn_47 rfl rfl ?_
      first | refine AW.aload_n X dX5_stepOn_48 rfl rfl ?_ | refine AW.aloadN_n X dX5_stepOn_48 rfl rfl ?_
      refine AW.getI X f_X5_207_18 (by first | assumption | exact hT _ _ rfl) dX5_stepOn_49 ?_
      rw [w2_n2 (by omega), g26]
      refine AW.callV_r X (c_X5_byteAt hT hR hxf (by omega)) (ci := 18) (q := (RX5, TX5, 74)) (by first | assumption | exact hT _ _ rfl) rfl s_X5_210_18 (by omega) (Nat.le_of_ble_eq_true rfl) rfl rfl (Nat.le_of_ble_eq_true rfl) dX5_stepOn_52 ?_
      rw [(bA_m hb).mpr (by omega)]
      refine AW.istore1 X dX5_stepOn_55 ?_
      refine AW.iload_n X dX5_stepOn_56 rfl rfl ?_
      refine AW.iconst X (v := -1) dX5_stepOn_57 rfl ?_
      refine AW.icmp_ne X (tgt := 69) dX5_stepOn_58 rfl ?_ ?_
      · intro t58
        exact absurd rfl t58
      · intro f58
        first | refine AW.aload_n X dX5_stepOn_61 rfl rfl ?_ | refine AW.aloadN_n X dX5_stepOn_61 rfl rfl ?_
        refine AW.iconst X (v := 0) dX5_stepOn_62 rfl ?_
        refine AW.putI X g_X5_stepOn_217_18 (by omega) (by first | assumption | exact hT _ _ rfl) dX5_stepOn_63 ?_ 
        refine AW.goto X (tgt := 212) dX5_stepOn_66 rfl ?_
        exact fin _ _ ((hf.w (by omega)).w (by omega)) (by rw [w2_n2 (by omega), w2_n2 (by omega), g26, hee]) (by rw [w2_s, h4]; rfl) (by rw [w2_n2 (by omega), w2_s]) (fun k1 => by omega)
    · have hlt := kd_lt h4
      by_cases h0 : kd Bt sz i = 0
      · have hle := kd0 h0
        first | refine AW.aload_n X dX5_stepOn_39 rfl rfl ?_ | refine AW.aloadN_n X dX5_stepOn_39 rfl rfl ?_
        first | refine AW.aload_n X dX5_stepOn_40 rfl rfl ?_ | refine AW.aloadN_n X dX5_stepOn_40 rfl rfl ?_
        refine AW.getI X f_X5_207_18 (by first | assumption | exact hT _ _ rfl) dX5_stepOn_41 ?_
        rw [g26]
        refine AW.putI X g_X5_stepOn_214_18 (by omega) (by first | assumption | exact hT _ _ rfl) dX5_stepOn_44 ?_ 
        first | refine AW.aload_n X dX5_stepOn_47 rfl rfl ?_ | refine AW.aloadN_n X dX5_stepOn_47 rfl rfl ?_
        first | refine AW.aload_n X dX5_stepOn_48 rfl rfl ?_ | refine AW.aloadN_n X dX5_stepOn_48 rfl rfl ?_
        refine AW.getI X f_X5_207_18 (by first | assumption | exact hT _ _ rfl) dX5_stepOn_49 ?_
        rw [w2_n2 (by omega), g26]
        refine AW.callV_r X (c_X5_byteAt hT hR hxf (by omega)) (ci := 18) (q := (RX5, TX5, 74)) (by first | assumption | exact hT _ _ rfl) rfl s_X5_210_18 (by omega) (Nat.le_of_ble_eq_true rfl) rfl rfl (Nat.le_of_ble_eq_true rfl) dX5_stepOn_52 ?_
        refine AW.istore1 X dX5_stepOn_55 ?_
        refine AW.iload_n X dX5_stepOn_56 rfl rfl ?_
        refine AW.iconst X (v := -1) dX5_stepOn_57 rfl ?_
        refine AW.icmp_ne X (tgt := 69) dX5_stepOn_58 rfl ?_ ?_
        · intro t58
          refine AW.iload_n X dX5_stepOn_69 rfl rfl ?_
          refine AW.callS_r X (c_X5_isLetter _) s_X5_220 (by omega) (Nat.le_of_ble_eq_true rfl) rfl rfl (Nat.le_of_ble_eq_true rfl) dX5_stepOn_70 ?_
          rw [bI_t ((le_i _).mpr ⟨hlt, hle⟩)]
          refine AW.if_eq X (tgt := 111) dX5_stepOn_73 rfl ?_ ?_
          · intro t73
            exact absurd t73 (by decide)
          · intro f73
            exact lW _ (beg Bt sz i) _ _ rfl hbe h0 (by unfold en; rw [if_neg h4, if_pos h0]) (hf.w (by omega)) (by rw [w2_n2 (by omega), g26]) (w2_s _ _ _ _)
        · intro f58
          exact absurd ((bA_m hb).mp f58) (by omega)
      · have hnl : ¬ isLe (Bt (beg Bt sz i)) = true := fun hc => h0 (by unfold kd; rw [if_neg (by omega), if_pos hc])
        by_cases h1 : kd Bt sz i = 1
        · have hdi := kd1 h1
          first | refine AW.aload_n X dX5_stepOn_39 rfl rfl ?_ | refine AW.aloadN_n X dX5_stepOn_39 rfl rfl ?_
          first | refine AW.aload_n X dX5_stepOn_40 rfl rfl ?_ | refine AW.aloadN_n X dX5_stepOn_40 rfl rfl ?_
          refine AW.getI X f_X5_207_18 (by first | assumption | exact hT _ _ rfl) dX5_stepOn_41 ?_
          rw [g26]
          refine AW.putI X g_X5_stepOn_214_18 (by omega) (by first | assumption | exact hT _ _ rfl) dX5_stepOn_44 ?_ 
          first | refine AW.aload_n X dX5_stepOn_47 rfl rfl ?_ | refine AW.aloadN_n X dX5_stepOn_47 rfl rfl ?_
          first | refine AW.aload_n X dX5_stepOn_48 rfl rfl ?_ | refine AW.aloadN_n X dX5_stepOn_48 rfl rfl ?_
          refine AW.getI X f_X5_207_18 (by first | assumption | exact hT _ _ rfl) dX5_stepOn_49 ?_
          rw [w2_n2 (by omega), g26]
          refine AW.callV_r X (c_X5_byteAt hT hR hxf (by omega)) (ci := 18) (q := (RX5, TX5, 74)) (by first | assumption | exact hT _ _ rfl) rfl s_X5_210_18 (by omega) (Nat.le_of_ble_eq_true rfl) rfl rfl (Nat.le_of_ble_eq_true rfl) dX5_stepOn_52 ?_
          refine AW.istore1 X dX5_stepOn_55 ?_
          refine AW.iload_n X dX5_stepOn_56 rfl rfl ?_
          refine AW.iconst X (v := -1) dX5_stepOn_57 rfl ?_
          refine AW.icmp_ne X (tgt := 69) dX5_stepOn_58 rfl ?_ ?_
          · intro t58
            refine AW.iload_n X dX5_stepOn_69 rfl rfl ?_
            refine AW.callS_r X (c_X5_isLetter _) s_X5_220 (by omega) (Nat.le_of_ble_eq_true rfl) rfl rfl (Nat.le_of_ble_eq_true rfl) dX5_stepOn_70 ?_
            rw [bI_f (fun z => hnl ((le_i _).mp z).2)]
            refine AW.if_eq X (tgt := 111) dX5_stepOn_73 rfl ?_ ?_
            · intro t73
              refine AW.iload_n X dX5_stepOn_111 rfl rfl ?_
              refine AW.callS_r X (c_X5_isDigit _) s_X5_224 (by omega) (Nat.le_of_ble_eq_true rfl) rfl rfl (Nat.le_of_ble_eq_true rfl) dX5_stepOn_112 ?_
              rw [bI_t ((di_i _).mpr ⟨hlt, hdi⟩)]
              refine AW.if_eq X (tgt := 187) dX5_stepOn_115 rfl ?_ ?_
              · intro t115
                exact absurd t115 (by decide)
              · intro f115
                first | refine AW.aload_n X dX5_stepOn_118 rfl rfl ?_ | refine AW.aloadN_n X dX5_stepOn_118 rfl rfl ?_
                refine AW.iconst X (v := 0) dX5_stepOn_119 rfl ?_
                refine AW.putI X g_X5_stepOn_227_18 (by omega) (by first | assumption | exact hT _ _ rfl) dX5_stepOn_120 ?_ 
                exact lD _ 0 _ _ rfl (by omega) h1 (by unfold en; rw [if_neg h4, if_neg h0, if_pos h1]; rfl) (fun _ h => absurd h (Nat.not_lt_zero _)) ((hf.w (by omega)).w (by omega)) (by rw [w2_n2 (by omega), w2_n2 (by omega), g26]; rfl) (by rw [w2_n2 (by omega), w2_s]) (w2_s _ _ _ _)
            · intro f73
              exact absurd rfl f73
          · intro f58
            exact absurd ((bA_m hb).mp f58) (by omega)
        · have hnd : ¬ isDi (Bt (beg Bt sz i)) = true := fun hc => h1 (by unfold kd; rw [if_neg (by omega), if_neg hnl, if_pos hc])
          have hee : en Bt sz i = beg Bt sz i + 1 := by unfold en; rw [if_neg h4, if_neg h0, if_neg h1]
          have hkk : kd Bt sz i = if Bt (beg Bt sz i) = 59 then 2 else 3 := by unfold kd; rw [if_neg (by omega), if_neg hnl, if_neg hnd]
          first | refine AW.aload_n X dX5_stepOn_39 rfl rfl ?_ | refine AW.aloadN_n X dX5_stepOn_39 rfl rfl ?_
          first | refine AW.aload_n X dX5_stepOn_40 rfl rfl ?_ | refine AW.aloadN_n X dX5_stepOn_40 rfl rfl ?_
          refine AW.getI X f_X5_207_18 (by first | assumption | exact hT _ _ rfl) dX5_stepOn_41 ?_
          rw [g26]
          refine AW.putI X g_X5_stepOn_214_18 (by omega) (by first | assumption | exact hT _ _ rfl) dX5_stepOn_44 ?_ 
          first | refine AW.aload_n X dX5_stepOn_47 rfl rfl ?_ | refine AW.aloadN_n X dX5_stepOn_47 rfl rfl ?_
          first | refine AW.aload_n X dX5_stepOn_48 rfl rfl ?_ | refine AW.aloadN_n X dX5_stepOn_48 rfl rfl ?_
          refine AW.getI X f_X5_207_18 (by first | assumption | exact hT _ _ rfl) dX5_stepOn_49 ?_
          rw [w2_n2 (by omega), g26]
          refine AW.callV_r X (c_X5_byteAt hT hR hxf (by omega)) (ci := 18) (q := (RX5, TX5, 74)) (by first | assumption | exact hT _ _ rfl) rfl s_X5_210_18 (by omega) (Nat.le_of_ble_eq_true rfl) rfl rfl (Nat.le_of_ble_eq_true rfl) dX5_stepOn_52 ?_
          refine AW.istore1 X dX5_stepOn_55 ?_
          refine AW.iload_n X dX5_stepOn_56 rfl rfl ?_
          refine AW.iconst X (v := -1) dX5_stepOn_57 rfl ?_
          refine AW.icmp_ne X (tgt := 69) dX5_stepOn_58 rfl ?_ ?_
          · intro t58
            refine AW.iload_n X dX5_stepOn_69 rfl rfl ?_
            refine AW.callS_r X (c_X5_isLetter _) s_X5_220 (by omega) (Nat.le_of_ble_eq_true rfl) rfl rfl (Nat.le_of_ble_eq_true rfl) dX5_stepOn_70 ?_
            rw [bI_f (fun z => hnl ((le_i _).mp z).2)]
            refine AW.if_eq X (tgt := 111) dX5_stepOn_73 rfl ?_ ?_
            · intro t73
              refine AW.iload_n X dX5_stepOn_111 rfl rfl ?_
              refine AW.callS_r X (c_X5_isDigit _) s_X5_224 (by omega) (Nat.le_of_ble_eq_true rfl) rfl rfl (Nat.le_of_ble_eq_true rfl) dX5_stepOn_112 ?_
              rw [bI_f (fun z => hnd ((di_i _).mp z).2)]
              refine AW.if_eq X (tgt := 187) dX5_stepOn_115 rfl ?_ ?_
              · intro t115
                first | refine AW.aload_n X dX5_stepOn_187 rfl rfl ?_ | refine AW.aloadN_n X dX5_stepOn_187 rfl rfl ?_
                refine AW.dup X dX5_stepOn_188 rfl ?_
                refine AW.getI X f_X5_207_18 (by first | assumption | exact hT _ _ rfl) dX5_stepOn_189 ?_
                rw [w2_n2 (by omega), g26]
                refine AW.iconst X (v := 1) dX5_stepOn_192 rfl ?_
                refine AW.iadd X dX5_stepOn_193 ?_
                rw [nI_1]
                refine AW.putI X g_X5_stepOn_207_18 (by omega) (by first | assumption | exact hT _ _ rfl) dX5_stepOn_194 ?_ 
                first | refine AW.aload_n X dX5_stepOn_197 rfl rfl ?_ | refine AW.aloadN_n X dX5_stepOn_197 rfl rfl ?_
                refine AW.iload_n X dX5_stepOn_198 rfl rfl ?_
                refine AW.bipush X (v := 59) dX5_stepOn_199 rfl ?_
                refine AW.icmp_ne X (tgt := 208) dX5_stepOn_201 rfl ?_ ?_
                · intro t201
                  rw [if_neg (fun z => t201 ((bA_eq hb (c := 59) (by omega)).mpr ⟨hlt, z⟩))] at hkk
                  refine AW.iconst X (v := 4) dX5_stepOn_208 rfl ?_
                  refine AW.putI X g_X5_stepOn_217_18 (by omega) (by first | assumption | exact hT _ _ rfl) dX5_stepOn_209 ?_ 
                  exact fin _ _ (((hf.w (by omega)).w (by omega)).w (by omega)) (by rw [w2_n2 (by omega), w2_s, hee]) (by rw [w2_s, hkk]; rfl) (by rw [w2_n2 (by omega), w2_n2 (by omega), w2_s]) (fun k1 => by omega)
                · intro f201
                  rw [if_pos ((bA_eq hb (c := 59) (by omega)).mp f201).2] at hkk
                  refine AW.iconst X (v := 3) dX5_stepOn_204 rfl ?_
                  refine AW.goto X (tgt := 209) dX5_stepOn_205 rfl ?_
                  refine AW.putI X g_X5_stepOn_217_18 (by omega) (by first | assumption | exact hT _ _ rfl) dX5_stepOn_209 ?_ 
                  exact fin _ _ (((hf.w (by omega)).w (by omega)).w (by omega)) (by rw [w2_n2 (by omega), w2_s, hee]) (by rw [w2_s, hkk]; rfl) (by rw [w2_n2 (by omega), w2_n2 (by omega), w2_s]) (fun k1 => by omega)
              · intro f115
                exact absurd rfl f115
            · intro f73
              exact absurd rfl f73
          · intro f58
            exact absurd ((bA_m hb).mp f58) (by omega)
  have lS : ∀ d j (I' : KI), sz - j = d → j ≤ sz → run isSp Bt sz j = beg Bt sz i → ST I I' → I' 200 26 = nI j → AW cx 0 0 [.ref 200, .retAddr 0] [] T I' R J := by
    intro d
    induction d with
    | zero =>
      intro j I' hd hj hr hf g26
      have hno : ¬ (j < sz ∧ isSp (Bt j) = true) := by omega
      rw [run_e hno] at hr
      first | refine AW.aload_n X dX5_stepOn_0 rfl rfl ?_ | refine AW.aloadN_n X dX5_stepOn_0 rfl rfl ?_
      first | refine AW.aload_n X dX5_stepOn_1 rfl rfl ?_ | refine AW.aloadN_n X dX5_stepOn_1 rfl rfl ?_
      refine AW.getI X f_X5_207_18 (by first | assumption | exact hT _ _ rfl) dX5_stepOn_2 ?_
      rw [g26]
      refine AW.callV_r X (c_X5_byteAt hT hR (hx.sf hf.sf) (by omega)) (ci := 18) (q := (RX5, TX5, 74)) (by first | assumption | exact hT _ _ rfl) rfl s_X5_210_18 (by omega) (Nat.le_of_ble_eq_true rfl) rfl rfl (Nat.le_of_ble_eq_true rfl) dX5_stepOn_5 ?_
      refine AW.bipush X (v := 32) dX5_stepOn_8 rfl ?_
      refine AW.icmp_eq X (tgt := 26) dX5_stepOn_10 rfl ?_ ?_
      · intro t10
        exact absurd ((bA_eq hb (c := 32) (by omega)).mp t10).1 (by omega)
      · intro f10
        first | refine AW.aload_n X dX5_stepOn_13 rfl rfl ?_ | refine AW.aloadN_n X dX5_stepOn_13 rfl rfl ?_
        first | refine AW.aload_n X dX5_stepOn_14 rfl rfl ?_ | refine AW.aloadN_n X dX5_stepOn_14 rfl rfl ?_
        refine AW.getI X f_X5_207_18 (by first | assumption | exact hT _ _ rfl) dX5_stepOn_15 ?_
        rw [g26]
        refine AW.callV_r X (c_X5_byteAt hT hR (hx.sf hf.sf) (by omega)) (ci := 18) (q := (RX5, TX5, 74)) (by first | assumption | exact hT _ _ rfl) rfl s_X5_210_18 (by omega) (Nat.le_of_ble_eq_true rfl) rfl rfl (Nat.le_of_ble_eq_true rfl) dX5_stepOn_18 ?_
        refine AW.bipush X (v := 10) dX5_stepOn_21 rfl ?_
        refine AW.icmp_ne X (tgt := 39) dX5_stepOn_23 rfl ?_ ?_
        · intro t23
          exact aft I' hf (by rw [g26, hr])
        · intro f23
          exact absurd ((bA_eq hb (c := 10) (by omega)).mp f23).1 (by omega)
    | succ d ih =>
      intro j I' hd hj hr hf g26
      by_cases hc : j < sz ∧ isSp (Bt j) = true
      · rw [run_s hc.1 hc.2] at hr
        have hs := of_decide_eq_true hc.2
        first | refine AW.aload_n X dX5_stepOn_0 rfl rfl ?_ | refine AW.aloadN_n X dX5_stepOn_0 rfl rfl ?_
        first | refine AW.aload_n X dX5_stepOn_1 rfl rfl ?_ | refine AW.aloadN_n X dX5_stepOn_1 rfl rfl ?_
        refine AW.getI X f_X5_207_18 (by first | assumption | exact hT _ _ rfl) dX5_stepOn_2 ?_
        rw [g26]
        refine AW.callV_r X (c_X5_byteAt hT hR (hx.sf hf.sf) (by omega)) (ci := 18) (q := (RX5, TX5, 74)) (by first | assumption | exact hT _ _ rfl) rfl s_X5_210_18 (by omega) (Nat.le_of_ble_eq_true rfl) rfl rfl (Nat.le_of_ble_eq_true rfl) dX5_stepOn_5 ?_
        refine AW.bipush X (v := 32) dX5_stepOn_8 rfl ?_
        refine AW.icmp_eq X (tgt := 26) dX5_stepOn_10 rfl ?_ ?_
        · intro t10
          first | refine AW.aload_n X dX5_stepOn_26 rfl rfl ?_ | refine AW.aloadN_n X dX5_stepOn_26 rfl rfl ?_
          refine AW.dup X dX5_stepOn_27 rfl ?_
          refine AW.getI X f_X5_207_18 (by first | assumption | exact hT _ _ rfl) dX5_stepOn_28 ?_
          rw [g26]
          refine AW.iconst X (v := 1) dX5_stepOn_31 rfl ?_
          refine AW.iadd X dX5_stepOn_32 ?_
          rw [nI_1]
          refine AW.putI X g_X5_stepOn_207_18 (by omega) (by first | assumption | exact hT _ _ rfl) dX5_stepOn_33 ?_ 
          refine AW.goto X (tgt := 0) dX5_stepOn_36 rfl ?_
          exact ih (j + 1) _ (by omega) (by omega) hr (hf.w (by omega)) (w2_s _ _ _ _)
        · intro f10
          first | refine AW.aload_n X dX5_stepOn_13 rfl rfl ?_ | refine AW.aloadN_n X dX5_stepOn_13 rfl rfl ?_
          first | refine AW.aload_n X dX5_stepOn_14 rfl rfl ?_ | refine AW.aloadN_n X dX5_stepOn_14 rfl rfl ?_
          refine AW.getI X f_X5_207_18 (by first | assumption | exact hT _ _ rfl) dX5_stepOn_15 ?_
          rw [g26]
          refine AW.callV_r X (c_X5_byteAt hT hR (hx.sf hf.sf) (by omega)) (ci := 18) (q := (RX5, TX5, 74)) (by first | assumption | exact hT _ _ rfl) rfl s_X5_210_18 (by omega) (Nat.le_of_ble_eq_true rfl) rfl rfl (Nat.le_of_ble_eq_true rfl) dX5_stepOn_18 ?_
          refine AW.bipush X (v := 10) dX5_stepOn_21 rfl ?_
          refine AW.icmp_ne X (tgt := 39) dX5_stepOn_23 rfl ?_ ?_
          · intro t23
            exact absurd (hs.elim (fun z => absurd ((bA_eq hb (c := 32) (by omega)).mpr ⟨hc.1, z⟩) f10) (fun z => (bA_eq hb (c := 10) (by omega)).mpr ⟨hc.1, z⟩)) t23
          · intro f23
            first | refine AW.aload_n X dX5_stepOn_26 rfl rfl ?_ | refine AW.aloadN_n X dX5_stepOn_26 rfl rfl ?_
            refine AW.dup X dX5_stepOn_27 rfl ?_
            refine AW.getI X f_X5_207_18 (by first | assumption | exact hT _ _ rfl) dX5_stepOn_28 ?_
            rw [g26]
            refine AW.iconst X (v := 1) dX5_stepOn_31 rfl ?_
            refine AW.iadd X dX5_stepOn_32 ?_
            rw [nI_1]
            refine AW.putI X g_X5_stepOn_207_18 (by omega) (by first | assumption | exact hT _ _ rfl) dX5_stepOn_33 ?_ 
            refine AW.goto X (tgt := 0) dX5_stepOn_36 rfl ?_
            exact ih (j + 1) _ (by omega) (by omega) hr (hf.w (by omega)) (w2_s _ _ _ _)
      · rw [run_e hc] at hr
        first | refine AW.aload_n X dX5_stepOn_0 rfl rfl ?_ | refine AW.aloadN_n X dX5_stepOn_0 rfl rfl ?_
        first | refine AW.aload_n X dX5_stepOn_1 rfl rfl ?_ | refine AW.aloadN_n X dX5_stepOn_1 rfl rfl ?_
        refine AW.getI X f_X5_207_18 (by first | assumption | exact hT _ _ rfl) dX5_stepOn_2 ?_
        rw [g26]
        refine AW.callV_r X (c_X5_byteAt hT hR (hx.sf hf.sf) (by omega)) (ci := 18) (q := (RX5, TX5, 74)) (by first | assumption | exact hT _ _ rfl) rfl s_X5_210_18 (by omega) (Nat.le_of_ble_eq_true rfl) rfl rfl (Nat.le_of_ble_eq_true rfl) dX5_stepOn_5 ?_
        refine AW.bipush X (v := 32) dX5_stepOn_8 rfl ?_
        refine AW.icmp_eq X (tgt := 26) dX5_stepOn_10 rfl ?_ ?_
        · intro t10
          exact absurd ⟨((bA_eq hb (c := 32) (by omega)).mp t10).1, decide_eq_true (Or.inl ((bA_eq hb (c := 32) (by omega)).mp t10).2)⟩ hc
        · intro f10
          first | refine AW.aload_n X dX5_stepOn_13 rfl rfl ?_ | refine AW.aloadN_n X dX5_stepOn_13 rfl rfl ?_
          first | refine AW.aload_n X dX5_stepOn_14 rfl rfl ?_ | refine AW.aloadN_n X dX5_stepOn_14 rfl rfl ?_
          refine AW.getI X f_X5_207_18 (by first | assumption | exact hT _ _ rfl) dX5_stepOn_15 ?_
          rw [g26]
          refine AW.callV_r X (c_X5_byteAt hT hR (hx.sf hf.sf) (by omega)) (ci := 18) (q := (RX5, TX5, 74)) (by first | assumption | exact hT _ _ rfl) rfl s_X5_210_18 (by omega) (Nat.le_of_ble_eq_true rfl) rfl rfl (Nat.le_of_ble_eq_true rfl) dX5_stepOn_18 ?_
          refine AW.bipush X (v := 10) dX5_stepOn_21 rfl ?_
          refine AW.icmp_ne X (tgt := 39) dX5_stepOn_23 rfl ?_ ?_
          · intro t23
            exact aft I' hf (by rw [g26, hr])
          · intro f23
            exact absurd ⟨((bA_eq hb (c := 10) (by omega)).mp f23).1, decide_eq_true (Or.inr ((bA_eq hb (c := 10) (by omega)).mp f23).2)⟩ hc
  exact lS _ i I rfl hi rfl ST.rf h26
end MT
