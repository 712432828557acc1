/-! 10c: the reader's tokens (steps printed by src/walk.py) -/
set_option maxRecDepth 100000
set_option maxHeartbeats 4000000
theorem xT_big {a : Nat} (h : 1000 ≤ a) : xT a = none := by
  unfold xT
  rw [if_neg (by omega), if_neg (by omega)]
  repeat (rw [if_neg (fun hc => absurd (eq_of_beq hc) (by omega))])
  split <;> rfl
theorem xR_big {a k : Nat} (h : 1000 ≤ a) : xR a k = none := by
  unfold xR
  rw [if_neg (by omega), if_neg (by omega)]
  repeat (rw [if_neg (fun hc => absurd (eq_of_beq hc) (by omega))])
theorem XT.big {T T' : KT} (h : XT T) (hf : ∀ a, a < 1000 → T' a = T a) : XT T' := fun a κ hc => by
  rcases Nat.lt_or_ge a 1000 with hl | hl
  · exact (hf a hl).trans (h a κ hc)
  · rw [xT_big hl] at hc; cases hc
theorem XRf.big {R R' : KR} (h : XRf R) (hf : ∀ a, a < 1000 → R' a = R a) : XRf R' := fun a k r hc => by
  rcases Nat.lt_or_ge a 1000 with hl | hl
  · rw [hf a hl]; exact h a k r hc
  · rw [xR_big hl] at hc; cases hc
/-- the sorts of tokens are told apart -/
def ES (T : KT) : Prop := ∀ k, k < 5 → 1 < (T (10 + k)).1
def bz (Bt : Nat → Nat) (sz k : Nat) : Nat := if k < sz then Bt k else 0
def TxR (Bt : Nat → Nat) (sz : Nat) (I : KI) : Prop := sz ≤ 700 ∧ ∀ k, k < sz → I 106 k &&& 255 = nI (Bt k) ∧ Bt k < 256
theorem bz_in {Bt : Nat → Nat} {sz k : Nat} (hb : ∀ k, k < sz → Bt k < 256) {lo hi : Nat} (h1 : 1 ≤ lo) (h2 : hi < 256) (h3 : lo < 256 := by omega) : (nI lo ≤ nI (bz Bt sz k) ∧ nI (bz Bt sz k) ≤ nI hi) ↔ k < sz ∧ lo ≤ Bt k ∧ Bt k ≤ hi := by
  unfold bz
  by_cases h : k < sz
  · have := hb k h
    rw [if_pos h]
    constructor
    · intro ⟨a, b⟩; exact ⟨h, (nI_leI (by omega) (by omega)).mp a, (nI_leI (by omega) (by omega)).mp b⟩
    · intro ⟨_, a, b⟩; exact ⟨nI_le a (by omega), nI_le b (by omega)⟩
  · rw [if_neg h]
    constructor
    · intro ⟨a, b⟩
      have := (nI_leI (a := lo) (b := 0) (by omega) (by omega)).mp a
      omega
    · intro hc; exact absurd hc.1 h
theorem bz_eq {Bt : Nat → Nat} {sz k : Nat} (hb : ∀ k, k < sz → Bt k < 256) {c : Nat} (h1 : 1 ≤ c) (h2 : c < 256) : nI (bz Bt sz k) = nI c ↔ k < sz ∧ Bt k = c := by
  unfold bz
  by_cases h : k < sz
  · have := hb k h
    rw [if_pos h]
    exact ⟨fun a => ⟨h, (nI_eq (by omega) (by omega)).mp a⟩, fun a => by rw [a.2]⟩
  · rw [if_neg h]
    exact ⟨fun a => by have := (nI_eq (a := 0) (b := c) (by omega) (by omega)).mp a; omega, fun a => absurd a.1 h⟩
/-- the letters of a word, nine at most -/
def wdL (Bt : Nat → Nat) (sz i : Nat) : List Nat := (List.range (min 9 (en Bt sz i - beg Bt sz i))).map fun k => Bt (beg Bt sz i + k)
theorem wdL_len {Bt : Nat → Nat} {sz i : Nat} : (wdL Bt sz i).length = min 9 (en Bt sz i - beg Bt sz i) := by
  unfold wdL; rw [List.length_map, List.length_range]
theorem wdL_get {Bt : Nat → Nat} {sz i k : Nat} (h : k < min 9 (en Bt sz i - beg Bt sz i)) : (wdL Bt sz i).getD k 0 = Bt (beg Bt sz i + k) := by
  unfold wdL
  rw [List.getD_eq_getElem?_getD, List.getElem?_map, List.getElem?_range h]
  rfl
theorem wdL_cls {Bt : Nat → Nat} {sz i c : Nat} (h0 : kd Bt sz i = 0) (h1 : 21 ≤ c) (h2 : c ≤ 39) : wdL Bt sz i = kS c ↔ cls Bt sz i = c := by
  have hlt := kd_lt (Bt := Bt) (sz := sz) (i := i) (by omega)
  have hle := kd0 h0
  have hen : beg Bt sz i + 1 ≤ en Bt sz i := by
    unfold en
    rw [if_neg (by omega), if_pos h0, run_s hlt hle]
    exact run_le
  rcases Nat.lt_or_eq_of_le h1 with h3 | rfl
  · rw [← cls_W (by omega) h2]
    have hkl := (kS_len c (by omega)).1
    constructor
    · intro h
      have hl := congrArg List.length h
      rw [wdL_len] at hl
      exact ⟨h0, by omega, fun k hk => by rw [← h, wdL_get (by omega)]⟩
    · intro h
      have e1 := h.2.1
      refine list_ext (by rw [wdL_len]; omega) (fun k hk => ?_)
      rw [wdL_len] at hk
      rw [wdL_get hk]
      exact h.2.2 k (by omega)
  · rw [cls_21]
    constructor
    · intro h
      have e : (wdL Bt sz i).getD 0 0 = (kS 21).getD 0 0 := by rw [h]
      rw [wdL_get (by omega)] at e
      have hx := of_decide_eq_true hle
      have e2 : (kS 21).getD 0 0 = 59 := by decide
      rw [e2, Nat.add_zero] at e
      omega
    · intro h; omega
/-- the reader's own cells alone -/
def RF (rd : Nat) (I I' : KI) : Prop := (∀ a, a ≠ rd → I' a = I a) ∧ ∀ k, k < 2 ∨ 7 < k → I' rd k = I rd k
theorem RF.rf {rd : Nat} {I : KI} : RF rd I I := ⟨fun _ _ => rfl, fun _ _ => rfl⟩
theorem RF.w {rd : Nat} {I I' : KI} {k : Nat} {v : Int32} (h : RF rd I I') (hk : 2 ≤ k ∧ k ≤ 7) : RF rd I (w2 I' rd k v) := ⟨fun a ha => (w2_r ha).trans (h.1 a ha), fun j hj => (w2_n2 (by omega)).trans (h.2 j hj)⟩
/-- what a step of the reader changes: its own cells, and four fresh ones -/
def GF (B rd : Nat) (T : KT) (I : KI) (R : KR) (T' : KT) (I' : KI) (R' : KR) : Prop := (∀ a, a < B ∨ B + 4 ≤ a → T' a = T a) ∧ (∀ a, a < B → a ≠ rd → I' a = I a ∧ R' a = R a) ∧ ∀ k, k < 2 ∨ 7 < k → I' rd k = I rd k ∧ R' rd k = R rd k
def RdK (rd sz : Nat) (T : KT) (I : KI) (R : KR) : Prop := T rd = (104, 0) ∧ R rd 0 = some 106 ∧ I rd 1 = nI sz ∧ 1000 ≤ rd
def TkR (Bt : Nat → Nat) (sz i rd : Nat) (T : KT) (I : KI) (R : KR) : Prop := I rd 2 = nI (en Bt sz i) ∧ I rd 3 = nI (beg Bt sz i) ∧ R rd 6 = some (10 + kd Bt sz i) ∧ (kd Bt sz i = 1 → I rd 5 = bI (ln Bt sz i) ∧ I rd 4 = nI (nv Bt sz i)) ∧ (kd Bt sz i = 0 → ∃ w, R rd 7 = some w ∧ StrP w (wdL Bt sz i) T I R) ∧ (kd Bt sz i = 2 → R rd 7 = some 21)
theorem GF.one {B rd : Nat} {T : KT} {I I' : KI} {R : KR} {x y : Option Nat} (hf : RF rd I I') : GF B rd T I R T I' (w2 (w2 R rd 7 x) rd 6 y) :=
  ⟨fun _ _ => rfl, fun a _ ha => ⟨hf.1 a ha, by rw [w2_r ha, w2_r ha]⟩, fun k hk => ⟨hf.2 k hk, by rw [w2_n2 (by omega), w2_n2 (by omega)]⟩⟩
theorem GF.two {B rd : Nat} {T : KT} {I I' : KI} {R : KR} {x y z : Option Nat} (hf : RF rd I I') : GF B rd T I R T I' (w2 (w2 (w2 R rd 7 x) rd 6 y) rd 7 z) :=
  ⟨fun _ _ => rfl, fun a _ ha => ⟨hf.1 a ha, by rw [w2_r ha, w2_r ha, w2_r ha]⟩, fun k hk => ⟨hf.2 k hk, by rw [w2_n2 (by omega), w2_n2 (by omega), w2_n2 (by omega)]⟩⟩
section RG
variable {T : KT} {I : KI} {R : KR} {J : KJ} {Bt : Nat → Nat} {sz : Nat}
theorem c_X6_byteAt {rd k : Nat} (hT : XT T) (hK : RdK rd sz T I R) (hx : TxR Bt sz I) (hk : k ≤ 701) : MX6_byteAt 0 0 [.ref rd, .int (nI k)] T I R J (qR (some (.int (nI (bz Bt sz k)))) T I R J) noX := by
  obtain ⟨hrd, h0, h1, -⟩ := hK
  obtain ⟨hsz, h3⟩ := hx
  refine AMet.of (by decide) (Nat.le_of_ble_eq_true rfl) (cats1 rfl) fun cx X E => ?_
  show AW _ _ _ (_ :: _ :: []) _ _ _ _ _
  by_cases hc : k < sz
  · rw [show bz Bt sz k = Bt k from if_pos hc] at E
    refine AW.iload_n X dX6_byteAt_0 rfl rfl ?_
    first | refine AW.aload_n X dX6_byteAt_1 rfl rfl ?_ | refine AW.aloadN_n X dX6_byteAt_1 rfl rfl ?_
    refine AW.getI X f_X6_28_4 (by first | assumption | exact hT _ _ rfl) dX6_byteAt_2 ?_
    rw [h1]
    refine AW.icmp_ge X (tgt := 21) dX6_byteAt_5 rfl ?_ ?_
    · intro t5
      exact absurd t5 (nI_ge (by omega) (by omega))
    · intro f5
      first | refine AW.aload_n X dX6_byteAt_8 rfl rfl ?_ | refine AW.aloadN_n X dX6_byteAt_8 rfl rfl ?_
      refine AW.getR X f_X6_24_4 (by first | assumption | exact hT _ _ rfl) (by first | assumption | exact hR _ _ _ rfl) dX6_byteAt_9 ?_
      refine AW.iload_n X dX6_byteAt_12 rfl rfl ?_
      first | refine AW.bald X (j := k) (by first | assumption | exact hT _ _ rfl) (by repeat (first | with_reducible exact rfl | assumption | exact ix_l _ | apply ix_add | apply ix_mul)) (by omega) dX6_byteAt_13 ?_ | refine AW.zald X (j := k) (by first | assumption | exact hT _ _ rfl) (by repeat (first | with_reducible exact rfl | assumption | exact ix_l _ | apply ix_add | apply ix_mul)) (by omega) dX6_byteAt_13 ?_
      refine AW.sipush X (v := 255) dX6_byteAt_14 rfl ?_
      refine AW.iand X dX6_byteAt_17 ?_
      rw [(h3 k hc).1]
      refine AW.goto X (tgt := 22) dX6_byteAt_18 rfl ?_
      exact AW.ireturn X E ⟨rfl, rfl, rfl, rfl, rfl⟩ dX6_byteAt_22 
  · rw [show bz Bt sz k = 0 from if_neg hc] at E
    refine AW.iload_n X dX6_byteAt_0 rfl rfl ?_
    first | refine AW.aload_n X dX6_byteAt_1 rfl rfl ?_ | refine AW.aloadN_n X dX6_byteAt_1 rfl rfl ?_
    refine AW.getI X f_X6_28_4 (by first | assumption | exact hT _ _ rfl) dX6_byteAt_2 ?_
    rw [h1]
    refine AW.icmp_ge X (tgt := 21) dX6_byteAt_5 rfl ?_ ?_
    · intro t5
      refine AW.iconst X (v := 0) dX6_byteAt_21 rfl ?_
      exact AW.ireturn X E ⟨rfl, rfl, rfl, rfl, rfl⟩ dX6_byteAt_22 
    · intro f5
      exact absurd (nI_le (by omega) (by omega)) f5
theorem c_X6_isLetter (v : Int32) : MX6_isLetter 0 0 [.int v] T I R J (qR (some (.int (bI (97 ≤ v ∧ v ≤ 122)))) T I R J) noX := by
  refine AMet.of (by decide) (Nat.le_of_ble_eq_true rfl) (cats1 rfl) fun cx X E => ?_
  show AW _ _ _ (_ :: []) _ _ _ _ _
  refine AW.iload_n X dX6_isLetter_0 rfl rfl ?_
  refine AW.bipush X (v := 97) dX6_isLetter_1 rfl ?_
  refine AW.icmp_lt X (tgt := 16) dX6_isLetter_3 rfl ?_ ?_
  · intro t3
    rw [bI_f (fun hc => absurd hc.1 (Int32.not_le.mpr t3))] at E
    refine AW.iconst X (v := 0) dX6_isLetter_16 rfl ?_
    exact AW.ireturn X E ⟨rfl, rfl, rfl, rfl, rfl⟩ dX6_isLetter_17 (hnar := by first | rfl | (unfold bI; split <;> rfl))
  · intro f3
    refine AW.iload_n X dX6_isLetter_6 rfl rfl ?_
    refine AW.bipush X (v := 122) dX6_isLetter_7 rfl ?_
    refine AW.icmp_gt X (tgt := 16) dX6_isLetter_9 rfl ?_ ?_
    · intro t9
      rw [bI_f (fun hc => absurd hc.2 (Int32.not_le.mpr t9))] at E
      refine AW.iconst X (v := 0) dX6_isLetter_16 rfl ?_
      exact AW.ireturn X E ⟨rfl, rfl, rfl, rfl, rfl⟩ dX6_isLetter_17 (hnar := by first | rfl | (unfold bI; split <;> rfl))
    · intro f9
      rw [bI_t (show (97 : Int32) ≤ v ∧ v ≤ 122 from ⟨Int32.not_lt.mp f3, Int32.not_lt.mp f9⟩)] at E
      refine AW.iconst X (v := 1) dX6_isLetter_12 rfl ?_
      refine AW.goto X (tgt := 17) dX6_isLetter_13 rfl ?_
      exact AW.ireturn X E ⟨rfl, rfl, rfl, rfl, rfl⟩ dX6_isLetter_17 (hnar := by first | rfl | (unfold bI; split <;> rfl))
theorem c_X6_isDigit (v : Int32) : MX6_isDigit 0 0 [.int v] T I R J (qR (some (.int (bI (48 ≤ v ∧ v ≤ 57)))) T I R J) noX := by
  refine AMet.of (by decide) (Nat.le_of_ble_eq_true rfl) (cats1 rfl) fun cx X E => ?_
  show AW _ _ _ (_ :: []) _ _ _ _ _
  refine AW.iload_n X dX6_isDigit_0 rfl rfl ?_
  refine AW.bipush X (v := 48) dX6_isDigit_1 rfl ?_
  refine AW.icmp_lt X (tgt := 16) dX6_isDigit_3 rfl ?_ ?_
  · intro t3
    rw [bI_f (fun hc => absurd hc.1 (Int32.not_le.mpr t3))] at E
    refine AW.iconst X (v := 0) dX6_isDigit_16 rfl ?_
    exact AW.ireturn X E ⟨rfl, rfl, rfl, rfl, rfl⟩ dX6_isDigit_17 (hnar := by first | rfl | (unfold bI; split <;> rfl))
  · intro f3
    refine AW.iload_n X dX6_isDigit_6 rfl rfl ?_
    refine AW.bipush X (v := 57) dX6_isDigit_7 rfl ?_
    refine AW.icmp_gt X (tgt := 16) dX6_isDigit_9 rfl ?_ ?_
    · intro t9
      rw [bI_f (fun hc => absurd hc.2 (Int32.not_le.mpr t9))] at E
      refine AW.iconst X (v := 0) dX6_isDigit_16 rfl ?_
      exact AW.ireturn X E ⟨rfl, rfl, rfl, rfl, rfl⟩ dX6_isDigit_17 (hnar := by first | rfl | (unfold bI; split <;> rfl))
    · intro f9
      rw [bI_t (show (48 : Int32) ≤ v ∧ v ≤ 57 from ⟨Int32.not_lt.mp f3, Int32.not_lt.mp f9⟩)] at E
      refine AW.iconst X (v := 1) dX6_isDigit_12 rfl ?_
      refine AW.goto X (tgt := 17) dX6_isDigit_13 rfl ?_
      exact AW.ireturn X E ⟨rfl, rfl, rfl, rfl, rfl⟩ dX6_isDigit_17 (hnar := by first | rfl | (unfold bI; split <;> rfl))
theorem RdK.rf {rd sz : Nat} {T : KT} {I I' : KI} {R R' : KR} (h : RdK rd sz T I R) (hf : RF rd I I') (hR : R' rd 0 = R rd 0) : RdK rd sz T I' R' := ⟨h.1, hR.trans h.2.1, (hf.2 1 (by omega)).trans h.2.2.1, h.2.2.2⟩
theorem TxR.rf {rd : Nat} {I I' : KI} (h : TxR Bt sz I) (h1 : 1000 ≤ rd) (hf : RF rd I I') : TxR Bt sz I' := ⟨h.1, by rw [hf.1 106 (by omega)]; exact h.2⟩
end RG
