/-! 09a: tokens of a text, and how it is read -/
set_option maxRecDepth 100000
def isSp (x : Nat) : Bool := decide (x = 32 ∨ x = 10)
def isLe (x : Nat) : Bool := decide (97 ≤ x ∧ x ≤ 122)
def isDi (x : Nat) : Bool := decide (48 ≤ x ∧ x ≤ 57)
def rn (P : Nat → Bool) (Bt : Nat → Nat) (sz : Nat) : Nat → Nat → Nat
  | 0, i => i
  | f + 1, i => if i < sz ∧ P (Bt i) = true then rn P Bt sz f (i + 1) else i
def run (P : Nat → Bool) (Bt : Nat → Nat) (sz i : Nat) : Nat := rn P Bt sz (sz - i) i
theorem run_s {P : Nat → Bool} {Bt : Nat → Nat} {sz i : Nat} (h1 : i < sz) (h2 : P (Bt i) = true) : run P Bt sz i = run P Bt sz (i + 1) := by
  unfold run
  rw [show sz - i = (sz - (i + 1)) + 1 by omega]
  exact if_pos ⟨h1, h2⟩
theorem run_e {P : Nat → Bool} {Bt : Nat → Nat} {sz i : Nat} (h : ¬ (i < sz ∧ P (Bt i) = true)) : run P Bt sz i = i := by
  unfold run
  rcases hc : sz - i with _ | f
  · rfl
  · exact if_neg h
theorem rn_le {P : Nat → Bool} {Bt : Nat → Nat} {sz : Nat} : ∀ {f i : Nat}, i ≤ rn P Bt sz f i
  | 0, i => Nat.le_refl _
  | f + 1, i => by
    unfold rn
    by_cases h : i < sz ∧ P (Bt i) = true
    · rw [if_pos h]; exact Nat.le_trans (by omega) (rn_le (f := f) (i := i + 1))
    · rw [if_neg h]; exact Nat.le_refl _
theorem rn_sz {P : Nat → Bool} {Bt : Nat → Nat} {sz : Nat} : ∀ {f i : Nat}, i ≤ sz → rn P Bt sz f i ≤ sz
  | 0, i, h => h
  | f + 1, i, h => by
    unfold rn
    by_cases hc : i < sz ∧ P (Bt i) = true
    · rw [if_pos hc]; exact rn_sz (by omega)
    · rw [if_neg hc]; exact h
theorem run_le {P : Nat → Bool} {Bt : Nat → Nat} {sz i : Nat} : i ≤ run P Bt sz i := rn_le
theorem run_sz {P : Nat → Bool} {Bt : Nat → Nat} {sz i : Nat} (h : i ≤ sz) : run P Bt sz i ≤ sz := rn_sz h
theorem run_in {P : Nat → Bool} {Bt : Nat → Nat} {sz : Nat} : ∀ {d i k : Nat}, sz - i = d → i ≤ k → k < run P Bt sz i → k < sz ∧ P (Bt k) = true
  | 0, i, k, hd, h1, h2 => by rw [run_e (by omega)] at h2; omega
  | d + 1, i, k, hd, h1, h2 => by
    by_cases hc : i < sz ∧ P (Bt i) = true
    · rcases Nat.lt_or_eq_of_le h1 with hl | rfl
      · rw [run_s hc.1 hc.2] at h2
        exact run_in (d := d) (i := i + 1) (by omega) (by omega) h2
      · exact hc
    · rw [run_e hc] at h2; omega
theorem run_end {P : Nat → Bool} {Bt : Nat → Nat} {sz : Nat} : ∀ {d i : Nat}, sz - i = d → ¬ (run P Bt sz i < sz ∧ P (Bt (run P Bt sz i)) = true)
  | 0, i, hd => by rw [run_e (by omega)]; omega
  | d + 1, i, hd => by
    by_cases hc : i < sz ∧ P (Bt i) = true
    · rw [run_s hc.1 hc.2]; exact run_end (d := d) (by omega)
    · rw [run_e hc]; exact hc
def beg (Bt : Nat → Nat) (sz i : Nat) : Nat := run isSp Bt sz i
/-- 0 a word, 1 a number, 2 a sign, 3 what is bad, 4 the end -/
def kd (Bt : Nat → Nat) (sz i : Nat) : Nat := if sz ≤ beg Bt sz i then 4 else if isLe (Bt (beg Bt sz i)) = true then 0 else if isDi (Bt (beg Bt sz i)) = true then 1 else if Bt (beg Bt sz i) = 59 then 2 else 3
def en (Bt : Nat → Nat) (sz i : Nat) : Nat := if kd Bt sz i = 4 then beg Bt sz i else if kd Bt sz i = 0 then run isLe Bt sz (beg Bt sz i) else if kd Bt sz i = 1 then run isDi Bt sz (beg Bt sz i) else beg Bt sz i + 1
theorem kd_le {Bt : Nat → Nat} {sz i : Nat} : kd Bt sz i ≤ 4 := by
  unfold kd
  split
  · omega
  · split
    · omega
    · split
      · omega
      · split <;> omega
theorem beg_le {Bt : Nat → Nat} {sz i : Nat} : i ≤ beg Bt sz i := run_le
theorem beg_sz {Bt : Nat → Nat} {sz i : Nat} (h : i ≤ sz) : beg Bt sz i ≤ sz := run_sz h
theorem kd4 {Bt : Nat → Nat} {sz i : Nat} : kd Bt sz i = 4 ↔ sz ≤ beg Bt sz i := by
  unfold kd
  by_cases h : sz ≤ beg Bt sz i
  · rw [if_pos h]; exact ⟨fun _ => h, fun _ => rfl⟩
  · rw [if_neg h]
    constructor
    · intro hc
      split at hc
      · cases hc
      · split at hc
        · cases hc
        · split at hc <;> cases hc
    · intro hc; exact absurd hc h
theorem kd_lt {Bt : Nat → Nat} {sz i : Nat} (h : ¬ kd Bt sz i = 4) : beg Bt sz i < sz := by
  rcases Nat.lt_or_ge (beg Bt sz i) sz with hl | hl
  · exact hl
  · exact absurd (kd4.mpr hl) h
theorem kd0 {Bt : Nat → Nat} {sz i : Nat} (h : kd Bt sz i = 0) : isLe (Bt (beg Bt sz i)) = true := by
  have hl := kd_lt (by rw [h]; omega : ¬ kd Bt sz i = 4)
  unfold kd at h
  rw [if_neg (by omega)] at h
  by_cases hc : isLe (Bt (beg Bt sz i)) = true
  · exact hc
  · rw [if_neg hc] at h
    split at h
    · cases h
    · split at h <;> cases h
theorem kd1 {Bt : Nat → Nat} {sz i : Nat} (h : kd Bt sz i = 1) : isDi (Bt (beg Bt sz i)) = true := by
  have hl := kd_lt (by rw [h]; omega : ¬ kd Bt sz i = 4)
  unfold kd at h
  rw [if_neg (by omega)] at h
  by_cases hc : isLe (Bt (beg Bt sz i)) = true
  · rw [if_pos hc] at h; cases h
  · rw [if_neg hc] at h
    by_cases hd : isDi (Bt (beg Bt sz i)) = true
    · exact hd
    · rw [if_neg hd] at h
      split at h <;> cases h
theorem en_ge {Bt : Nat → Nat} {sz i : Nat} : beg Bt sz i ≤ en Bt sz i := by
  unfold en
  split
  · exact Nat.le_refl _
  · split
    · exact run_le
    · split
      · exact run_le
      · omega
theorem en_sz {Bt : Nat → Nat} {sz i : Nat} (h : i ≤ sz) : en Bt sz i ≤ sz := by
  have hb := beg_sz (Bt := Bt) h
  unfold en
  split
  · exact hb
  · rename_i h4
    have hl := kd_lt h4
    split
    · exact run_sz hb
    · split
      · exact run_sz hb
      · omega
theorem en_gt {Bt : Nat → Nat} {sz i : Nat} (h : ¬ kd Bt sz i = 4) : i < en Bt sz i := by
  have hb := beg_le (Bt := Bt) (sz := sz) (i := i)
  have hl := kd_lt h
  unfold en
  rw [if_neg h]
  split
  · rename_i h0
    rw [run_s hl (kd0 h0)]
    exact Nat.lt_of_lt_of_le (by omega) run_le
  · split
    · rename_i h1
      rw [run_s hl (kd1 h1)]
      exact Nat.lt_of_lt_of_le (by omega) run_le
    · omega
def vl (Bt : Nat → Nat) (p : Nat) : Nat → Nat
  | 0 => 0
  | k + 1 => 10 * vl Bt p k + (Bt (p + k) - 48)
theorem vl_b {Bt : Nat → Nat} {p : Nat} : ∀ {k : Nat}, (∀ j, j < k → isDi (Bt (p + j)) = true) → vl Bt p k < 10 ^ k
  | 0, _ => by unfold vl; omega
  | k + 1, h => by
    have ih := vl_b (k := k) (fun j hj => h j (by omega))
    have hd := of_decide_eq_true (h k (by omega))
    unfold vl
    rw [Nat.pow_succ]
    omega
/-- as vl, but no more than 10000 -/
def nmC (Bt : Nat → Nat) (p : Nat) : Nat → Nat
  | 0 => 0
  | k + 1 => min 10000 (10 * nmC Bt p k + Bt (p + k) - 48)
theorem nmC_b {Bt : Nat → Nat} {p : Nat} : ∀ {k : Nat}, nmC Bt p k ≤ 10000
  | 0 => by unfold nmC; omega
  | k + 1 => by unfold nmC; omega
theorem nmC_vl {Bt : Nat → Nat} {p : Nat} : ∀ {k : Nat}, k ≤ 3 → (∀ j, j < k → isDi (Bt (p + j)) = true) → nmC Bt p k = vl Bt p k
  | 0, _, _ => rfl
  | k + 1, hk, h => by
    have hv := vl_b h
    have hd := of_decide_eq_true (h k (by omega))
    have ih := nmC_vl (k := k) (by omega) (fun j hj => h j (by omega))
    have h3 : (10 : Nat) ^ (k + 1) ≤ 10 ^ 3 := Nat.pow_le_pow_right (by omega) hk
    unfold vl at hv
    unfold nmC vl
    rw [ih]
    omega
def nv (Bt : Nat → Nat) (sz i : Nat) : Nat := vl Bt (beg Bt sz i) (min 3 (en Bt sz i - beg Bt sz i))
abbrev ln (Bt : Nat → Nat) (sz i : Nat) : Prop := 3 < en Bt sz i - beg Bt sz i
theorem nv_b {Bt : Nat → Nat} {sz i : Nat} (h : kd Bt sz i = 1) : nv Bt sz i < 1000 := by
  unfold nv
  have he : en Bt sz i = run isDi Bt sz (beg Bt sz i) := by unfold en; rw [h, if_neg (by omega), if_neg (by omega), if_pos rfl]
  have hd : ∀ j, j < min 3 (en Bt sz i - beg Bt sz i) → isDi (Bt (beg Bt sz i + j)) = true := fun j hj => by
    rw [he] at hj
    exact (run_in (P := isDi) (sz := sz) (i := beg Bt sz i) (k := beg Bt sz i + j) rfl (by omega) (by omega)).2
  have h1 := vl_b hd
  have h3 : (10 : Nat) ^ (min 3 (en Bt sz i - beg Bt sz i)) ≤ 10 ^ 3 := Nat.pow_le_pow_right (by omega) (by omega)
  omega
/-- the texts of the constants at 21 .. 39 -/
def kS (a : Nat) : List Nat := if a == 21 then [59] else if a == 22 then [112, 108, 97, 105, 110] else if a == 23 then [103, 114, 101, 101, 100, 121] else if a == 24 then [108, 111, 118, 105, 110, 103] else if a == 25 then [115, 104, 121] else if a == 26 then [98, 97, 114, 103, 101] else if a == 27 then [99, 117, 116, 116, 101, 114] else if a == 28 then [115, 109, 117, 103, 103, 108, 101, 114] else if a == 29 then [112, 105, 108, 111, 116] else if a == 30 then [119, 97, 121] else if a == 31 then [109, 111, 111, 110] else if a == 32 then [99, 111, 108, 100] else if a == 33 then [104, 111, 111, 100] else if a == 34 then [112, 114, 105, 99, 101] else if a == 35 then [111, 112, 101, 110] else if a == 36 then [108, 111, 99, 107] else if a == 37 then [114, 111, 99, 107] else if a == 38 then [104, 111, 109, 101] else if a == 39 then [115, 97, 108, 116] else []
abbrev isW (Bt : Nat → Nat) (sz i : Nat) (s : List Nat) : Prop := kd Bt sz i = 0 ∧ en Bt sz i - beg Bt sz i = s.length ∧ ∀ k, k < s.length → Bt (beg Bt sz i + k) = s.getD k 0
/-- the first of the constants from c on that the word is -/
def fdW (Bt : Nat → Nat) (sz i : Nat) : Nat → Nat → Nat
  | _, 0 => 0
  | c, n + 1 => if isW Bt sz i (kS c) then c else fdW Bt sz i (c + 1) n
/-- which constant a token is; 0: none -/
def cls (Bt : Nat → Nat) (sz i : Nat) : Nat := if kd Bt sz i = 2 then 21 else fdW Bt sz i 22 18
theorem fdW_0 {Bt : Nat → Nat} {sz i : Nat} : ∀ {n c : Nat}, fdW Bt sz i c n = 0 ∨ (c ≤ fdW Bt sz i c n ∧ fdW Bt sz i c n < c + n ∧ isW Bt sz i (kS (fdW Bt sz i c n)))
  | 0, c => Or.inl rfl
  | n + 1, c => by
    unfold fdW
    by_cases h : isW Bt sz i (kS c)
    · rw [if_pos h]; exact Or.inr ⟨Nat.le_refl _, by omega, h⟩
    · rw [if_neg h]
      rcases fdW_0 (n := n) (c := c + 1) with h1 | ⟨h1, h2, h3⟩
      · exact Or.inl h1
      · exact Or.inr ⟨by omega, by omega, h3⟩
theorem fdW_no {Bt : Nat → Nat} {sz i : Nat} : ∀ {n c : Nat}, 1 ≤ c → fdW Bt sz i c n = 0 → ∀ a, c ≤ a → a < c + n → ¬ isW Bt sz i (kS a)
  | 0, c, _, _, a, h1, h2 => by omega
  | n + 1, c, hc, h, a, h1, h2 => by
    unfold fdW at h
    by_cases hw : isW Bt sz i (kS c)
    · rw [if_pos hw] at h; omega
    · rw [if_neg hw] at h
      rcases Nat.lt_or_eq_of_le h1 with hl | rfl
      · exact fdW_no (by omega) h a (by omega) (by omega)
      · exact hw
theorem isW_inj {Bt : Nat → Nat} {sz i : Nat} {s s' : List Nat} (h : isW Bt sz i s) (h' : isW Bt sz i s') : s = s' := by
  apply List.ext_getElem?
  intro k
  have hl : s.length = s'.length := h.2.1.symm.trans h'.2.1
  rcases Nat.lt_or_ge k s.length with hk | hk
  · have h1 := (h.2.2 k hk).symm.trans (h'.2.2 k (by omega))
    rw [List.getD_eq_getElem?_getD, List.getD_eq_getElem?_getD, List.getElem?_eq_getElem hk, List.getElem?_eq_getElem (by omega)] at h1
    rw [List.getElem?_eq_getElem hk, List.getElem?_eq_getElem (by omega)]
    exact congrArg some h1
  · rw [List.getElem?_eq_none hk, List.getElem?_eq_none (by omega)]
theorem kS_inj : ∀ a, a < 40 → 22 ≤ a → ∀ b, b < 40 → 22 ≤ b → kS a = kS b → a = b := by decide +kernel
theorem cls_W {Bt : Nat → Nat} {sz i c : Nat} (h1 : 22 ≤ c) (h2 : c ≤ 39) : isW Bt sz i (kS c) ↔ cls Bt sz i = c := by
  unfold cls
  by_cases hk : kd Bt sz i = 2
  · rw [if_pos hk]
    exact ⟨fun h => absurd (h.1.symm.trans hk) (by omega), fun h => by omega⟩
  · rw [if_neg hk]
    rcases fdW_0 (Bt := Bt) (sz := sz) (i := i) (n := 18) (c := 22) with h0 | ⟨g1, g2, g3⟩
    · exact ⟨fun h => absurd h (fdW_no (by omega) h0 c h1 (by omega)), fun h => by omega⟩
    · constructor
      · intro h
        exact kS_inj _ (by omega) (by omega) _ (by omega) (by omega) (isW_inj g3 h)
      · intro h
        rw [← h]; exact g3
theorem cls_21 {Bt : Nat → Nat} {sz i : Nat} : cls Bt sz i = 21 ↔ kd Bt sz i = 2 := by
  unfold cls
  by_cases hk : kd Bt sz i = 2
  · rw [if_pos hk]; exact ⟨fun _ => hk, fun _ => rfl⟩
  · rw [if_neg hk]
    rcases fdW_0 (Bt := Bt) (sz := sz) (i := i) (n := 18) (c := 22) with h0 | ⟨g1, g2, g3⟩
    · rw [h0]; exact ⟨fun h => by omega, fun h => absurd h hk⟩
    · exact ⟨fun h => by omega, fun h => absurd h hk⟩
theorem cls_r (Bt : Nat → Nat) (sz i : Nat) : cls Bt sz i = 0 ∨ (21 ≤ cls Bt sz i ∧ cls Bt sz i ≤ 39) := by
  unfold cls
  by_cases hk : kd Bt sz i = 2
  · rw [if_pos hk]; exact Or.inr (by omega)
  · rw [if_neg hk]
    rcases fdW_0 (Bt := Bt) (sz := sz) (i := i) (n := 18) (c := 22) with h0 | ⟨g1, g2, g3⟩
    · exact Or.inl h0
    · exact Or.inr (by omega)
theorem kS_len : ∀ a, a < 40 → (kS a).length ≤ 8 ∧ ∀ k, k < (kS a).length → (kS a).getD k 0 < 128 := by decide +kernel
/-! how a text is read: faults (kind, place), or what comes of it -/
abbrev Er : Type := Nat × Nat
def numF (Bt : Nat → Nat) (sz lo hi i : Nat) : Except Er (Nat × Nat) := if kd Bt sz i = 1 then (if ln Bt sz i ∨ nv Bt sz i < lo ∨ hi < nv Bt sz i then .error (2, beg Bt sz i) else .ok (nv Bt sz i, en Bt sz i)) else .error (1, beg Bt sz i)
def amF (Bt : Nat → Nat) (sz many i : Nat) : Except Er (Nat × Nat) := if kd Bt sz i = 1 then (if ln Bt sz i then .error (2, beg Bt sz i) else if many ≤ nv Bt sz i then .error (3, beg Bt sz i) else .ok (nv Bt sz i, en Bt sz i)) else .error (1, beg Bt sz i)
def semF (Bt : Nat → Nat) (sz i : Nat) : Except Er Nat := if kd Bt sz i = 2 then .ok (en Bt sz i) else .error (1, beg Bt sz i)
/-- what was read: a view, whether prices were told, hours of which the moon was told, colds of which the weight was -/
abbrev Rd : Type := KI × Bool × (Nat → Bool) × (Nat → Bool)
def addQ (V : KI) (κ : Nat) (o : Int32) (s : Nat) : KI := w2 (w2 (w2 (w2 (w2 V 305 (nQ V) (nI κ)) 306 (nQ V) o) 307 (nQ V) (nI s)) 308 (nQ V) 0) 304 0 (nI (nQ V + 1))
def addE (V : KI) (κ o q b h : Nat) : KI := w2 (w2 (w2 (w2 (w2 (w2 V 309 (nE V) (nI κ)) 310 (nE V) (nI o)) 311 (nE V) (nI q)) 312 (nE V) (nI b)) 313 (nE V) (nI h)) 304 1 (nI (nE V + 1))
def addS (V : KI) (κ q h s : Nat) : KI := w2 (w2 (w2 (w2 (w2 V 314 (nS V) (nI κ)) 315 (nS V) (nI q)) 316 (nS V) (nI h)) 317 (nS V) (nI s)) 304 2 (nI (nS V + 1))
def addH (V : KI) (e f t : Nat) : KI := w2 (w2 (w2 (w2 V 320 (nH V) (nI e)) 321 (nH V) (nI f)) 322 (nH V) (nI t)) 304 3 (nI (nH V + 1))
def addW (V : KI) (a b : Nat) : KI := w2 (w2 V 308 a (V 308 a ||| 1 <<< (nI b &&& 31))) 308 b (w2 V 308 a (V 308 a ||| 1 <<< (nI b &&& 31)) 308 b ||| 1 <<< (nI a &&& 31))
def setB (m : Nat → Bool) (h : Nat) : Nat → Bool := fun k => if k = h then true else m k
def quayF (Bt : Nat → Nat) (sz κ i : Nat) (S : Rd) : Except Er (Nat × Rd) :=
  if nQ S.1 = 8 then .error (2, beg Bt sz i) else
  Except.bind (if κ = 3 then numF Bt sz 0 1 (en Bt sz i) else .ok (0, en Bt sz i)) fun o =>
  Except.bind (if cls Bt sz o.2 = 39 then numF Bt sz 0 100 (en Bt sz o.2) else .ok (0, o.2)) fun s =>
  .ok (s.2, addQ S.1 κ (if κ = 3 then nI o.1 else -1) s.1, S.2)
def eelF (Bt : Nat → Nat) (sz κ i : Nat) (S : Rd) : Except Er (Nat × Rd) :=
  if nE S.1 = 6 then .error (2, beg Bt sz i) else
  Except.bind (numF Bt sz 0 1 (en Bt sz i)) fun o => Except.bind (amF Bt sz (nQ S.1) o.2) fun q =>
  Except.bind (numF Bt sz 1 40 q.2) fun b => Except.bind (numF Bt sz 0 20 b.2) fun h =>
  .ok (h.2, addE S.1 κ o.1 q.1 b.1 h.1, S.2)
def shipF (Bt : Nat → Nat) (sz κ i : Nat) (S : Rd) : Except Er (Nat × Rd) :=
  if nS S.1 = 4 then .error (2, beg Bt sz i) else
  Except.bind (amF Bt sz (nQ S.1) (en Bt sz i)) fun q =>
  Except.bind (numF Bt sz 0 23 q.2) fun h => Except.bind (numF Bt sz 0 40 h.2) fun s =>
  .ok (s.2, addS S.1 κ q.1 h.1 s.1, S.2)
def wayF (Bt : Nat → Nat) (sz i : Nat) (S : Rd) : Except Er (Nat × Rd) :=
  Except.bind (amF Bt sz (nQ S.1) (en Bt sz i)) fun a => Except.bind (amF Bt sz (nQ S.1) a.2) fun b =>
  if a.1 = b.1 ∨ isWy S.1 a.1 b.1 then .error (4, beg Bt sz a.2) else .ok (b.2, addW S.1 a.1 b.1, S.2)
def moonF (Bt : Nat → Nat) (sz i : Nat) (S : Rd) : Except Er (Nat × Rd) :=
  Except.bind (numF Bt sz 0 23 (en Bt sz i)) fun h => if S.2.2.1 h.1 = true then .error (4, beg Bt sz (en Bt sz i)) else
  Except.bind (numF Bt sz 0 20 h.2) fun v => .ok (v.2, w2 S.1 318 h.1 (nI v.1), S.2.1, setB S.2.2.1 h.1, S.2.2.2)
def coldF (Bt : Nat → Nat) (sz i : Nat) (S : Rd) : Except Er (Nat × Rd) :=
  Except.bind (numF Bt sz 0 9 (en Bt sz i)) fun h => if S.2.2.2 h.1 = true then .error (4, beg Bt sz (en Bt sz i)) else
  Except.bind (numF Bt sz 0 99 h.2) fun v => .ok (v.2, w2 S.1 319 h.1 (nI v.1), S.2.1, S.2.2.1, setB S.2.2.2 h.1)
def hoodF (Bt : Nat → Nat) (sz i : Nat) (S : Rd) : Except Er (Nat × Rd) :=
  if nH S.1 = 6 then .error (2, beg Bt sz i) else
  Except.bind (amF Bt sz (nE S.1) (en Bt sz i)) fun e => Except.bind (numF Bt sz 0 23 e.2) fun f =>
  Except.bind (numF Bt sz f.1 23 f.2) fun t => .ok (t.2, addH S.1 e.1 f.1 t.1, S.2)
def priceF (Bt : Nat → Nat) (sz i : Nat) (S : Rd) : Except Er (Nat × Rd) :=
  if S.2.1 = true then .error (5, beg Bt sz i) else
  Except.bind (numF Bt sz 0 99 (en Bt sz i)) fun l => Except.bind (numF Bt sz 0 99 l.2) fun b =>
  .ok (b.2, w2 (w2 S.1 304 4 (nI l.1)) 304 5 (nI b.1), true, S.2.2)
def lin0 (Bt : Nat → Nat) (sz i : Nat) (S : Rd) : Except Er (Nat × Rd) :=
  if 35 ≤ cls Bt sz i ∧ cls Bt sz i ≤ 38 then quayF Bt sz (cls Bt sz i - 35) i S
  else if 22 ≤ cls Bt sz i ∧ cls Bt sz i ≤ 25 then eelF Bt sz (cls Bt sz i - 22) i S
  else if 26 ≤ cls Bt sz i ∧ cls Bt sz i ≤ 29 then shipF Bt sz (cls Bt sz i - 26) i S
  else if cls Bt sz i = 30 then wayF Bt sz i S
  else if cls Bt sz i = 31 then moonF Bt sz i S
  else if cls Bt sz i = 32 then coldF Bt sz i S
  else if cls Bt sz i = 33 then hoodF Bt sz i S
  else if cls Bt sz i = 34 then priceF Bt sz i S
  else .error (1, beg Bt sz i)
def linF (Bt : Nat → Nat) (sz i : Nat) (S : Rd) : Except Er (Nat × Rd) := Except.bind (lin0 Bt sz i S) fun x => Except.bind (semF Bt sz x.1) fun j => .ok (j, x.2)
def parF (Bt : Nat → Nat) (sz : Nat) : Nat → Nat → Rd → Except Er KI
  | 0, _, S => .ok S.1
  | n + 1, i, S => if kd Bt sz i = 4 then .ok S.1 else Except.bind (linF Bt sz i S) fun x => parF Bt sz n x.1 x.2
