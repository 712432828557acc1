/-! 09f: the model reads a line (steps printed by src/walk.py) -/
set_option maxRecDepth 100000
set_option maxHeartbeats 4000000
def hlf (a : Nat) : Nat := if a = 304 then 6 else if a ≤ 308 then 8 else if a ≤ 313 then 6 else if a ≤ 317 then 4 else if a = 318 then 24 else if a = 319 then 10 else 6
/-- first halves, and all that is no text's own -/
def TFr (I X : KI) : Prop := (∀ a, a ≠ 200 → (a < 304 ∨ 322 < a) → X a = I a) ∧ ∀ a k, 304 ≤ a → a ≤ 322 → k < hlf a → X a k = I a k
theorem TFr.rf {I : KI} : TFr I I := ⟨fun _ _ _ => rfl, fun _ _ _ _ _ => rfl⟩
theorem TFr.w {I X : KI} {b k : Nat} {v : Int32} (h : TFr I X) (h1 : 304 ≤ b) (h2 : b ≤ 322) (hk : hlf b ≤ k) : TFr I (w2 X b k v) := by
  refine ⟨fun a a1 a2 => (w2_r (by omega)).trans (h.1 a a1 a2), fun a j a1 a2 a3 => ?_⟩
  by_cases hc : a = b
  · subst hc; rw [w2_n2 (by omega)]; exact h.2 a j a1 a2 a3
  · rw [w2_n1 hc]; exact h.2 a j a1 a2 a3
def TF (I I' : KI) : Prop := TFr I I' ∧ ∀ k, k < 26 ∨ k = 27 ∨ k = 34 ∨ 36 < k → I' 200 k = I 200 k
theorem TF.rf {I : KI} : TF I I := ⟨TFr.rf, fun _ _ => rfl⟩
theorem TFr.tr {I I1 I2 : KI} (h : TFr I I1) (h2 : TFr I1 I2) : TFr I I2 := ⟨fun a a1 a2 => (h2.1 a a1 a2).trans (h.1 a a1 a2), fun a k a1 a2 a3 => (h2.2 a k a1 a2 a3).trans (h.2 a k a1 a2 a3)⟩
theorem TF.tr {I I1 I2 : KI} (h : TF I I1) (h2 : TF I1 I2) : TF I I2 := ⟨h.1.tr h2.1, fun k hk => (h2.2 k hk).trans (h.2 k hk)⟩
theorem SF.tf {I I' : KI} (h : SF I I') : TF I I' := ⟨⟨fun a a1 _ => h.1 a a1, fun a k a1 _ _ => congrFun (h.1 a (by omega)) k⟩, fun k hk => h.2 k (by omega)⟩
/-- rows as in ch, scalars as in I -/
def Zr (I ch X : KI) : Prop := (∀ a, a ≠ 200 → X a = ch a) ∧ ∀ k, k < 26 ∨ k = 27 ∨ 33 < k → X 200 k = I 200 k
theorem Zr.rf {I : KI} : Zr I I I := ⟨fun _ _ => rfl, fun _ _ => rfl⟩
theorem Zr.sf {I ch X X' : KI} (h : Zr I ch X) (hf : SF X X') : Zr I ch X' := ⟨fun a ha => (hf.1 a ha).trans (h.1 a ha), fun k hk => (hf.2 k hk).trans (h.2 k hk)⟩
theorem Zr.w {I ch X : KI} {b k : Nat} {v : Int32} (h : Zr I ch X) (hb : b ≠ 200) : Zr I (w2 ch b k v) (w2 X b k v) := by
  refine ⟨fun a ha => ?_, fun j hj => (w2_n1 (by omega)).trans (h.2 j hj)⟩
  by_cases hc : a = b
  · subst hc; unfold w2; rw [row_s, row_s, h.1 a ha]
  · rw [w2_r hc, w2_r hc]; exact h.1 a ha
theorem Zr.tf {I ch X : KI} (h : Zr I ch X) (hc : TFr I ch) : TF I X := ⟨⟨fun a a1 a2 => (h.1 a a1).trans (hc.1 a a1 a2), fun a k a1 a2 a3 => (congrFun (h.1 a (by omega)) k).trans (hc.2 a k a1 a2 a3)⟩, fun k hk => h.2 k (by omega)⟩
theorem StM.w {Bt : Nat → Nat} {sz : Nat} {x : Except Er Nat} {I : KI} {b k : Nat} {v : Int32} (h : StM Bt sz x I) (hb : b ≠ 200) : StM Bt sz x (w2 I b k v) := by
  have e : w2 I b k v 200 = I 200 := w2_r (fun z => hb z.symm)
  rcases x with er | i
  · show w2 I b k v 200 32 = nI er.1 ∧ w2 I b k v 200 33 = nI er.2 ∧ _
    rw [e]; exact h
  · show i ≤ sz ∧ w2 I b k v 200 32 = 0 ∧ TkM Bt sz i (w2 I b k v)
    unfold TkM
    rw [e]; exact h
theorem TxM.w {Bt : Nat → Nat} {sz : Nat} {I : KI} {b k : Nat} {v : Int32} (h : TxM Bt sz I) (h1 : b ≠ 200) (h2 : b ≠ 324) : TxM Bt sz (w2 I b k v) := by
  unfold TxM
  rw [w2_r (show 200 ≠ b from fun z => h1 z.symm), w2_r (show 324 ≠ b from fun z => h2 z.symm)]; exact h
theorem SC.w {I : KI} {b k : Nat} {v : Int32} (h : SC I) (h1 : 100 ≤ b) : SC (w2 I b k v) := fun a a1 a2 => by
  rw [w2_r (by omega), w2_r (by omega)]; exact h a a1 a2
/-- the second halves hold what was read -/
def HfM (S : Rd) (I : KI) : Prop := (∀ k, k < 6 → I 304 (6 + k) = S.1 304 k) ∧
  (∀ q, q < nQ S.1 → I 305 (8 + q) = S.1 305 q ∧ I 306 (8 + q) = S.1 306 q ∧ I 307 (8 + q) = S.1 307 q ∧ I 308 (8 + q) = S.1 308 q) ∧
  (∀ e, e < nE S.1 → I 309 (6 + e) = S.1 309 e ∧ I 310 (6 + e) = S.1 310 e ∧ I 311 (6 + e) = S.1 311 e ∧ I 312 (6 + e) = S.1 312 e ∧ I 313 (6 + e) = S.1 313 e) ∧
  (∀ s, s < nS S.1 → I 314 (4 + s) = S.1 314 s ∧ I 315 (4 + s) = S.1 315 s ∧ I 316 (4 + s) = S.1 316 s ∧ I 317 (4 + s) = S.1 317 s) ∧
  (∀ h, h < 24 → I 318 (24 + h) = S.1 318 h) ∧ (∀ c, c < 10 → I 319 (10 + c) = S.1 319 c) ∧
  (∀ k, k < nH S.1 → I 320 (6 + k) = S.1 320 k ∧ I 321 (6 + k) = S.1 321 k ∧ I 322 (6 + k) = S.1 322 k) ∧
  (∀ h, h < 24 → ((I 200 35 >>> (nI h &&& 31)) &&& 1 = 1 ↔ S.2.2.1 h = true)) ∧ ∀ c, c < 10 → ((I 200 36 >>> (nI c &&& 31)) &&& 1 = 1 ↔ S.2.2.2 c = true)
theorem HfM.sf {S : Rd} {I I' : KI} (h : HfM S I) (hf : SF I I') : HfM S I' := by
  unfold HfM
  rw [hf.1 304 (by omega), hf.1 305 (by omega), hf.1 306 (by omega), hf.1 307 (by omega), hf.1 308 (by omega), hf.1 309 (by omega), hf.1 310 (by omega), hf.1 311 (by omega), hf.1 312 (by omega), hf.1 313 (by omega), hf.1 314 (by omega), hf.1 315 (by omega), hf.1 316 (by omega), hf.1 317 (by omega), hf.1 318 (by omega), hf.1 319 (by omega), hf.1 320 (by omega), hf.1 321 (by omega), hf.1 322 (by omega), hf.2 35 (by omega), hf.2 36 (by omega)]
  exact h
def LnP (Bt : Nat → Nat) (sz : Nat) (y : Except Er (Nat × Rd)) (I' : KI) : Prop := match y with
  | .ok z => StM Bt sz (.ok z.1) I' ∧ HfM z.2 I' ∧ Gd z.2.1
  | .error e => StM Bt sz (.error e) I'
theorem gsX_er {x : Except Er Nat} {f : Nat → Except Er (Nat × Nat)} {i : Nat} {e : Er} (h : x = .ok i) (hf : f i = .error e) : gsX x f = .error e := by
  rw [h]; show ((f i).bind fun v => .ok v.2) = _; rw [hf]; rfl
theorem vOf_ok {x : Except Er Nat} {f : Nat → Except Er (Nat × Nat)} {i : Nat} {v : Nat × Nat} (h : x = .ok i) (hf : f i = .ok v) : vOf (x.bind f) = nI v.1 := by
  rw [h]; show vOf (f i) = _; rw [hf]; rfl
def chE (I : KI) (n : Nat) (κ o q b h : Int32) : KI := w2 (w2 (w2 (w2 (w2 (w2 I 309 (6 + n) κ) 310 (6 + n) o) 311 (6 + n) q) 312 (6 + n) b) 313 (6 + n) h) 304 7 (nI (n + 1))
def chS (I : KI) (n : Nat) (κ q h s : Int32) : KI := w2 (w2 (w2 (w2 (w2 I 314 (4 + n) κ) 315 (4 + n) q) 316 (4 + n) h) 317 (4 + n) s) 304 8 (nI (n + 1))
def chQ (I : KI) (n : Nat) (κ o s : Int32) : KI := w2 (w2 (w2 (w2 (w2 I 305 (8 + n) κ) 306 (8 + n) o) 307 (8 + n) s) 308 (8 + n) 0) 304 6 (nI (n + 1))
def chH (I : KI) (n : Nat) (e f t : Int32) : KI := w2 (w2 (w2 (w2 I 320 (6 + n) e) 321 (6 + n) f) 322 (6 + n) t) 304 9 (nI (n + 1))
theorem HfM.inE {S : Rd} {I X : KI} {κ o q b h : Nat} (hH : HfM S I) (hg : Gd (addE S.1 κ o q b h) ∧ nQ (addE S.1 κ o q b h) = nQ S.1 ∧ nE (addE S.1 κ o q b h) = nE S.1 + 1 ∧ nS (addE S.1 κ o q b h) = nS S.1 ∧ nH (addE S.1 κ o q b h) = nH S.1) (hz : Zr I (chE I (nE S.1) (nI κ) (nI o) (nI q) (nI b) (nI h)) X) : HfM (addE S.1 κ o q b h, S.2) X := by
  obtain ⟨a1, a2, a3, a4, b1, b2, b3, b4, b5⟩ := addE_at S.1 κ o q b h
  obtain ⟨-, gQ, gE, gS, gH⟩ := hg
  obtain ⟨k1, k2, k3, k4, k5, k6, k7, k8, k9⟩ := hH
  obtain ⟨z1, z2⟩ := hz
  have r : ∀ a, a ≠ 200 → a ≠ 304 → (a < 309 ∨ 313 < a) → X a = I a := fun a q1 q2 q3 => by
    rw [z1 a q1]; unfold chE; rw [w2_r q2, w2_r (by omega), w2_r (by omega), w2_r (by omega), w2_r (by omega), w2_r (by omega)]
  have r304 : ∀ k, k ≠ 7 → X 304 k = I 304 k := fun k hk => by
    rw [z1 304 (by omega)]; unfold chE; rw [w2_n2 hk, w2_n1 (by omega), w2_n1 (by omega), w2_n1 (by omega), w2_n1 (by omega), w2_n1 (by omega)]
  refine ⟨fun k hk => ?_, fun x hx => ?_, fun e he => ?_, fun s hs => ?_, fun h' hh => ?_, fun c hc => ?_, fun k hk => ?_, ?_, ?_⟩
  · show X 304 (6 + k) = addE S.1 κ o q b h 304 k
    by_cases hk1 : k = 1
    · subst hk1; rw [a1, z1 304 (by omega)]; exact w2_s _ _ _ _
    · rw [a2 k hk1, r304 _ (by omega)]; exact k1 k hk
  · rw [show nQ (addE S.1 κ o q b h, S.2).1 = nQ S.1 from gQ] at hx
    show X 305 (8 + x) = addE S.1 κ o q b h 305 x ∧ X 306 (8 + x) = addE S.1 κ o q b h 306 x ∧ X 307 (8 + x) = addE S.1 κ o q b h 307 x ∧ X 308 (8 + x) = addE S.1 κ o q b h 308 x
    rw [a3 305 (by omega) (by omega), a3 306 (by omega) (by omega), a3 307 (by omega) (by omega), a3 308 (by omega) (by omega), r 305 (by omega) (by omega) (by omega), r 306 (by omega) (by omega) (by omega), r 307 (by omega) (by omega) (by omega), r 308 (by omega) (by omega) (by omega)]
    exact k2 x hx
  · rw [show nE (addE S.1 κ o q b h, S.2).1 = nE S.1 + 1 from gE] at he
    show X 309 (6 + e) = addE S.1 κ o q b h 309 e ∧ X 310 (6 + e) = addE S.1 κ o q b h 310 e ∧ X 311 (6 + e) = addE S.1 κ o q b h 311 e ∧ X 312 (6 + e) = addE S.1 κ o q b h 312 e ∧ X 313 (6 + e) = addE S.1 κ o q b h 313 e
    rw [z1 309 (by omega), z1 310 (by omega), z1 311 (by omega), z1 312 (by omega), z1 313 (by omega)]
    unfold chE
    by_cases hx : e = nE S.1
    · subst hx
      rw [b1, b2, b3, b4, b5]
      refine ⟨?_, ?_, ?_, ?_, ?_⟩
      · rw [w2_n1 (by omega), w2_n1 (by omega), w2_n1 (by omega), w2_n1 (by omega), w2_n1 (by omega), w2_s]
      · rw [w2_n1 (by omega), w2_n1 (by omega), w2_n1 (by omega), w2_n1 (by omega), w2_s]
      · rw [w2_n1 (by omega), w2_n1 (by omega), w2_n1 (by omega), w2_s]
      · rw [w2_n1 (by omega), w2_n1 (by omega), w2_s]
      · rw [w2_n1 (by omega), w2_s]
    · obtain ⟨r1, r2, r3, r4, r5⟩ := a4 e hx
      obtain ⟨y1, y2, y3, y4, y5⟩ := k3 e (by omega)
      rw [r1, r2, r3, r4, r5]
      refine ⟨?_, ?_, ?_, ?_, ?_⟩
      · rw [w2_n1 (by omega), w2_n1 (by omega), w2_n1 (by omega), w2_n1 (by omega), w2_n1 (by omega), w2_n2 (by omega)]; exact y1
      · rw [w2_n1 (by omega), w2_n1 (by omega), w2_n1 (by omega), w2_n1 (by omega), w2_n2 (by omega), w2_n1 (by omega)]; exact y2
      · rw [w2_n1 (by omega), w2_n1 (by omega), w2_n1 (by omega), w2_n2 (by omega), w2_n1 (by omega), w2_n1 (by omega)]; exact y3
      · rw [w2_n1 (by omega), w2_n1 (by omega), w2_n2 (by omega), w2_n1 (by omega), w2_n1 (by omega), w2_n1 (by omega)]; exact y4
      · rw [w2_n1 (by omega), w2_n2 (by omega), w2_n1 (by omega), w2_n1 (by omega), w2_n1 (by omega), w2_n1 (by omega)]; exact y5
  · rw [show nS (addE S.1 κ o q b h, S.2).1 = nS S.1 from gS] at hs
    show X 314 (4 + s) = addE S.1 κ o q b h 314 s ∧ X 315 (4 + s) = addE S.1 κ o q b h 315 s ∧ X 316 (4 + s) = addE S.1 κ o q b h 316 s ∧ X 317 (4 + s) = addE S.1 κ o q b h 317 s
    rw [a3 314 (by omega) (by omega), a3 315 (by omega) (by omega), a3 316 (by omega) (by omega), a3 317 (by omega) (by omega), r 314 (by omega) (by omega) (by omega), r 315 (by omega) (by omega) (by omega), r 316 (by omega) (by omega) (by omega), r 317 (by omega) (by omega) (by omega)]
    exact k4 s hs
  · show X 318 (24 + h') = addE S.1 κ o q b h 318 h'
    rw [a3 318 (by omega) (by omega), r 318 (by omega) (by omega) (by omega)]; exact k5 h' hh
  · show X 319 (10 + c) = addE S.1 κ o q b h 319 c
    rw [a3 319 (by omega) (by omega), r 319 (by omega) (by omega) (by omega)]; exact k6 c hc
  · rw [show nH (addE S.1 κ o q b h, S.2).1 = nH S.1 from gH] at hk
    show X 320 (6 + k) = addE S.1 κ o q b h 320 k ∧ X 321 (6 + k) = addE S.1 κ o q b h 321 k ∧ X 322 (6 + k) = addE S.1 κ o q b h 322 k
    rw [a3 320 (by omega) (by omega), a3 321 (by omega) (by omega), a3 322 (by omega) (by omega), r 320 (by omega) (by omega) (by omega), r 321 (by omega) (by omega) (by omega), r 322 (by omega) (by omega) (by omega)]
    exact k7 k hk
  · rw [z2 35 (by omega)]; exact k8
  · rw [z2 36 (by omega)]; exact k9
