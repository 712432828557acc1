/-! 09g: the model reads eels, ships, hoods (written by src/gen09g.py and src/walk.py) -/
set_option maxRecDepth 100000
set_option maxHeartbeats 4000000
theorem HfM.inS {S : Rd} {I X : KI} {κ q h s : Nat} (hH : HfM S I) (hg : Gd (addS S.1 κ q h s) ∧ nQ (addS S.1 κ q h s) = nQ S.1 ∧ nE (addS S.1 κ q h s) = nE S.1 ∧ nS (addS S.1 κ q h s) = nS S.1 + 1 ∧ nH (addS S.1 κ q h s) = nH S.1) (hz : Zr I (chS I (nS S.1) (nI κ) (nI q) (nI h) (nI s)) X) : HfM (addS S.1 κ q h s, S.2) X := by
  obtain ⟨a1, a2, a3, a4, b0, b1, b2, b3⟩ := addS_at S.1 κ q h s
  obtain ⟨-, gQ, gE, gS, gH⟩ := hg
  obtain ⟨k1, k2, k3, k4, k5, k6, k7, k8, k9⟩ := hH
  obtain ⟨z1, z2⟩ := hz
  have r : ∀ a, a ≠ 200 → a ≠ 304 → (a < 314 ∨ 317 < a) → X a = I a := fun a q1 q2 q3 => by
    rw [z1 a q1]; unfold chS; rw [w2_r q2, w2_r (by omega), w2_r (by omega), w2_r (by omega), w2_r (by omega)]
  have r304 : ∀ k, k ≠ 8 → X 304 k = I 304 k := fun k hk => by
    rw [z1 304 (by omega)]; unfold chS; rw [w2_n2 hk, w2_n1 (by omega), w2_n1 (by omega), w2_n1 (by omega), w2_n1 (by omega)]
  refine ⟨fun k hk => ?_, fun xq hx => ?_, fun xe he => ?_, fun xs hs => ?_, fun h' hh => ?_, fun c hc => ?_, fun xk hk => ?_, ?_, ?_⟩
  · show X 304 (6 + k) = addS S.1 κ q h s 304 k
    by_cases hk1 : k = 2
    · subst hk1; rw [a1, z1 304 (by omega)]; exact w2_s _ _ _ _
    · rw [a2 k hk1, r304 _ (by omega)]; exact k1 k hk
  · rw [show nQ (addS S.1 κ q h s, S.2).1 = nQ S.1 from gQ] at hx
    show X 305 (8 + xq) = addS S.1 κ q h s 305 xq ∧ X 306 (8 + xq) = addS S.1 κ q h s 306 xq ∧ X 307 (8 + xq) = addS S.1 κ q h s 307 xq ∧ X 308 (8 + xq) = addS S.1 κ q h s 308 xq
    rw [a3 305 (by omega) (by omega), a3 306 (by omega) (by omega), a3 307 (by omega) (by omega), a3 308 (by omega) (by omega), r 305 (by omega) (by omega) (by omega), r 306 (by omega) (by omega) (by omega), r 307 (by omega) (by omega) (by omega), r 308 (by omega) (by omega) (by omega)]
    exact k2 xq hx
  · rw [show nE (addS S.1 κ q h s, S.2).1 = nE S.1 from gE] at he
    show X 309 (6 + xe) = addS S.1 κ q h s 309 xe ∧ X 310 (6 + xe) = addS S.1 κ q h s 310 xe ∧ X 311 (6 + xe) = addS S.1 κ q h s 311 xe ∧ X 312 (6 + xe) = addS S.1 κ q h s 312 xe ∧ X 313 (6 + xe) = addS S.1 κ q h s 313 xe
    rw [a3 309 (by omega) (by omega), a3 310 (by omega) (by omega), a3 311 (by omega) (by omega), a3 312 (by omega) (by omega), a3 313 (by omega) (by omega), r 309 (by omega) (by omega) (by omega), r 310 (by omega) (by omega) (by omega), r 311 (by omega) (by omega) (by omega), r 312 (by omega) (by omega) (by omega), r 313 (by omega) (by omega) (by omega)]
    exact k3 xe he
  · rw [show nS (addS S.1 κ q h s, S.2).1 = nS S.1 + 1 from gS] at hs
    show X 314 (4 + xs) = addS S.1 κ q h s 314 xs ∧ X 315 (4 + xs) = addS S.1 κ q h s 315 xs ∧ X 316 (4 + xs) = addS S.1 κ q h s 316 xs ∧ X 317 (4 + xs) = addS S.1 κ q h s 317 xs
    rw [z1 314 (by omega), z1 315 (by omega), z1 316 (by omega), z1 317 (by omega)]
    unfold chS
    by_cases hx' : xs = nS S.1
    · subst hx'
      rw [b0, b1, b2, b3]
      refine ⟨?_, ?_, ?_, ?_⟩
      · rw [w2_n1 (by omega), w2_n1 (by omega), w2_n1 (by omega), w2_n1 (by omega), w2_s]
      · rw [w2_n1 (by omega), w2_n1 (by omega), w2_n1 (by omega), w2_s]
      · rw [w2_n1 (by omega), w2_n1 (by omega), w2_s]
      · rw [w2_n1 (by omega), w2_s]
    · obtain ⟨r0, r1, r2, r3⟩ := a4 xs hx'
      obtain ⟨y0, y1, y2, y3⟩ := k4 xs (by omega)
      rw [r0, r1, r2, r3]
      refine ⟨?_, ?_, ?_, ?_⟩
      · rw [w2_n1 (by omega), w2_n1 (by omega), w2_n1 (by omega), w2_n1 (by omega), w2_n2 (by omega)]; exact y0
      · rw [w2_n1 (by omega), w2_n1 (by omega), w2_n1 (by omega), w2_n2 (by omega), w2_n1 (by omega)]; exact y1
      · rw [w2_n1 (by omega), w2_n1 (by omega), w2_n2 (by omega), w2_n1 (by omega), w2_n1 (by omega)]; exact y2
      · rw [w2_n1 (by omega), w2_n2 (by omega), w2_n1 (by omega), w2_n1 (by omega), w2_n1 (by omega)]; exact y3
  · show X 318 (24 + h') = addS S.1 κ q h s 318 h'
    rw [a3 318 (by omega) (by omega), r 318 (by omega) (by omega) (by omega)]; exact k5 h' hh
  · show X 319 (10 + c) = addS S.1 κ q h s 319 c
    rw [a3 319 (by omega) (by omega), r 319 (by omega) (by omega) (by omega)]; exact k6 c hc
  · rw [show nH (addS S.1 κ q h s, S.2).1 = nH S.1 from gH] at hk
    show X 320 (6 + xk) = addS S.1 κ q h s 320 xk ∧ X 321 (6 + xk) = addS S.1 κ q h s 321 xk ∧ X 322 (6 + xk) = addS S.1 κ q h s 322 xk
    rw [a3 320 (by omega) (by omega), a3 321 (by omega) (by omega), a3 322 (by omega) (by omega), r 320 (by omega) (by omega) (by omega), r 321 (by omega) (by omega) (by omega), r 322 (by omega) (by omega) (by omega)]
    exact k7 xk hk
  · rw [z2 35 (by omega)]; exact k8
  · rw [z2 36 (by omega)]; exact k9
theorem HfM.inH {S : Rd} {I X : KI} {e f t : Nat} (hH : HfM S I) (hg : Gd (addH S.1 e f t) ∧ nQ (addH S.1 e f t) = nQ S.1 ∧ nE (addH S.1 e f t) = nE S.1 ∧ nS (addH S.1 e f t) = nS S.1 ∧ nH (addH S.1 e f t) = nH S.1 + 1) (hz : Zr I (chH I (nH S.1) (nI e) (nI f) (nI t)) X) : HfM (addH S.1 e f t, S.2) X := by
  obtain ⟨a1, a2, a3, a4, b0, b1, b2⟩ := addH_at S.1 e f t
  obtain ⟨-, gQ, gE, gS, gH⟩ := hg
  obtain ⟨k1, k2, k3, k4, k5, k6, k7, k8, k9⟩ := hH
  obtain ⟨z1, z2⟩ := hz
  have r : ∀ a, a ≠ 200 → a ≠ 304 → (a < 320 ∨ 322 < a) → X a = I a := fun a q1 q2 q3 => by
    rw [z1 a q1]; unfold chH; rw [w2_r q2, w2_r (by omega), w2_r (by omega), w2_r (by omega)]
  have r304 : ∀ k, k ≠ 9 → X 304 k = I 304 k := fun k hk => by
    rw [z1 304 (by omega)]; unfold chH; rw [w2_n2 hk, w2_n1 (by omega), w2_n1 (by omega), w2_n1 (by omega)]
  refine ⟨fun k hk => ?_, fun xq hx => ?_, fun xe he => ?_, fun xs hs => ?_, fun h' hh => ?_, fun c hc => ?_, fun xk hk => ?_, ?_, ?_⟩
  · show X 304 (6 + k) = addH S.1 e f t 304 k
    by_cases hk1 : k = 3
    · subst hk1; rw [a1, z1 304 (by omega)]; exact w2_s _ _ _ _
    · rw [a2 k hk1, r304 _ (by omega)]; exact k1 k hk
  · rw [show nQ (addH S.1 e f t, S.2).1 = nQ S.1 from gQ] at hx
    show X 305 (8 + xq) = addH S.1 e f t 305 xq ∧ X 306 (8 + xq) = addH S.1 e f t 306 xq ∧ X 307 (8 + xq) = addH S.1 e f t 307 xq ∧ X 308 (8 + xq) = addH S.1 e f t 308 xq
    rw [a3 305 (by omega) (by omega), a3 306 (by omega) (by omega), a3 307 (by omega) (by omega), a3 308 (by omega) (by omega), r 305 (by omega) (by omega) (by omega), r 306 (by omega) (by omega) (by omega), r 307 (by omega) (by omega) (by omega), r 308 (by omega) (by omega) (by omega)]
    exact k2 xq hx
  · rw [show nE (addH S.1 e f t, S.2).1 = nE S.1 from gE] at he
    show X 309 (6 + xe) = addH S.1 e f t 309 xe ∧ X 310 (6 + xe) = addH S.1 e f t 310 xe ∧ X 311 (6 + xe) = addH S.1 e f t 311 xe ∧ X 312 (6 + xe) = addH S.1 e f t 312 xe ∧ X 313 (6 + xe) = addH S.1 e f t 313 xe
    rw [a3 309 (by omega) (by omega), a3 310 (by omega) (by omega), a3 311 (by omega) (by omega), a3 312 (by omega) (by omega), a3 313 (by omega) (by omega), r 309 (by omega) (by omega) (by omega), r 310 (by omega) (by omega) (by omega), r 311 (by omega) (by omega) (by omega), r 312 (by omega) (by omega) (by omega), r 313 (by omega) (by omega) (by omega)]
    exact k3 xe he
  · rw [show nS (addH S.1 e f t, S.2).1 = nS S.1 from gS] at hs
    show X 314 (4 + xs) = addH S.1 e f t 314 xs ∧ X 315 (4 + xs) = addH S.1 e f t 315 xs ∧ X 316 (4 + xs) = addH S.1 e f t 316 xs ∧ X 317 (4 + xs) = addH S.1 e f t 317 xs
    rw [a3 314 (by omega) (by omega), a3 315 (by omega) (by omega), a3 316 (by omega) (by omega), a3 317 (by omega) (by omega), r 314 (by omega) (by omega) (by omega), r 315 (by omega) (by omega) (by omega), r 316 (by omega) (by omega) (by omega), r 317 (by omega) (by omega) (by omega)]
    exact k4 xs hs
  · show X 318 (24 + h') = addH S.1 e f t 318 h'
    rw [a3 318 (by omega) (by omega), r 318 (by omega) (by omega) (by omega)]; exact k5 h' hh
  · show X 319 (10 + c) = addH S.1 e f t 319 c
    rw [a3 319 (by omega) (by omega), r 319 (by omega) (by omega) (by omega)]; exact k6 c hc
  · rw [show nH (addH S.1 e f t, S.2).1 = nH S.1 + 1 from gH] at hk
    show X 320 (6 + xk) = addH S.1 e f t 320 xk ∧ X 321 (6 + xk) = addH S.1 e f t 321 xk ∧ X 322 (6 + xk) = addH S.1 e f t 322 xk
    rw [z1 320 (by omega), z1 321 (by omega), z1 322 (by omega)]
    unfold chH
    by_cases hx' : xk = nH S.1
    · subst hx'
      rw [b0, b1, b2]
      refine ⟨?_, ?_, ?_⟩
      · rw [w2_n1 (by omega), w2_n1 (by omega), w2_n1 (by omega), w2_s]
      · rw [w2_n1 (by omega), w2_n1 (by omega), w2_s]
      · rw [w2_n1 (by omega), w2_s]
    · obtain ⟨r0, r1, r2⟩ := a4 xk hx'
      obtain ⟨y0, y1, y2⟩ := k7 xk (by omega)
      rw [r0, r1, r2]
      refine ⟨?_, ?_, ?_⟩
      · rw [w2_n1 (by omega), w2_n1 (by omega), w2_n1 (by omega), w2_n2 (by omega)]; exact y0
      · rw [w2_n1 (by omega), w2_n1 (by omega), w2_n2 (by omega), w2_n1 (by omega)]; exact y1
      · rw [w2_n1 (by omega), w2_n2 (by omega), w2_n1 (by omega), w2_n1 (by omega)]; exact y2
  · rw [z2 35 (by omega)]; exact k8
  · rw [z2 36 (by omega)]; exact k9
theorem HfM.inQ {S : Rd} {I X : KI} {κ s : Nat} {o : Int32} (hH : HfM S I) (hg : Gd (addQ S.1 κ o s) ∧ nQ (addQ S.1 κ o s) = nQ S.1 + 1 ∧ nE (addQ S.1 κ o s) = nE S.1 ∧ nS (addQ S.1 κ o s) = nS S.1 ∧ nH (addQ S.1 κ o s) = nH S.1) (hz : Zr I (chQ I (nQ S.1) (nI κ) o (nI s)) X) : HfM (addQ S.1 κ o s, S.2) X := by
  obtain ⟨a1, a2, a3, a4, b0, b1, b2, b3⟩ := addQ_at S.1 κ o s
  obtain ⟨-, gQ, gE, gS, gH⟩ := hg
  obtain ⟨k1, k2, k3, k4, k5, k6, k7, k8, k9⟩ := hH
  obtain ⟨z1, z2⟩ := hz
  have r : ∀ a, a ≠ 200 → a ≠ 304 → (a < 305 ∨ 308 < a) → X a = I a := fun a q1 q2 q3 => by
    rw [z1 a q1]; unfold chQ; rw [w2_r q2, w2_r (by omega), w2_r (by omega), w2_r (by omega), w2_r (by omega)]
  have r304 : ∀ k, k ≠ 6 → X 304 k = I 304 k := fun k hk => by
    rw [z1 304 (by omega)]; unfold chQ; rw [w2_n2 hk, w2_n1 (by omega), w2_n1 (by omega), w2_n1 (by omega), w2_n1 (by omega)]
  refine ⟨fun k hk => ?_, fun xq hx => ?_, fun xe he => ?_, fun xs hs => ?_, fun h' hh => ?_, fun c hc => ?_, fun xk hk => ?_, ?_, ?_⟩
  · show X 304 (6 + k) = addQ S.1 κ o s 304 k
    by_cases hk1 : k = 0
    · subst hk1; rw [a1, z1 304 (by omega)]; exact w2_s _ _ _ _
    · rw [a2 k hk1, r304 _ (by omega)]; exact k1 k hk
  · rw [show nQ (addQ S.1 κ o s, S.2).1 = nQ S.1 + 1 from gQ] at hx
    show X 305 (8 + xq) = addQ S.1 κ o s 305 xq ∧ X 306 (8 + xq) = addQ S.1 κ o s 306 xq ∧ X 307 (8 + xq) = addQ S.1 κ o s 307 xq ∧ X 308 (8 + xq) = addQ S.1 κ o s 308 xq
    rw [z1 305 (by omega), z1 306 (by omega), z1 307 (by omega), z1 308 (by omega)]
    unfold chQ
    by_cases hx' : xq = nQ S.1
    · subst hx'
      rw [b0, b1, b2, b3]
      refine ⟨?_, ?_, ?_, ?_⟩
      · rw [w2_n1 (by omega), w2_n1 (by omega), w2_n1 (by omega), w2_n1 (by omega), w2_s]
      · rw [w2_n1 (by omega), w2_n1 (by omega), w2_n1 (by omega), w2_s]
      · rw [w2_n1 (by omega), w2_n1 (by omega), w2_s]
      · rw [w2_n1 (by omega), w2_s]
    · obtain ⟨r0, r1, r2, r3⟩ := a4 xq hx'
      obtain ⟨y0, y1, y2, y3⟩ := k2 xq (by omega)
      rw [r0, r1, r2, r3]
      refine ⟨?_, ?_, ?_, ?_⟩
      · rw [w2_n1 (by omega), w2_n1 (by omega), w2_n1 (by omega), w2_n1 (by omega), w2_n2 (by omega)]; exact y0
      · rw [w2_n1 (by omega), w2_n1 (by omega), w2_n1 (by omega), w2_n2 (by omega), w2_n1 (by omega)]; exact y1
      · rw [w2_n1 (by omega), w2_n1 (by omega), w2_n2 (by omega), w2_n1 (by omega), w2_n1 (by omega)]; exact y2
      · rw [w2_n1 (by omega), w2_n2 (by omega), w2_n1 (by omega), w2_n1 (by omega), w2_n1 (by omega)]; exact y3
  · rw [show nE (addQ S.1 κ o s, S.2).1 = nE S.1 from gE] at he
    show X 309 (6 + xe) = addQ S.1 κ o s 309 xe ∧ X 310 (6 + xe) = addQ S.1 κ o s 310 xe ∧ X 311 (6 + xe) = addQ S.1 κ o s 311 xe ∧ X 312 (6 + xe) = addQ S.1 κ o s 312 xe ∧ X 313 (6 + xe) = addQ S.1 κ o s 313 xe
    rw [a3 309 (by omega) (by omega) (by omega) (by omega) (by omega), a3 310 (by omega) (by omega) (by omega) (by omega) (by omega), a3 311 (by omega) (by omega) (by omega) (by omega) (by omega), a3 312 (by omega) (by omega) (by omega) (by omega) (by omega), a3 313 (by omega) (by omega) (by omega) (by omega) (by omega), r 309 (by omega) (by omega) (by omega), r 310 (by omega) (by omega) (by omega), r 311 (by omega) (by omega) (by omega), r 312 (by omega) (by omega) (by omega), r 313 (by omega) (by omega) (by omega)]
    exact k3 xe he
  · rw [show nS (addQ S.1 κ o s, S.2).1 = nS S.1 from gS] at hs
    show X 314 (4 + xs) = addQ S.1 κ o s 314 xs ∧ X 315 (4 + xs) = addQ S.1 κ o s 315 xs ∧ X 316 (4 + xs) = addQ S.1 κ o s 316 xs ∧ X 317 (4 + xs) = addQ S.1 κ o s 317 xs
    rw [a3 314 (by omega) (by omega) (by omega) (by omega) (by omega), a3 315 (by omega) (by omega) (by omega) (by omega) (by omega), a3 316 (by omega) (by omega) (by omega) (by omega) (by omega), a3 317 (by omega) (by omega) (by omega) (by omega) (by omega), r 314 (by omega) (by omega) (by omega), r 315 (by omega) (by omega) (by omega), r 316 (by omega) (by omega) (by omega), r 317 (by omega) (by omega) (by omega)]
    exact k4 xs hs
  · show X 318 (24 + h') = addQ S.1 κ o s 318 h'
    rw [a3 318 (by omega) (by omega) (by omega) (by omega) (by omega), r 318 (by omega) (by omega) (by omega)]; exact k5 h' hh
  · show X 319 (10 + c) = addQ S.1 κ o s 319 c
    rw [a3 319 (by omega) (by omega) (by omega) (by omega) (by omega), r 319 (by omega) (by omega) (by omega)]; exact k6 c hc
  · rw [show nH (addQ S.1 κ o s, S.2).1 = nH S.1 from gH] at hk
    show X 320 (6 + xk) = addQ S.1 κ o s 320 xk ∧ X 321 (6 + xk) = addQ S.1 κ o s 321 xk ∧ X 322 (6 + xk) = addQ S.1 κ o s 322 xk
    rw [a3 320 (by omega) (by omega) (by omega) (by omega) (by omega), a3 321 (by omega) (by omega) (by omega) (by omega) (by omega), a3 322 (by omega) (by omega) (by omega) (by omega) (by omega), r 320 (by omega) (by omega) (by omega), r 321 (by omega) (by omega) (by omega), r 322 (by omega) (by omega) (by omega)]
    exact k7 xk hk
  · rw [z2 35 (by omega)]; exact k8
  · rw [z2 36 (by omega)]; exact k9
def vN : Except Er (Nat × Nat) → Nat
  | .ok v => v.1
  | .error _ => 0
theorem vOf_N (x : Except Er (Nat × Nat)) : vOf x = nI (vN x) := by
  rcases x with e | v <;> rfl
theorem vN_b {Bt : Nat → Nat} {sz lo hi : Nat} {x : Except Er Nat} (hh : hi < 1000) : vN (x.bind (numF Bt sz lo hi)) < 1000 := by
  rcases x with e | i
  · show 0 < 1000; omega
  · show vN (numF Bt sz lo hi i) < 1000
    rcases hn : numF Bt sz lo hi i with e | v
    · show 0 < 1000; omega
    · have := (numF_en hn).2.2
      show v.1 < 1000; omega
section MLG
variable {T : KT} {I : KI} {R : KR} {J : KJ} {Bt : Nat → Nat} {sz : Nat}
theorem c_X5_readNumberV {x : Except Er Nat} {lo hi : Nat} {v : Int32} (hv : v = nI lo) (hT : XT T) (hR : XRf R) (hX : TxM Bt sz I) (hx : StM Bt sz x I) (hlo : lo < 1000) (hhi : hi < 1000) : MX5_readNumber 2 0 [.ref 200, .int v, .int (nI hi)] T I R J (qI (fun r I' => r = some (.int (vOf (x.bind (numF Bt sz lo hi)))) ∧ SF I I' ∧ StM Bt sz (gsX x (numF Bt sz lo hi)) I') T R J) noX := by
  rw [hv]; exact c_X5_readNumber hT hR hX hx hlo hhi
theorem c_X5_readEel {κ i : Nat} {S : Rd} (hT : XT T) (hR : XRf R) (hX : TxM Bt sz I) (hx : StM Bt sz (.ok i) I) (hH : HfM S I) (hg : Gd S.1) (hκ : κ < 4) : MX5_readEel 4 0 [.ref 200, .int (nI κ)] T I R J (qI (fun r I' => r = none ∧ TF I I' ∧ LnP Bt sz (eelF Bt sz κ i S) I') T R J) noX := by
  have hN := hg.1
  obtain ⟨⟨n1, n2, n3, n4, hnq, hne, hns, hnh⟩, -⟩ := id hN
  have mT : I 304 (6 + 1) = nI (nE S.1) := (hH.1 1 (by omega)).trans n2
  have m6 : I 304 (6 + 0) = nI (nQ S.1) := (hH.1 0 (by omega)).trans n1
  have m7 : I 304 (6 + 1) = nI (nE S.1) := (hH.1 1 (by omega)).trans n2
  refine AMet.of (by decide) (Nat.le_of_ble_eq_true rfl) (cats1 rfl) fun cx X E => ?_
  show AW _ _ _ (_ :: _ :: _ :: []) _ _ _ _ _
  by_cases h6 : nE S.1 = 6
  · have ho : opX Bt sz (.ok i) (nE S.1) 6 = .error (2, beg Bt sz i) := if_pos h6
    have hl : eelF Bt sz κ i S = .error (2, beg Bt sz i) := if_pos h6
    first | refine AW.aload_n X dX5_readEel_0 rfl rfl ?_ | refine AW.aloadN_n X dX5_readEel_0 rfl rfl ?_
    refine AW.iconst X (v := 1) dX5_readEel_1 rfl ?_
    refine AW.bipush X (v := 6) dX5_readEel_2 rfl ?_
    refine AW.callV_i X (c_X5_open (w := 1) (m := nE S.1) (most := 6) hT hR hX hx (by omega) mT (by omega) (by omega)) (ci := 18) (q := (RX5, TX5, 74)) (by first | assumption | exact hT _ _ rfl) rfl s_X5_270_18 (by omega) (Nat.le_of_ble_eq_true rfl) rfl rfl (Nat.le_of_ble_eq_true rfl) dX5_readEel_4 ?_
    intro r4 I4 h4
    rw [ho] at h4
    obtain ⟨rfl, q1, q2⟩ := h4
    refine AW.if_ne X (tgt := 11) dX5_readEel_7 rfl ?_ ?_
    · intro t7
      exact absurd rfl t7
    · intro f7
      refine AW.vreturn X E ?_ dX5_readEel_10
      exact ⟨rfl, rfl, rfl, rfl, q1.tf, by rw [hl]; exact q2⟩
  · have ho : opX Bt sz (.ok i) (nE S.1) 6 = .ok (en Bt sz i) := if_neg h6
    have hl : eelF Bt sz κ i S = Except.bind (numF Bt sz 0 1 (en Bt sz i)) fun o => Except.bind (amF Bt sz (nQ S.1) o.2) fun q => Except.bind (numF Bt sz 1 40 q.2) fun b => Except.bind (numF Bt sz 0 20 b.2) fun h => .ok (h.2, addE S.1 κ o.1 q.1 b.1 h.1, S.2) := if_neg h6
    first | refine AW.aload_n X dX5_readEel_0 rfl rfl ?_ | refine AW.aloadN_n X dX5_readEel_0 rfl rfl ?_
    refine AW.iconst X (v := 1) dX5_readEel_1 rfl ?_
    refine AW.bipush X (v := 6) dX5_readEel_2 rfl ?_
    refine AW.callV_i X (c_X5_open (w := 1) (m := nE S.1) (most := 6) hT hR hX hx (by omega) mT (by omega) (by omega)) (ci := 18) (q := (RX5, TX5, 74)) (by first | assumption | exact hT _ _ rfl) rfl s_X5_270_18 (by omega) (Nat.le_of_ble_eq_true rfl) rfl rfl (Nat.le_of_ble_eq_true rfl) dX5_readEel_4 ?_
    intro r4 I4 h4
    rw [ho] at h4
    obtain ⟨rfl, q1, q2⟩ := h4
    have z0 := Zr.rf.sf q1
    have X0 := hX.sf q1
    have s0 := q2
    refine AW.if_ne X (tgt := 11) dX5_readEel_7 rfl ?_ ?_
    · intro t7
      refine AW.bipush X (v := 6) dX5_readEel_11 rfl ?_
      first | refine AW.aload_n X dX5_readEel_13 rfl rfl ?_ | refine AW.aloadN_n X dX5_readEel_13 rfl rfl ?_
      refine AW.getR X f_X5_45_18 (by first | assumption | exact hT _ _ rfl) (by first | assumption | exact hR _ _ _ rfl) dX5_readEel_14 ?_
      refine AW.bipush X (v := 7) dX5_readEel_17 rfl ?_
      refine AW.iald X (j := 7) (by first | assumption | exact hT _ _ rfl) (by repeat (first | with_reducible exact rfl | assumption | exact ix_l _ | apply ix_add | apply ix_mul)) (by omega) dX5_readEel_19 ?_
      rw [q1.1 304 (by omega), show I 304 7 = nI (nE S.1) from mT]
      refine AW.iadd X dX5_readEel_20 ?_
      rw [show (6 : Int32) + nI (nE S.1) = nI (6 + nE S.1) from nI_add 6 _]
      refine AW.istore2 X dX5_readEel_21 ?_
      first | refine AW.aload_n X dX5_readEel_22 rfl rfl ?_ | refine AW.aloadN_n X dX5_readEel_22 rfl rfl ?_
      refine AW.getR X f_X5_61_18 (by first | assumption | exact hT _ _ rfl) (by first | assumption | exact hR _ _ _ rfl) dX5_readEel_23 ?_
      refine AW.iload_n X dX5_readEel_26 rfl rfl ?_
      refine AW.iload_n X dX5_readEel_27 rfl rfl ?_
      refine AW.iast X (j := 6 + nE S.1) (by omega) (by first | assumption | exact hT _ _ rfl) (by repeat (first | with_reducible exact rfl | assumption | exact ix_l _ | apply ix_add | apply ix_mul)) (by omega) dX5_readEel_28 ?_
      have z1 := z0.w (b := 309) (k := 6 + nE S.1) (v := nI κ) (by omega)
      have X1 := X0.w (b := 309) (k := 6 + nE S.1) (v := nI κ) (by omega) (by omega)
      have s1 := s0.w (b := 309) (k := 6 + nE S.1) (v := nI κ) (by omega)
      first | refine AW.aload_n X dX5_readEel_29 rfl rfl ?_ | refine AW.aloadN_n X dX5_readEel_29 rfl rfl ?_
      refine AW.getR X f_X5_64_18 (by first | assumption | exact hT _ _ rfl) (by first | assumption | exact hR _ _ _ rfl) dX5_readEel_30 ?_
      refine AW.iload_n X dX5_readEel_33 rfl rfl ?_
      first | refine AW.aload_n X dX5_readEel_34 rfl rfl ?_ | refine AW.aloadN_n X dX5_readEel_34 rfl rfl ?_
      refine AW.iconst X (v := 0) dX5_readEel_35 rfl ?_
      refine AW.iconst X (v := 1) dX5_readEel_36 rfl ?_
      refine AW.callV_i X (c_X5_readNumber (lo := 0) (hi := 1) hT hR X1 s1 (by omega) (by omega)) (ci := 18) (q := (RX5, TX5, 74)) (by first | assumption | exact hT _ _ rfl) rfl s_X5_273_18 (by omega) (Nat.le_of_ble_eq_true rfl) rfl rfl (Nat.le_of_ble_eq_true rfl) dX5_readEel_37 ?_
      intro r37 I37 h37
      obtain ⟨rfl, u0, t0⟩ := h37
      have z2 := (z1.sf u0).w (b := 310) (k := 6 + nE S.1) (v := vOf ((Except.ok (en Bt sz i)).bind (numF Bt sz 0 1))) (by omega)
      have X2 := (X1.sf u0).w (b := 310) (k := 6 + nE S.1) (v := vOf ((Except.ok (en Bt sz i)).bind (numF Bt sz 0 1))) (by omega) (by omega)
      have s2 := t0.w (b := 310) (k := 6 + nE S.1) (v := vOf ((Except.ok (en Bt sz i)).bind (numF Bt sz 0 1))) (by omega)
      refine AW.iast X (j := 6 + nE S.1) (by omega) (by first | assumption | exact hT _ _ rfl) (by repeat (first | with_reducible exact rfl | assumption | exact ix_l _ | apply ix_add | apply ix_mul)) (by omega) dX5_readEel_40 ?_
      first | refine AW.aload_n X dX5_readEel_41 rfl rfl ?_ | refine AW.aloadN_n X dX5_readEel_41 rfl rfl ?_
      refine AW.getR X f_X5_67_18 (by first | assumption | exact hT _ _ rfl) (by first | assumption | exact hR _ _ _ rfl) dX5_readEel_42 ?_
      refine AW.iload_n X dX5_readEel_45 rfl rfl ?_
      first | refine AW.aload_n X dX5_readEel_46 rfl rfl ?_ | refine AW.aloadN_n X dX5_readEel_46 rfl rfl ?_
      refine AW.iconst X (v := 0) dX5_readEel_47 rfl ?_
      refine AW.callV_i X (c_X5_readOne (w := 0) (m := nQ S.1) hT hR X2 s2 (by omega) (by rw [z2.1 304 (by omega), w2_n1 (by omega), w2_n1 (by omega)]; exact m6) (by omega)) (ci := 18) (q := (RX5, TX5, 74)) (by first | assumption | exact hT _ _ rfl) rfl s_X5_280_18 (by omega) (Nat.le_of_ble_eq_true rfl) rfl rfl (Nat.le_of_ble_eq_true rfl) dX5_readEel_48 ?_
      intro r48 I48 h48
      obtain ⟨rfl, u1, t1⟩ := h48
      have z3 := (z2.sf u1).w (b := 311) (k := 6 + nE S.1) (v := vOf ((gsX (Except.ok (en Bt sz i)) (numF Bt sz 0 1)).bind (amF Bt sz (nQ S.1)))) (by omega)
      have X3 := (X2.sf u1).w (b := 311) (k := 6 + nE S.1) (v := vOf ((gsX (Except.ok (en Bt sz i)) (numF Bt sz 0 1)).bind (amF Bt sz (nQ S.1)))) (by omega) (by omega)
      have s3 := t1.w (b := 311) (k := 6 + nE S.1) (v := vOf ((gsX (Except.ok (en Bt sz i)) (numF Bt sz 0 1)).bind (amF Bt sz (nQ S.1)))) (by omega)
      refine AW.iast X (j := 6 + nE S.1) (by omega) (by first | assumption | exact hT _ _ rfl) (by repeat (first | with_reducible exact rfl | assumption | exact ix_l _ | apply ix_add | apply ix_mul)) (by omega) dX5_readEel_51 ?_
      first | refine AW.aload_n X dX5_readEel_52 rfl rfl ?_ | refine AW.aloadN_n X dX5_readEel_52 rfl rfl ?_
      refine AW.getR X f_X5_70_18 (by first | assumption | exact hT _ _ rfl) (by first | assumption | exact hR _ _ _ rfl) dX5_readEel_53 ?_
      refine AW.iload_n X dX5_readEel_56 rfl rfl ?_
      first | refine AW.aload_n X dX5_readEel_57 rfl rfl ?_ | refine AW.aloadN_n X dX5_readEel_57 rfl rfl ?_
      refine AW.iconst X (v := 1) dX5_readEel_58 rfl ?_
      refine AW.bipush X (v := 40) dX5_readEel_59 rfl ?_
      refine AW.callV_i X (c_X5_readNumber (lo := 1) (hi := 40) hT hR X3 s3 (by omega) (by omega)) (ci := 18) (q := (RX5, TX5, 74)) (by first | assumption | exact hT _ _ rfl) rfl s_X5_273_18 (by omega) (Nat.le_of_ble_eq_true rfl) rfl rfl (Nat.le_of_ble_eq_true rfl) dX5_readEel_61 ?_
      intro r61 I61 h61
      obtain ⟨rfl, u2, t2⟩ := h61
      have z4 := (z3.sf u2).w (b := 312) (k := 6 + nE S.1) (v := vOf ((gsX (gsX (Except.ok (en Bt sz i)) (numF Bt sz 0 1)) (amF Bt sz (nQ S.1))).bind (numF Bt sz 1 40))) (by omega)
      have X4 := (X3.sf u2).w (b := 312) (k := 6 + nE S.1) (v := vOf ((gsX (gsX (Except.ok (en Bt sz i)) (numF Bt sz 0 1)) (amF Bt sz (nQ S.1))).bind (numF Bt sz 1 40))) (by omega) (by omega)
      have s4 := t2.w (b := 312) (k := 6 + nE S.1) (v := vOf ((gsX (gsX (Except.ok (en Bt sz i)) (numF Bt sz 0 1)) (amF Bt sz (nQ S.1))).bind (numF Bt sz 1 40))) (by omega)
      refine AW.iast X (j := 6 + nE S.1) (by omega) (by first | assumption | exact hT _ _ rfl) (by repeat (first | with_reducible exact rfl | assumption | exact ix_l _ | apply ix_add | apply ix_mul)) (by omega) dX5_readEel_64 ?_
      first | refine AW.aload_n X dX5_readEel_65 rfl rfl ?_ | refine AW.aloadN_n X dX5_readEel_65 rfl rfl ?_
      refine AW.getR X f_X5_73_18 (by first | assumption | exact hT _ _ rfl) (by first | assumption | exact hR _ _ _ rfl) dX5_readEel_66 ?_
      refine AW.iload_n X dX5_readEel_69 rfl rfl ?_
      first | refine AW.aload_n X dX5_readEel_70 rfl rfl ?_ | refine AW.aloadN_n X dX5_readEel_70 rfl rfl ?_
      refine AW.iconst X (v := 0) dX5_readEel_71 rfl ?_
      refine AW.bipush X (v := 20) dX5_readEel_72 rfl ?_
      refine AW.callV_i X (c_X5_readNumber (lo := 0) (hi := 20) hT hR X4 s4 (by omega) (by omega)) (ci := 18) (q := (RX5, TX5, 74)) (by first | assumption | exact hT _ _ rfl) rfl s_X5_273_18 (by omega) (Nat.le_of_ble_eq_true rfl) rfl rfl (Nat.le_of_ble_eq_true rfl) dX5_readEel_74 ?_
      intro r74 I74 h74
      obtain ⟨rfl, u3, t3⟩ := h74
      have z5 := (z4.sf u3).w (b := 313) (k := 6 + nE S.1) (v := vOf ((gsX (gsX (gsX (Except.ok (en Bt sz i)) (numF Bt sz 0 1)) (amF Bt sz (nQ S.1))) (numF Bt sz 1 40)).bind (numF Bt sz 0 20))) (by omega)
      have X5 := (X4.sf u3).w (b := 313) (k := 6 + nE S.1) (v := vOf ((gsX (gsX (gsX (Except.ok (en Bt sz i)) (numF Bt sz 0 1)) (amF Bt sz (nQ S.1))) (numF Bt sz 1 40)).bind (numF Bt sz 0 20))) (by omega) (by omega)
      have s5 := t3.w (b := 313) (k := 6 + nE S.1) (v := vOf ((gsX (gsX (gsX (Except.ok (en Bt sz i)) (numF Bt sz 0 1)) (amF Bt sz (nQ S.1))) (numF Bt sz 1 40)).bind (numF Bt sz 0 20))) (by omega)
      refine AW.iast X (j := 6 + nE S.1) (by omega) (by first | assumption | exact hT _ _ rfl) (by repeat (first | with_reducible exact rfl | assumption | exact ix_l _ | apply ix_add | apply ix_mul)) (by omega) dX5_readEel_77 ?_
      first | refine AW.aload_n X dX5_readEel_78 rfl rfl ?_ | refine AW.aloadN_n X dX5_readEel_78 rfl rfl ?_
      refine AW.getR X f_X5_45_18 (by first | assumption | exact hT _ _ rfl) (by first | assumption | exact hR _ _ _ rfl) dX5_readEel_79 ?_
      refine AW.bipush X (v := 7) dX5_readEel_82 rfl ?_
      refine AW.dup2 X dX5_readEel_84 rfl rfl ?_
      refine AW.iald X (j := 7) (by first | assumption | exact hT _ _ rfl) (by repeat (first | with_reducible exact rfl | assumption | exact ix_l _ | apply ix_add | apply ix_mul)) (by omega) dX5_readEel_85 ?_
      rw [z5.1 304 (by omega), w2_n1 (by omega), w2_n1 (by omega), w2_n1 (by omega), w2_n1 (by omega), w2_n1 (by omega), show I 304 7 = nI (nE S.1) from mT]
      refine AW.iconst X (v := 1) dX5_readEel_86 rfl ?_
      refine AW.iadd X dX5_readEel_87 ?_
      rw [nI_1]
      refine AW.iast X (j := 7) (by omega) (by first | assumption | exact hT _ _ rfl) (by repeat (first | with_reducible exact rfl | assumption | exact ix_l _ | apply ix_add | apply ix_mul)) (by omega) dX5_readEel_88 ?_
      refine AW.vreturn X E ?_ dX5_readEel_89
      have z7 := z5.w (b := 304) (k := 7) (v := nI (nE S.1 + 1)) (by omega)
      have y3 := s5.w (b := 304) (k := 7) (v := nI (nE S.1 + 1)) (by omega)
      refine ⟨rfl, rfl, rfl, rfl, z7.tf ((((((TFr.rf.w (by omega) (by omega) (by show 6 ≤ _; omega)).w (by omega) (by omega) (by show 6 ≤ _; omega)).w (by omega) (by omega) (by show 6 ≤ _; omega)).w (by omega) (by omega) (by show 6 ≤ _; omega)).w (by omega) (by omega) (by show 6 ≤ _; omega)).w (by omega) (by omega) (by show 6 ≤ 7; omega)), ?_⟩
      rw [hl]
      rcases e1 : numF Bt sz 0 1 (en Bt sz i) with er | o
      · have gX : (gsX (gsX (gsX (gsX (Except.ok (en Bt sz i)) (numF Bt sz 0 1)) (amF Bt sz (nQ S.1))) (numF Bt sz 1 40)) (numF Bt sz 0 20)) = .error er := by rw [gsX_er rfl e1]; rfl
        rw [gX] at y3; exact y3
      have c1 := gsX_ok (x := (Except.ok (en Bt sz i))) (f := numF Bt sz 0 1) rfl e1
      show LnP Bt sz (Except.bind (amF Bt sz (nQ S.1) o.2) _) _
      rcases e2 : amF Bt sz (nQ S.1) o.2 with er | q
      · have gX : (gsX (gsX (gsX (gsX (Except.ok (en Bt sz i)) (numF Bt sz 0 1)) (amF Bt sz (nQ S.1))) (numF Bt sz 1 40)) (numF Bt sz 0 20)) = .error er := by rw [gsX_er c1 e2]; rfl
        rw [gX] at y3; exact y3
      have c2 := gsX_ok (x := (gsX (Except.ok (en Bt sz i)) (numF Bt sz 0 1))) (f := amF Bt sz (nQ S.1)) c1 e2
      show LnP Bt sz (Except.bind (numF Bt sz 1 40 q.2) _) _
      rcases e3 : numF Bt sz 1 40 q.2 with er | b
      · have gX : (gsX (gsX (gsX (gsX (Except.ok (en Bt sz i)) (numF Bt sz 0 1)) (amF Bt sz (nQ S.1))) (numF Bt sz 1 40)) (numF Bt sz 0 20)) = .error er := by rw [gsX_er c2 e3]; rfl
        rw [gX] at y3; exact y3
      have c3 := gsX_ok (x := (gsX (gsX (Except.ok (en Bt sz i)) (numF Bt sz 0 1)) (amF Bt sz (nQ S.1)))) (f := numF Bt sz 1 40) c2 e3
      show LnP Bt sz (Except.bind (numF Bt sz 0 20 b.2) _) _
      rcases e4 : numF Bt sz 0 20 b.2 with er | h
      · have gX : (gsX (gsX (gsX (gsX (Except.ok (en Bt sz i)) (numF Bt sz 0 1)) (amF Bt sz (nQ S.1))) (numF Bt sz 1 40)) (numF Bt sz 0 20)) = .error er := by rw [gsX_er c3 e4]
        rw [gX] at y3; exact y3
      have c4 := gsX_ok (x := (gsX (gsX (gsX (Except.ok (en Bt sz i)) (numF Bt sz 0 1)) (amF Bt sz (nQ S.1))) (numF Bt sz 1 40))) (f := numF Bt sz 0 20) c3 e4
      rw [c4] at y3
      have hv0 := vOf_ok (x := (Except.ok (en Bt sz i))) (f := numF Bt sz 0 1) rfl e1
      have hv1 := vOf_ok (x := (gsX (Except.ok (en Bt sz i)) (numF Bt sz 0 1))) (f := amF Bt sz (nQ S.1)) c1 e2
      have hv2 := vOf_ok (x := (gsX (gsX (Except.ok (en Bt sz i)) (numF Bt sz 0 1)) (amF Bt sz (nQ S.1)))) (f := numF Bt sz 1 40) c2 e3
      have hv3 := vOf_ok (x := (gsX (gsX (gsX (Except.ok (en Bt sz i)) (numF Bt sz 0 1)) (amF Bt sz (nQ S.1))) (numF Bt sz 1 40))) (f := numF Bt sz 0 20) c3 e4
      have gg := hg.inE (κ := κ) (o := o.1) (q := q.1) (b := b.1) (h := h.1) (by omega) hκ (numF_en e1).2.2 (amF_en e2).2.1 (numF_en e3).2 (numF_en e4).2.2
      refine ⟨y3, hH.inE gg ?_, gg.1⟩
      unfold chE
      rw [← hv0, ← hv1, ← hv2, ← hv3]
      exact z7
    · intro f7
      exact absurd f7 (by decide)
theorem c_X5_readShip {κ i : Nat} {S : Rd} (hT : XT T) (hR : XRf R) (hX : TxM Bt sz I) (hx : StM Bt sz (.ok i) I) (hH : HfM S I) (hg : Gd S.1) (hκ : κ < 4) : MX5_readShip 4 0 [.ref 200, .int (nI κ)] T I R J (qI (fun r I' => r = none ∧ TF I I' ∧ LnP Bt sz (shipF Bt sz κ i S) I') T R J) noX := by
  have hN := hg.1
  obtain ⟨⟨n1, n2, n3, n4, hnq, hne, hns, hnh⟩, -⟩ := id hN
  have mT : I 304 (6 + 2) = nI (nS S.1) := (hH.1 2 (by omega)).trans n3
  have m6 : I 304 (6 + 0) = nI (nQ S.1) := (hH.1 0 (by omega)).trans n1
  have m7 : I 304 (6 + 1) = nI (nE S.1) := (hH.1 1 (by omega)).trans n2
  refine AMet.of (by decide) (Nat.le_of_ble_eq_true rfl) (cats1 rfl) fun cx X E => ?_
  show AW _ _ _ (_ :: _ :: _ :: []) _ _ _ _ _
  by_cases h6 : nS S.1 = 4
  · have ho : opX Bt sz (.ok i) (nS S.1) 4 = .error (2, beg Bt sz i) := if_pos h6
    have hl : shipF Bt sz κ i S = .error (2, beg Bt sz i) := if_pos h6
    first | refine AW.aload_n X dX5_readShip_0 rfl rfl ?_ | refine AW.aloadN_n X dX5_readShip_0 rfl rfl ?_
    refine AW.iconst X (v := 2) dX5_readShip_1 rfl ?_
    refine AW.iconst X (v := 4) dX5_readShip_2 rfl ?_
    refine AW.callV_i X (c_X5_open (w := 2) (m := nS S.1) (most := 4) hT hR hX hx (by omega) mT (by omega) (by omega)) (ci := 18) (q := (RX5, TX5, 74)) (by first | assumption | exact hT _ _ rfl) rfl s_X5_270_18 (by omega) (Nat.le_of_ble_eq_true rfl) rfl rfl (Nat.le_of_ble_eq_true rfl) dX5_readShip_3 ?_
    intro r3 I3 h3
    rw [ho] at h3
    obtain ⟨rfl, q1, q2⟩ := h3
    refine AW.if_ne X (tgt := 10) dX5_readShip_6 rfl ?_ ?_
    · intro t6
      exact absurd rfl t6
    · intro f6
      refine AW.vreturn X E ?_ dX5_readShip_9
      exact ⟨rfl, rfl, rfl, rfl, q1.tf, by rw [hl]; exact q2⟩
  · have ho : opX Bt sz (.ok i) (nS S.1) 4 = .ok (en Bt sz i) := if_neg h6
    have hl : shipF Bt sz κ i S = Except.bind (amF Bt sz (nQ S.1) (en Bt sz i)) fun q => Except.bind (numF Bt sz 0 23 q.2) fun h => Except.bind (numF Bt sz 0 40 h.2) fun s => .ok (s.2, addS S.1 κ q.1 h.1 s.1, S.2) := if_neg h6
    first | refine AW.aload_n X dX5_readShip_0 rfl rfl ?_ | refine AW.aloadN_n X dX5_readShip_0 rfl rfl ?_
    refine AW.iconst X (v := 2) dX5_readShip_1 rfl ?_
    refine AW.iconst X (v := 4) dX5_readShip_2 rfl ?_
    refine AW.callV_i X (c_X5_open (w := 2) (m := nS S.1) (most := 4) hT hR hX hx (by omega) mT (by omega) (by omega)) (ci := 18) (q := (RX5, TX5, 74)) (by first | assumption | exact hT _ _ rfl) rfl s_X5_270_18 (by omega) (Nat.le_of_ble_eq_true rfl) rfl rfl (Nat.le_of_ble_eq_true rfl) dX5_readShip_3 ?_
    intro r3 I3 h3
    rw [ho] at h3
    obtain ⟨rfl, q1, q2⟩ := h3
    have z0 := Zr.rf.sf q1
    have X0 := hX.sf q1
    have s0 := q2
    refine AW.if_ne X (tgt := 10) dX5_readShip_6 rfl ?_ ?_
    · intro t6
      refine AW.iconst X (v := 4) dX5_readShip_10 rfl ?_
      first | refine AW.aload_n X dX5_readShip_11 rfl rfl ?_ | refine AW.aloadN_n X dX5_readShip_11 rfl rfl ?_
      refine AW.getR X f_X5_45_18 (by first | assumption | exact hT _ _ rfl) (by first | assumption | exact hR _ _ _ rfl) dX5_readShip_12 ?_
      refine AW.bipush X (v := 8) dX5_readShip_15 rfl ?_
      refine AW.iald X (j := 8) (by first | assumption | exact hT _ _ rfl) (by repeat (first | with_reducible exact rfl | assumption | exact ix_l _ | apply ix_add | apply ix_mul)) (by omega) dX5_readShip_17 ?_
      rw [q1.1 304 (by omega), show I 304 8 = nI (nS S.1) from mT]
      refine AW.iadd X dX5_readShip_18 ?_
      rw [show (4 : Int32) + nI (nS S.1) = nI (4 + nS S.1) from nI_add 4 _]
      refine AW.istore2 X dX5_readShip_19 ?_
      first | refine AW.aload_n X dX5_readShip_20 rfl rfl ?_ | refine AW.aloadN_n X dX5_readShip_20 rfl rfl ?_
      refine AW.getR X f_X5_76_18 (by first | assumption | exact hT _ _ rfl) (by first | assumption | exact hR _ _ _ rfl) dX5_readShip_21 ?_
      refine AW.iload_n X dX5_readShip_24 rfl rfl ?_
      refine AW.iload_n X dX5_readShip_25 rfl rfl ?_
      refine AW.iast X (j := 4 + nS S.1) (by omega) (by first | assumption | exact hT _ _ rfl) (by repeat (first | with_reducible exact rfl | assumption | exact ix_l _ | apply ix_add | apply ix_mul)) (by omega) dX5_readShip_26 ?_
      have z1 := z0.w (b := 314) (k := 4 + nS S.1) (v := nI κ) (by omega)
      have X1 := X0.w (b := 314) (k := 4 + nS S.1) (v := nI κ) (by omega) (by omega)
      have s1 := s0.w (b := 314) (k := 4 + nS S.1) (v := nI κ) (by omega)
      first | refine AW.aload_n X dX5_readShip_27 rfl rfl ?_ | refine AW.aloadN_n X dX5_readShip_27 rfl rfl ?_
      refine AW.getR X f_X5_79_18 (by first | assumption | exact hT _ _ rfl) (by first | assumption | exact hR _ _ _ rfl) dX5_readShip_28 ?_
      refine AW.iload_n X dX5_readShip_31 rfl rfl ?_
      first | refine AW.aload_n X dX5_readShip_32 rfl rfl ?_ | refine AW.aloadN_n X dX5_readShip_32 rfl rfl ?_
      refine AW.iconst X (v := 0) dX5_readShip_33 rfl ?_
      refine AW.callV_i X (c_X5_readOne (w := 0) (m := nQ S.1) hT hR X1 s1 (by omega) (by rw [z1.1 304 (by omega), w2_n1 (by omega)]; exact m6) (by omega)) (ci := 18) (q := (RX5, TX5, 74)) (by first | assumption | exact hT _ _ rfl) rfl s_X5_280_18 (by omega) (Nat.le_of_ble_eq_true rfl) rfl rfl (Nat.le_of_ble_eq_true rfl) dX5_readShip_34 ?_
      intro r34 I34 h34
      obtain ⟨rfl, u0, t0⟩ := h34
      have z2 := (z1.sf u0).w (b := 315) (k := 4 + nS S.1) (v := vOf ((Except.ok (en Bt sz i)).bind (amF Bt sz (nQ S.1)))) (by omega)
      have X2 := (X1.sf u0).w (b := 315) (k := 4 + nS S.1) (v := vOf ((Except.ok (en Bt sz i)).bind (amF Bt sz (nQ S.1)))) (by omega) (by omega)
      have s2 := t0.w (b := 315) (k := 4 + nS S.1) (v := vOf ((Except.ok (en Bt sz i)).bind (amF Bt sz (nQ S.1)))) (by omega)
      refine AW.iast X (j := 4 + nS S.1) (by omega) (by first | assumption | exact hT _ _ rfl) (by repeat (first | with_reducible exact rfl | assumption | exact ix_l _ | apply ix_add | apply ix_mul)) (by omega) dX5_readShip_37 ?_
      first | refine AW.aload_n X dX5_readShip_38 rfl rfl ?_ | refine AW.aloadN_n X dX5_readShip_38 rfl rfl ?_
      refine AW.getR X f_X5_82_18 (by first | assumption | exact hT _ _ rfl) (by first | assumption | exact hR _ _ _ rfl) dX5_readShip_39 ?_
      refine AW.iload_n X dX5_readShip_42 rfl rfl ?_
      first | refine AW.aload_n X dX5_readShip_43 rfl rfl ?_ | refine AW.aloadN_n X dX5_readShip_43 rfl rfl ?_
      refine AW.iconst X (v := 0) dX5_readShip_44 rfl ?_
      refine AW.bipush X (v := 23) dX5_readShip_45 rfl ?_
      refine AW.callV_i X (c_X5_readNumber (lo := 0) (hi := 23) hT hR X2 s2 (by omega) (by omega)) (ci := 18) (q := (RX5, TX5, 74)) (by first | assumption | exact hT _ _ rfl) rfl s_X5_273_18 (by omega) (Nat.le_of_ble_eq_true rfl) rfl rfl (Nat.le_of_ble_eq_true rfl) dX5_readShip_47 ?_
      intro r47 I47 h47
      obtain ⟨rfl, u1, t1⟩ := h47
      have z3 := (z2.sf u1).w (b := 316) (k := 4 + nS S.1) (v := vOf ((gsX (Except.ok (en Bt sz i)) (amF Bt sz (nQ S.1))).bind (numF Bt sz 0 23))) (by omega)
      have X3 := (X2.sf u1).w (b := 316) (k := 4 + nS S.1) (v := vOf ((gsX (Except.ok (en Bt sz i)) (amF Bt sz (nQ S.1))).bind (numF Bt sz 0 23))) (by omega) (by omega)
      have s3 := t1.w (b := 316) (k := 4 + nS S.1) (v := vOf ((gsX (Except.ok (en Bt sz i)) (amF Bt sz (nQ S.1))).bind (numF Bt sz 0 23))) (by omega)
      refine AW.iast X (j := 4 + nS S.1) (by omega) (by first | assumption | exact hT _ _ rfl) (by repeat (first | with_reducible exact rfl | assumption | exact ix_l _ | apply ix_add | apply ix_mul)) (by omega) dX5_readShip_50 ?_
      first | refine AW.aload_n X dX5_readShip_51 rfl rfl ?_ | refine AW.aloadN_n X dX5_readShip_51 rfl rfl ?_
      refine AW.getR X f_X5_85_18 (by first | assumption | exact hT _ _ rfl) (by first | assumption | exact hR _ _ _ rfl) dX5_readShip_52 ?_
      refine AW.iload_n X dX5_readShip_55 rfl rfl ?_
      first | refine AW.aload_n X dX5_readShip_56 rfl rfl ?_ | refine AW.aloadN_n X dX5_readShip_56 rfl rfl ?_
      refine AW.iconst X (v := 0) dX5_readShip_57 rfl ?_
      refine AW.bipush X (v := 40) dX5_readShip_58 rfl ?_
      refine AW.callV_i X (c_X5_readNumber (lo := 0) (hi := 40) hT hR X3 s3 (by omega) (by omega)) (ci := 18) (q := (RX5, TX5, 74)) (by first | assumption | exact hT _ _ rfl) rfl s_X5_273_18 (by omega) (Nat.le_of_ble_eq_true rfl) rfl rfl (Nat.le_of_ble_eq_true rfl) dX5_readShip_60 ?_
      intro r60 I60 h60
      obtain ⟨rfl, u2, t2⟩ := h60
      have z4 := (z3.sf u2).w (b := 317) (k := 4 + nS S.1) (v := vOf ((gsX (gsX (Except.ok (en Bt sz i)) (amF Bt sz (nQ S.1))) (numF Bt sz 0 23)).bind (numF Bt sz 0 40))) (by omega)
      have X4 := (X3.sf u2).w (b := 317) (k := 4 + nS S.1) (v := vOf ((gsX (gsX (Except.ok (en Bt sz i)) (amF Bt sz (nQ S.1))) (numF Bt sz 0 23)).bind (numF Bt sz 0 40))) (by omega) (by omega)
      have s4 := t2.w (b := 317) (k := 4 + nS S.1) (v := vOf ((gsX (gsX (Except.ok (en Bt sz i)) (amF Bt sz (nQ S.1))) (numF Bt sz 0 23)).bind (numF Bt sz 0 40))) (by omega)
      refine AW.iast X (j := 4 + nS S.1) (by omega) (by first | assumption | exact hT _ _ rfl) (by repeat (first | with_reducible exact rfl | assumption | exact ix_l _ | apply ix_add | apply ix_mul)) (by omega) dX5_readShip_63 ?_
      first | refine AW.aload_n X dX5_readShip_64 rfl rfl ?_ | refine AW.aloadN_n X dX5_readShip_64 rfl rfl ?_
      refine AW.getR X f_X5_45_18 (by first | assumption | exact hT _ _ rfl) (by first | assumption | exact hR _ _ _ rfl) dX5_readShip_65 ?_
      refine AW.bipush X (v := 8) dX5_readShip_68 rfl ?_
      refine AW.dup2 X dX5_readShip_70 rfl rfl ?_
      refine AW.iald X (j := 8) (by first | assumption | exact hT _ _ rfl) (by repeat (first | with_reducible exact rfl | assumption | exact ix_l _ | apply ix_add | apply ix_mul)) (by omega) dX5_readShip_71 ?_
      rw [z4.1 304 (by omega), w2_n1 (by omega), w2_n1 (by omega), w2_n1 (by omega), w2_n1 (by omega), show I 304 8 = nI (nS S.1) from mT]
      refine AW.iconst X (v := 1) dX5_readShip_72 rfl ?_
      refine AW.iadd X dX5_readShip_73 ?_
      rw [nI_1]
      refine AW.iast X (j := 8) (by omega) (by first | assumption | exact hT _ _ rfl) (by repeat (first | with_reducible exact rfl | assumption | exact ix_l _ | apply ix_add | apply ix_mul)) (by omega) dX5_readShip_74 ?_
      refine AW.vreturn X E ?_ dX5_readShip_75
      have z7 := z4.w (b := 304) (k := 8) (v := nI (nS S.1 + 1)) (by omega)
      have y3 := s4.w (b := 304) (k := 8) (v := nI (nS S.1 + 1)) (by omega)
      refine ⟨rfl, rfl, rfl, rfl, z7.tf (((((TFr.rf.w (by omega) (by omega) (by show 4 ≤ _; omega)).w (by omega) (by omega) (by show 4 ≤ _; omega)).w (by omega) (by omega) (by show 4 ≤ _; omega)).w (by omega) (by omega) (by show 4 ≤ _; omega)).w (by omega) (by omega) (by show 6 ≤ 8; omega)), ?_⟩
      rw [hl]
      rcases e1 : amF Bt sz (nQ S.1) (en Bt sz i) with er | q
      · have gX : (gsX (gsX (gsX (Except.ok (en Bt sz i)) (amF Bt sz (nQ S.1))) (numF Bt sz 0 23)) (numF Bt sz 0 40)) = .error er := by rw [gsX_er rfl e1]; rfl
        rw [gX] at y3; exact y3
      have c1 := gsX_ok (x := (Except.ok (en Bt sz i))) (f := amF Bt sz (nQ S.1)) rfl e1
      show LnP Bt sz (Except.bind (numF Bt sz 0 23 q.2) _) _
      rcases e2 : numF Bt sz 0 23 q.2 with er | h
      · have gX : (gsX (gsX (gsX (Except.ok (en Bt sz i)) (amF Bt sz (nQ S.1))) (numF Bt sz 0 23)) (numF Bt sz 0 40)) = .error er := by rw [gsX_er c1 e2]; rfl
        rw [gX] at y3; exact y3
      have c2 := gsX_ok (x := (gsX (Except.ok (en Bt sz i)) (amF Bt sz (nQ S.1)))) (f := numF Bt sz 0 23) c1 e2
      show LnP Bt sz (Except.bind (numF Bt sz 0 40 h.2) _) _
      rcases e3 : numF Bt sz 0 40 h.2 with er | s
      · have gX : (gsX (gsX (gsX (Except.ok (en Bt sz i)) (amF Bt sz (nQ S.1))) (numF Bt sz 0 23)) (numF Bt sz 0 40)) = .error er := by rw [gsX_er c2 e3]
        rw [gX] at y3; exact y3
      have c3 := gsX_ok (x := (gsX (gsX (Except.ok (en Bt sz i)) (amF Bt sz (nQ S.1))) (numF Bt sz 0 23))) (f := numF Bt sz 0 40) c2 e3
      rw [c3] at y3
      have hv0 := vOf_ok (x := (Except.ok (en Bt sz i))) (f := amF Bt sz (nQ S.1)) rfl e1
      have hv1 := vOf_ok (x := (gsX (Except.ok (en Bt sz i)) (amF Bt sz (nQ S.1)))) (f := numF Bt sz 0 23) c1 e2
      have hv2 := vOf_ok (x := (gsX (gsX (Except.ok (en Bt sz i)) (amF Bt sz (nQ S.1))) (numF Bt sz 0 23))) (f := numF Bt sz 0 40) c2 e3
      have gg := hg.inS (κ := κ) (q := q.1) (h := h.1) (s := s.1) (by omega) hκ (amF_en e1).2.1 (numF_en e2).2.2 (numF_en e3).2.2
      refine ⟨y3, hH.inS gg ?_, gg.1⟩
      unfold chS
      rw [← hv0, ← hv1, ← hv2]
      exact z7
    · intro f6
      exact absurd f6 (by decide)
theorem c_X5_readHood {i : Nat} {S : Rd} (hT : XT T) (hR : XRf R) (hX : TxM Bt sz I) (hx : StM Bt sz (.ok i) I) (hH : HfM S I) (hg : Gd S.1) : MX5_readHood 4 0 [.ref 200] T I R J (qI (fun r I' => r = none ∧ TF I I' ∧ LnP Bt sz (hoodF Bt sz i S) I') T R J) noX := by
  have hN := hg.1
  obtain ⟨⟨n1, n2, n3, n4, hnq, hne, hns, hnh⟩, -⟩ := id hN
  have mT : I 304 (6 + 3) = nI (nH S.1) := (hH.1 3 (by omega)).trans n4
  have m6 : I 304 (6 + 0) = nI (nQ S.1) := (hH.1 0 (by omega)).trans n1
  have m7 : I 304 (6 + 1) = nI (nE S.1) := (hH.1 1 (by omega)).trans n2
  refine AMet.of (by decide) (Nat.le_of_ble_eq_true rfl) (cats1 rfl) fun cx X E => ?_
  show AW _ _ _ (_ :: _ :: []) _ _ _ _ _
  by_cases h6 : nH S.1 = 6
  · have ho : opX Bt sz (.ok i) (nH S.1) 6 = .error (2, beg Bt sz i) := if_pos h6
    have hl : hoodF Bt sz i S = .error (2, beg Bt sz i) := if_pos h6
    first | refine AW.aload_n X dX5_readHood_0 rfl rfl ?_ | refine AW.aloadN_n X dX5_readHood_0 rfl rfl ?_
    refine AW.iconst X (v := 3) dX5_readHood_1 rfl ?_
    refine AW.bipush X (v := 6) dX5_readHood_2 rfl ?_
    refine AW.callV_i X (c_X5_open (w := 3) (m := nH S.1) (most := 6) hT hR hX hx (by omega) mT (by omega) (by omega)) (ci := 18) (q := (RX5, TX5, 74)) (by first | assumption | exact hT _ _ rfl) rfl s_X5_270_18 (by omega) (Nat.le_of_ble_eq_true rfl) rfl rfl (Nat.le_of_ble_eq_true rfl) dX5_readHood_4 ?_
    intro r4 I4 h4
    rw [ho] at h4
    obtain ⟨rfl, q1, q2⟩ := h4
    refine AW.if_ne X (tgt := 11) dX5_readHood_7 rfl ?_ ?_
    · intro t7
      exact absurd rfl t7
    · intro f7
      refine AW.vreturn X E ?_ dX5_readHood_10
      exact ⟨rfl, rfl, rfl, rfl, q1.tf, by rw [hl]; exact q2⟩
  · have ho : opX Bt sz (.ok i) (nH S.1) 6 = .ok (en Bt sz i) := if_neg h6
    have hl : hoodF Bt sz i S = Except.bind (amF Bt sz (nE S.1) (en Bt sz i)) fun e => Except.bind (numF Bt sz 0 23 e.2) fun f => Except.bind (numF Bt sz f.1 23 f.2) fun t => .ok (t.2, addH S.1 e.1 f.1 t.1, S.2) := if_neg h6
    first | refine AW.aload_n X dX5_readHood_0 rfl rfl ?_ | refine AW.aloadN_n X dX5_readHood_0 rfl rfl ?_
    refine AW.iconst X (v := 3) dX5_readHood_1 rfl ?_
    refine AW.bipush X (v := 6) dX5_readHood_2 rfl ?_
    refine AW.callV_i X (c_X5_open (w := 3) (m := nH S.1) (most := 6) hT hR hX hx (by omega) mT (by omega) (by omega)) (ci := 18) (q := (RX5, TX5, 74)) (by first | assumption | exact hT _ _ rfl) rfl s_X5_270_18 (by omega) (Nat.le_of_ble_eq_true rfl) rfl rfl (Nat.le_of_ble_eq_true rfl) dX5_readHood_4 ?_
    intro r4 I4 h4
    rw [ho] at h4
    obtain ⟨rfl, q1, q2⟩ := h4
    have z0 := Zr.rf.sf q1
    have X0 := hX.sf q1
    have s0 := q2
    refine AW.if_ne X (tgt := 11) dX5_readHood_7 rfl ?_ ?_
    · intro t7
      refine AW.bipush X (v := 6) dX5_readHood_11 rfl ?_
      first | refine AW.aload_n X dX5_readHood_13 rfl rfl ?_ | refine AW.aloadN_n X dX5_readHood_13 rfl rfl ?_
      refine AW.getR X f_X5_45_18 (by first | assumption | exact hT _ _ rfl) (by first | assumption | exact hR _ _ _ rfl) dX5_readHood_14 ?_
      refine AW.bipush X (v := 9) dX5_readHood_17 rfl ?_
      refine AW.iald X (j := 9) (by first | assumption | exact hT _ _ rfl) (by repeat (first | with_reducible exact rfl | assumption | exact ix_l _ | apply ix_add | apply ix_mul)) (by omega) dX5_readHood_19 ?_
      rw [q1.1 304 (by omega), show I 304 9 = nI (nH S.1) from mT]
      refine AW.iadd X dX5_readHood_20 ?_
      rw [show (6 : Int32) + nI (nH S.1) = nI (6 + nH S.1) from nI_add 6 _]
      refine AW.istore1 X dX5_readHood_21 ?_
      first | refine AW.aload_n X dX5_readHood_22 rfl rfl ?_ | refine AW.aloadN_n X dX5_readHood_22 rfl rfl ?_
      refine AW.getR X f_X5_94_18 (by first | assumption | exact hT _ _ rfl) (by first | assumption | exact hR _ _ _ rfl) dX5_readHood_23 ?_
      refine AW.iload_n X dX5_readHood_26 rfl rfl ?_
      first | refine AW.aload_n X dX5_readHood_27 rfl rfl ?_ | refine AW.aloadN_n X dX5_readHood_27 rfl rfl ?_
      refine AW.iconst X (v := 1) dX5_readHood_28 rfl ?_
      refine AW.callV_i X (c_X5_readOne (w := 1) (m := nE S.1) hT hR X0 s0 (by omega) (by rw [z0.1 304 (by omega)]; exact m7) (by omega)) (ci := 18) (q := (RX5, TX5, 74)) (by first | assumption | exact hT _ _ rfl) rfl s_X5_280_18 (by omega) (Nat.le_of_ble_eq_true rfl) rfl rfl (Nat.le_of_ble_eq_true rfl) dX5_readHood_29 ?_
      intro r29 I29 h29
      obtain ⟨rfl, u0, t0⟩ := h29
      have z1 := (z0.sf u0).w (b := 320) (k := 6 + nH S.1) (v := vOf ((Except.ok (en Bt sz i)).bind (amF Bt sz (nE S.1)))) (by omega)
      have X1 := (X0.sf u0).w (b := 320) (k := 6 + nH S.1) (v := vOf ((Except.ok (en Bt sz i)).bind (amF Bt sz (nE S.1)))) (by omega) (by omega)
      have s1 := t0.w (b := 320) (k := 6 + nH S.1) (v := vOf ((Except.ok (en Bt sz i)).bind (amF Bt sz (nE S.1)))) (by omega)
      refine AW.iast X (j := 6 + nH S.1) (by omega) (by first | assumption | exact hT _ _ rfl) (by repeat (first | with_reducible exact rfl | assumption | exact ix_l _ | apply ix_add | apply ix_mul)) (by omega) dX5_readHood_32 ?_
      first | refine AW.aload_n X dX5_readHood_33 rfl rfl ?_ | refine AW.aloadN_n X dX5_readHood_33 rfl rfl ?_
      refine AW.getR X f_X5_97_18 (by first | assumption | exact hT _ _ rfl) (by first | assumption | exact hR _ _ _ rfl) dX5_readHood_34 ?_
      refine AW.iload_n X dX5_readHood_37 rfl rfl ?_
      first | refine AW.aload_n X dX5_readHood_38 rfl rfl ?_ | refine AW.aloadN_n X dX5_readHood_38 rfl rfl ?_
      refine AW.iconst X (v := 0) dX5_readHood_39 rfl ?_
      refine AW.bipush X (v := 23) dX5_readHood_40 rfl ?_
      refine AW.callV_i X (c_X5_readNumber (lo := 0) (hi := 23) hT hR X1 s1 (by omega) (by omega)) (ci := 18) (q := (RX5, TX5, 74)) (by first | assumption | exact hT _ _ rfl) rfl s_X5_273_18 (by omega) (Nat.le_of_ble_eq_true rfl) rfl rfl (Nat.le_of_ble_eq_true rfl) dX5_readHood_42 ?_
      intro r42 I42 h42
      obtain ⟨rfl, u1, t1⟩ := h42
      have z2 := (z1.sf u1).w (b := 321) (k := 6 + nH S.1) (v := vOf ((gsX (Except.ok (en Bt sz i)) (amF Bt sz (nE S.1))).bind (numF Bt sz 0 23))) (by omega)
      have X2 := (X1.sf u1).w (b := 321) (k := 6 + nH S.1) (v := vOf ((gsX (Except.ok (en Bt sz i)) (amF Bt sz (nE S.1))).bind (numF Bt sz 0 23))) (by omega) (by omega)
      have s2 := t1.w (b := 321) (k := 6 + nH S.1) (v := vOf ((gsX (Except.ok (en Bt sz i)) (amF Bt sz (nE S.1))).bind (numF Bt sz 0 23))) (by omega)
      refine AW.iast X (j := 6 + nH S.1) (by omega) (by first | assumption | exact hT _ _ rfl) (by repeat (first | with_reducible exact rfl | assumption | exact ix_l _ | apply ix_add | apply ix_mul)) (by omega) dX5_readHood_45 ?_
      first | refine AW.aload_n X dX5_readHood_46 rfl rfl ?_ | refine AW.aloadN_n X dX5_readHood_46 rfl rfl ?_
      refine AW.getR X f_X5_100_18 (by first | assumption | exact hT _ _ rfl) (by first | assumption | exact hR _ _ _ rfl) dX5_readHood_47 ?_
      refine AW.iload_n X dX5_readHood_50 rfl rfl ?_
      first | refine AW.aload_n X dX5_readHood_51 rfl rfl ?_ | refine AW.aloadN_n X dX5_readHood_51 rfl rfl ?_
      first | refine AW.aload_n X dX5_readHood_52 rfl rfl ?_ | refine AW.aloadN_n X dX5_readHood_52 rfl rfl ?_
      refine AW.getR X f_X5_97_18 (by first | assumption | exact hT _ _ rfl) (by first | assumption | exact hR _ _ _ rfl) dX5_readHood_53 ?_
      refine AW.iload_n X dX5_readHood_56 rfl rfl ?_
      refine AW.iald X (j := 6 + nH S.1) (by first | assumption | exact hT _ _ rfl) (by repeat (first | with_reducible exact rfl | assumption | exact ix_l _ | apply ix_add | apply ix_mul)) (by omega) dX5_readHood_57 ?_
      rw [w2_s]
      refine AW.bipush X (v := 23) dX5_readHood_58 rfl ?_
      refine AW.callV_i X (c_X5_readNumberV (vOf_N _) (hi := 23) hT hR X2 s2 (vN_b (by omega)) (by omega)) (ci := 18) (q := (RX5, TX5, 74)) (by first | assumption | exact hT _ _ rfl) rfl s_X5_273_18 (by omega) (Nat.le_of_ble_eq_true rfl) rfl rfl (Nat.le_of_ble_eq_true rfl) dX5_readHood_60 ?_
      intro r60 I60 h60
      obtain ⟨rfl, u2, t2⟩ := h60
      have z3 := (z2.sf u2).w (b := 322) (k := 6 + nH S.1) (v := vOf ((gsX (gsX (Except.ok (en Bt sz i)) (amF Bt sz (nE S.1))) (numF Bt sz 0 23)).bind (numF Bt sz (vN ((gsX (Except.ok (en Bt sz i)) (amF Bt sz (nE S.1))).bind (numF Bt sz 0 23))) 23))) (by omega)
      have X3 := (X2.sf u2).w (b := 322) (k := 6 + nH S.1) (v := vOf ((gsX (gsX (Except.ok (en Bt sz i)) (amF Bt sz (nE S.1))) (numF Bt sz 0 23)).bind (numF Bt sz (vN ((gsX (Except.ok (en Bt sz i)) (amF Bt sz (nE S.1))).bind (numF Bt sz 0 23))) 23))) (by omega) (by omega)
      have s3 := t2.w (b := 322) (k := 6 + nH S.1) (v := vOf ((gsX (gsX (Except.ok (en Bt sz i)) (amF Bt sz (nE S.1))) (numF Bt sz 0 23)).bind (numF Bt sz (vN ((gsX (Except.ok (en Bt sz i)) (amF Bt sz (nE S.1))).bind (numF Bt sz 0 23))) 23))) (by omega)
      refine AW.iast X (j := 6 + nH S.1) (by omega) (by first | assumption | exact hT _ _ rfl) (by repeat (first | with_reducible exact rfl | assumption | exact ix_l _ | apply ix_add | apply ix_mul)) (by omega) dX5_readHood_63 ?_
      first | refine AW.aload_n X dX5_readHood_64 rfl rfl ?_ | refine AW.aloadN_n X dX5_readHood_64 rfl rfl ?_
      refine AW.getR X f_X5_45_18 (by first | assumption | exact hT _ _ rfl) (by first | assumption | exact hR _ _ _ rfl) dX5_readHood_65 ?_
      refine AW.bipush X (v := 9) dX5_readHood_68 rfl ?_
      refine AW.dup2 X dX5_readHood_70 rfl rfl ?_
      refine AW.iald X (j := 9) (by first | assumption | exact hT _ _ rfl) (by repeat (first | with_reducible exact rfl | assumption | exact ix_l _ | apply ix_add | apply ix_mul)) (by omega) dX5_readHood_71 ?_
      rw [z3.1 304 (by omega), w2_n1 (by omega), w2_n1 (by omega), w2_n1 (by omega), show I 304 9 = nI (nH S.1) from mT]
      refine AW.iconst X (v := 1) dX5_readHood_72 rfl ?_
      refine AW.iadd X dX5_readHood_73 ?_
      rw [nI_1]
      refine AW.iast X (j := 9) (by omega) (by first | assumption | exact hT _ _ rfl) (by repeat (first | with_reducible exact rfl | assumption | exact ix_l _ | apply ix_add | apply ix_mul)) (by omega) dX5_readHood_74 ?_
      refine AW.vreturn X E ?_ dX5_readHood_75
      have z7 := z3.w (b := 304) (k := 9) (v := nI (nH S.1 + 1)) (by omega)
      have y3 := s3.w (b := 304) (k := 9) (v := nI (nH S.1 + 1)) (by omega)
      refine ⟨rfl, rfl, rfl, rfl, z7.tf ((((TFr.rf.w (by omega) (by omega) (by show 6 ≤ _; omega)).w (by omega) (by omega) (by show 6 ≤ _; omega)).w (by omega) (by omega) (by show 6 ≤ _; omega)).w (by omega) (by omega) (by show 6 ≤ 9; omega)), ?_⟩
      rw [hl]
      rcases e1 : amF Bt sz (nE S.1) (en Bt sz i) with er | e
      · have gX : (gsX (gsX (gsX (Except.ok (en Bt sz i)) (amF Bt sz (nE S.1))) (numF Bt sz 0 23)) (numF Bt sz (vN ((gsX (Except.ok (en Bt sz i)) (amF Bt sz (nE S.1))).bind (numF Bt sz 0 23))) 23)) = .error er := by rw [gsX_er rfl e1]; rfl
        rw [gX] at y3; exact y3
      have c1 := gsX_ok (x := (Except.ok (en Bt sz i))) (f := amF Bt sz (nE S.1)) rfl e1
      show LnP Bt sz (Except.bind (numF Bt sz 0 23 e.2) _) _
      rcases e2 : numF Bt sz 0 23 e.2 with er | f
      · have gX : (gsX (gsX (gsX (Except.ok (en Bt sz i)) (amF Bt sz (nE S.1))) (numF Bt sz 0 23)) (numF Bt sz (vN ((gsX (Except.ok (en Bt sz i)) (amF Bt sz (nE S.1))).bind (numF Bt sz 0 23))) 23)) = .error er := by rw [gsX_er c1 e2]; rfl
        rw [gX] at y3; exact y3
      have c2 := gsX_ok (x := (gsX (Except.ok (en Bt sz i)) (amF Bt sz (nE S.1)))) (f := numF Bt sz 0 23) c1 e2
      have hlo : vN ((gsX (Except.ok (en Bt sz i)) (amF Bt sz (nE S.1))).bind (numF Bt sz 0 23)) = f.1 := by rw [c1]; show vN (numF Bt sz 0 23 e.2) = f.1; rw [e2]; rfl
      show LnP Bt sz (Except.bind (numF Bt sz f.1 23 f.2) _) _
      rcases e3 : numF Bt sz f.1 23 f.2 with er | t
      · have gX : (gsX (gsX (gsX (Except.ok (en Bt sz i)) (amF Bt sz (nE S.1))) (numF Bt sz 0 23)) (numF Bt sz (vN ((gsX (Except.ok (en Bt sz i)) (amF Bt sz (nE S.1))).bind (numF Bt sz 0 23))) 23)) = .error er := by rw [gsX_er c2 (hlo.symm ▸ e3)]
        rw [gX] at y3; exact y3
      have c3 := gsX_ok (x := (gsX (gsX (Except.ok (en Bt sz i)) (amF Bt sz (nE S.1))) (numF Bt sz 0 23))) (f := numF Bt sz (vN ((gsX (Except.ok (en Bt sz i)) (amF Bt sz (nE S.1))).bind (numF Bt sz 0 23))) 23) c2 (hlo.symm ▸ e3)
      rw [c3] at y3
      have hv0 := vOf_ok (x := (Except.ok (en Bt sz i))) (f := amF Bt sz (nE S.1)) rfl e1
      have hv1 := vOf_ok (x := (gsX (Except.ok (en Bt sz i)) (amF Bt sz (nE S.1)))) (f := numF Bt sz 0 23) c1 e2
      have hv2 := vOf_ok (x := (gsX (gsX (Except.ok (en Bt sz i)) (amF Bt sz (nE S.1))) (numF Bt sz 0 23))) (f := numF Bt sz (vN ((gsX (Except.ok (en Bt sz i)) (amF Bt sz (nE S.1))).bind (numF Bt sz 0 23))) 23) c2 (hlo.symm ▸ e3)
      have gg := hg.inH (e := e.1) (f := f.1) (t := t.1) (by omega) (amF_en e1).2.1
      refine ⟨y3, hH.inH gg ?_, gg.1⟩
      unfold chH
      rw [← hv0, ← hv1, ← hv2]
      exact z7
    · intro f7
      exact absurd f7 (by decide)
end MLG
