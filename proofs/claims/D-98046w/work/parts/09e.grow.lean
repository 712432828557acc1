/-! 09e: a view that grows -/
set_option maxRecDepth 100000
set_option maxHeartbeats 4000000
theorem nat_n {N : KI} {a k n : Nat} (h : N a k = nI n) (hn : n < 2 ^ 31) : nat N a k = n := by
  unfold nat; rw [h]; exact nI_clamp hn
theorem addQ_at (V : KI) (κ : Nat) (o : Int32) (s : Nat) : addQ V κ o s 304 0 = nI (nQ V + 1) ∧ (∀ k, k ≠ 0 → addQ V κ o s 304 k = V 304 k) ∧ (∀ a, a ≠ 304 → a ≠ 305 → a ≠ 306 → a ≠ 307 → a ≠ 308 → addQ V κ o s a = V a) ∧
    (∀ q, q ≠ nQ V → addQ V κ o s 305 q = V 305 q ∧ addQ V κ o s 306 q = V 306 q ∧ addQ V κ o s 307 q = V 307 q ∧ addQ V κ o s 308 q = V 308 q) ∧
    addQ V κ o s 305 (nQ V) = nI κ ∧ addQ V κ o s 306 (nQ V) = o ∧ addQ V κ o s 307 (nQ V) = nI s ∧ addQ V κ o s 308 (nQ V) = 0 := by
  unfold addQ
  refine ⟨w2_s _ _ _ _, fun k hk => ?_, fun a a1 a2 a3 a4 a5 => ?_, fun q hq => ⟨?_, ?_, ?_, ?_⟩, ?_, ?_, ?_, ?_⟩
  · rw [w2_n2 hk, w2_n1 (by omega), w2_n1 (by omega), w2_n1 (by omega), w2_n1 (by omega)]
  · rw [w2_r a1, w2_r a5, w2_r a4, w2_r a3, w2_r a2]
  · rw [w2_n1 (by omega), w2_n1 (by omega), w2_n1 (by omega), w2_n1 (by omega), w2_n2 hq]
  · rw [w2_n1 (by omega), w2_n1 (by omega), w2_n1 (by omega), w2_n2 hq, w2_n1 (by omega)]
  · rw [w2_n1 (by omega), w2_n1 (by omega), w2_n2 hq, w2_n1 (by omega), w2_n1 (by omega)]
  · rw [w2_n1 (by omega), w2_n2 hq, w2_n1 (by omega), w2_n1 (by omega), w2_n1 (by omega)]
  · rw [w2_n1 (by omega), w2_n1 (by omega), w2_n1 (by omega), w2_n1 (by omega), w2_s]
  · rw [w2_n1 (by omega), w2_n1 (by omega), w2_n1 (by omega), w2_s]
  · rw [w2_n1 (by omega), w2_n1 (by omega), w2_s]
  · rw [w2_n1 (by omega), w2_s]
theorem addE_at (V : KI) (κ o q b h : Nat) : addE V κ o q b h 304 1 = nI (nE V + 1) ∧ (∀ k, k ≠ 1 → addE V κ o q b h 304 k = V 304 k) ∧ (∀ a, a ≠ 304 → (a < 309 ∨ 313 < a) → addE V κ o q b h a = V a) ∧
    (∀ e, e ≠ nE V → addE V κ o q b h 309 e = V 309 e ∧ addE V κ o q b h 310 e = V 310 e ∧ addE V κ o q b h 311 e = V 311 e ∧ addE V κ o q b h 312 e = V 312 e ∧ addE V κ o q b h 313 e = V 313 e) ∧
    addE V κ o q b h 309 (nE V) = nI κ ∧ addE V κ o q b h 310 (nE V) = nI o ∧ addE V κ o q b h 311 (nE V) = nI q ∧ addE V κ o q b h 312 (nE V) = nI b ∧ addE V κ o q b h 313 (nE V) = nI h := by
  unfold addE
  refine ⟨w2_s _ _ _ _, fun k hk => ?_, fun a a1 a2 => ?_, fun q hq => ⟨?_, ?_, ?_, ?_, ?_⟩, ?_, ?_, ?_, ?_, ?_⟩
  · rw [w2_n2 hk, w2_n1 (by omega), w2_n1 (by omega), w2_n1 (by omega), w2_n1 (by omega), w2_n1 (by omega)]
  · rw [w2_r a1, w2_r (by omega), w2_r (by omega), w2_r (by omega), w2_r (by omega), w2_r (by omega)]
  · rw [w2_n1 (by omega), w2_n1 (by omega), w2_n1 (by omega), w2_n1 (by omega), w2_n1 (by omega), w2_n2 hq]
  · rw [w2_n1 (by omega), w2_n1 (by omega), w2_n1 (by omega), w2_n1 (by omega), w2_n2 hq, w2_n1 (by omega)]
  · rw [w2_n1 (by omega), w2_n1 (by omega), w2_n1 (by omega), w2_n2 hq, w2_n1 (by omega), w2_n1 (by omega)]
  · rw [w2_n1 (by omega), w2_n1 (by omega), w2_n2 hq, w2_n1 (by omega), w2_n1 (by omega), w2_n1 (by omega)]
  · rw [w2_n1 (by omega), w2_n2 hq, w2_n1 (by omega), w2_n1 (by omega), w2_n1 (by omega), w2_n1 (by omega)]
  · rw [w2_n1 (by omega), w2_n1 (by omega), w2_n1 (by omega), w2_n1 (by omega), w2_n1 (by omega), w2_s]
  · rw [w2_n1 (by omega), w2_n1 (by omega), w2_n1 (by omega), w2_n1 (by omega), w2_s]
  · rw [w2_n1 (by omega), w2_n1 (by omega), w2_n1 (by omega), w2_s]
  · rw [w2_n1 (by omega), w2_n1 (by omega), w2_s]
  · rw [w2_n1 (by omega), w2_s]
theorem addS_at (V : KI) (κ q h s : Nat) : addS V κ q h s 304 2 = nI (nS V + 1) ∧ (∀ k, k ≠ 2 → addS V κ q h s 304 k = V 304 k) ∧ (∀ a, a ≠ 304 → (a < 314 ∨ 317 < a) → addS V κ q h s a = V a) ∧
    (∀ e, e ≠ nS V → addS V κ q h s 314 e = V 314 e ∧ addS V κ q h s 315 e = V 315 e ∧ addS V κ q h s 316 e = V 316 e ∧ addS V κ q h s 317 e = V 317 e) ∧
    addS V κ q h s 314 (nS V) = nI κ ∧ addS V κ q h s 315 (nS V) = nI q ∧ addS V κ q h s 316 (nS V) = nI h ∧ addS V κ q h s 317 (nS V) = nI s := by
  unfold addS
  refine ⟨w2_s _ _ _ _, fun k hk => ?_, fun a a1 a2 => ?_, fun q hq => ⟨?_, ?_, ?_, ?_⟩, ?_, ?_, ?_, ?_⟩
  · rw [w2_n2 hk, w2_n1 (by omega), w2_n1 (by omega), w2_n1 (by omega), w2_n1 (by omega)]
  · rw [w2_r a1, w2_r (by omega), w2_r (by omega), w2_r (by omega), w2_r (by omega)]
  · rw [w2_n1 (by omega), w2_n1 (by omega), w2_n1 (by omega), w2_n1 (by omega), w2_n2 hq]
  · rw [w2_n1 (by omega), w2_n1 (by omega), w2_n1 (by omega), w2_n2 hq, w2_n1 (by omega)]
  · rw [w2_n1 (by omega), w2_n1 (by omega), w2_n2 hq, w2_n1 (by omega), w2_n1 (by omega)]
  · rw [w2_n1 (by omega), w2_n2 hq, w2_n1 (by omega), w2_n1 (by omega), w2_n1 (by omega)]
  · rw [w2_n1 (by omega), w2_n1 (by omega), w2_n1 (by omega), w2_n1 (by omega), w2_s]
  · rw [w2_n1 (by omega), w2_n1 (by omega), w2_n1 (by omega), w2_s]
  · rw [w2_n1 (by omega), w2_n1 (by omega), w2_s]
  · rw [w2_n1 (by omega), w2_s]
theorem addH_at (V : KI) (e f t : Nat) : addH V e f t 304 3 = nI (nH V + 1) ∧ (∀ k, k ≠ 3 → addH V e f t 304 k = V 304 k) ∧ (∀ a, a ≠ 304 → (a < 320 ∨ 322 < a) → addH V e f t a = V a) ∧
    (∀ k, k ≠ nH V → addH V e f t 320 k = V 320 k ∧ addH V e f t 321 k = V 321 k ∧ addH V e f t 322 k = V 322 k) ∧
    addH V e f t 320 (nH V) = nI e ∧ addH V e f t 321 (nH V) = nI f ∧ addH V e f t 322 (nH V) = nI t := by
  unfold addH
  refine ⟨w2_s _ _ _ _, fun k hk => ?_, fun a a1 a2 => ?_, fun q hq => ⟨?_, ?_, ?_⟩, ?_, ?_, ?_⟩
  · rw [w2_n2 hk, w2_n1 (by omega), w2_n1 (by omega), w2_n1 (by omega)]
  · rw [w2_r a1, w2_r (by omega), w2_r (by omega), w2_r (by omega)]
  · rw [w2_n1 (by omega), w2_n1 (by omega), w2_n1 (by omega), w2_n2 hq]
  · rw [w2_n1 (by omega), w2_n1 (by omega), w2_n2 hq, w2_n1 (by omega)]
  · rw [w2_n1 (by omega), w2_n2 hq, w2_n1 (by omega), w2_n1 (by omega)]
  · rw [w2_n1 (by omega), w2_n1 (by omega), w2_n1 (by omega), w2_s]
  · rw [w2_n1 (by omega), w2_n1 (by omega), w2_s]
  · rw [w2_n1 (by omega), w2_s]
/-- well formed -/
def Gd (V : KI) : Prop := NOK V ∧ PrOK V
theorem Gd.inQ {V : KI} {κ s : Nat} {o : Int32} (h : Gd V) (h8 : nQ V < 8) (hκ : κ < 4) (ho : if κ = 3 then o = 0 ∨ o = 1 else o = -1) (hs : s ≤ 100) : Gd (addQ V κ o s) ∧ nQ (addQ V κ o s) = nQ V + 1 ∧ nE (addQ V κ o s) = nE V ∧ nS (addQ V κ o s) = nS V ∧ nH (addQ V κ o s) = nH V := by
  obtain ⟨a1, a2, a3, a4, b1, b2, b3, b4⟩ := addQ_at V κ o s
  obtain ⟨⟨⟨n1, n2, n3, n4, hnq, hne, hns, hnh⟩, q1, e1, s1, m1, c1, h1⟩, p1⟩ := h
  have hQ : nQ (addQ V κ o s) = nQ V + 1 := nat_n a1 (by omega)
  have hE : nE (addQ V κ o s) = nE V := by unfold nE nat; rw [a2 1 (by omega)]
  have hS : nS (addQ V κ o s) = nS V := by unfold nS nat; rw [a2 2 (by omega)]
  have hH : nH (addQ V κ o s) = nH V := by unfold nH nat; rw [a2 3 (by omega)]
  refine ⟨⟨⟨⟨?_, ?_, ?_, ?_, by omega, by omega, by omega, by omega⟩, fun q hq => ?_, fun e he => ?_, fun t ht => ?_, fun k hk => ?_, fun c hc => ?_, fun k hk => ?_⟩, ?_⟩, hQ, hE, hS, hH⟩
  · rw [a1, hQ]
  · rw [a2 1 (by omega), hE]; exact n2
  · rw [a2 2 (by omega), hS]; exact n3
  · rw [a2 3 (by omega), hH]; exact n4
  · rw [hQ] at hq
    by_cases hx : q = nQ V
    · subst hx
      have hk : nat (addQ V κ o s) 305 (nQ V) = κ := nat_n b1 (by omega)
      rw [hk, b1, b2, b3]
      refine ⟨rfl, hκ, nI_pos' (by omega), nI_le (b := 100) hs (by omega), fun h3 => ?_, fun h3 => ?_⟩
      · rw [if_pos h3] at ho; exact ho
      · rw [if_neg h3] at ho; exact ho
    · obtain ⟨r1, r2, r3, r4⟩ := a4 q hx
      have hk : nat (addQ V κ o s) 305 q = nat V 305 q := by unfold nat; rw [r1]
      rw [hk, r1, r2, r3]
      exact q1 q (by omega)
  · rw [hE] at he
    have nt : ∀ a, 309 ≤ a → a ≤ 313 → nat (addQ V κ o s) a e = nat V a e := fun a z1 z2 => nat_eq (a3 a (by omega) (by omega) (by omega) (by omega) (by omega))
    rw [a3 309 (by omega) (by omega) (by omega) (by omega) (by omega), a3 310 (by omega) (by omega) (by omega) (by omega) (by omega), a3 311 (by omega) (by omega) (by omega) (by omega) (by omega), a3 312 (by omega) (by omega) (by omega) (by omega) (by omega), a3 313 (by omega) (by omega) (by omega) (by omega) (by omega), nt 309 (by omega) (by omega), nt 311 (by omega) (by omega), hQ]
    obtain ⟨z1, z2, z3, z4, z5⟩ := e1 e he
    exact ⟨z1, z2, z3, by omega, z5⟩
  · rw [hS] at ht
    have nt : ∀ a, 314 ≤ a → a ≤ 317 → nat (addQ V κ o s) a t = nat V a t := fun a z1 z2 => nat_eq (a3 a (by omega) (by omega) (by omega) (by omega) (by omega))
    rw [a3 314 (by omega) (by omega) (by omega) (by omega) (by omega), a3 315 (by omega) (by omega) (by omega) (by omega) (by omega), a3 316 (by omega) (by omega) (by omega) (by omega) (by omega), a3 317 (by omega) (by omega) (by omega) (by omega) (by omega), nt 314 (by omega) (by omega), nt 315 (by omega) (by omega), nt 316 (by omega) (by omega), hQ]
    obtain ⟨z1, z2, z3, z4, z5⟩ := s1 t ht
    exact ⟨z1, z2, z3, by omega, z5⟩
  · rw [a3 318 (by omega) (by omega) (by omega) (by omega) (by omega)]; exact m1 k hk
  · rw [a3 319 (by omega) (by omega) (by omega) (by omega) (by omega), show nat (addQ V κ o s) 319 c = nat V 319 c from nat_eq (a3 319 (by omega) (by omega) (by omega) (by omega) (by omega))]; exact c1 c hc
  · rw [hH] at hk
    rw [a3 320 (by omega) (by omega) (by omega) (by omega) (by omega), show nat (addQ V κ o s) 320 k = nat V 320 k from nat_eq (a3 320 (by omega) (by omega) (by omega) (by omega) (by omega)), hE]; exact h1 k hk
  · unfold PrOK; rw [a2 4 (by omega), a2 5 (by omega)]; exact p1
theorem Gd.inE {V : KI} {κ o q b h : Nat} (hg : Gd V) (h6 : nE V < 6) (hκ : κ < 4) (ho : o ≤ 1) (hq : q < nQ V) (hb : 1 ≤ b ∧ b ≤ 40) (hh : h ≤ 20) : Gd (addE V κ o q b h) ∧ nQ (addE V κ o q b h) = nQ V ∧ nE (addE V κ o q b h) = nE V + 1 ∧ nS (addE V κ o q b h) = nS V ∧ nH (addE V κ o q b h) = nH V := by
  obtain ⟨a1, a2, a3, a4, b1, b2, b3, b4, b5⟩ := addE_at V κ o q b h
  obtain ⟨⟨⟨n1, n2, n3, n4, hnq, hne, hns, hnh⟩, q1, e1, s1, m1, c1, h1⟩, p1⟩ := hg
  have hE : nE (addE V κ o q b h) = nE V + 1 := nat_n a1 (by omega)
  have hQ : nQ (addE V κ o q b h) = nQ V := by unfold nQ nat; rw [a2 0 (by omega)]
  have hS : nS (addE V κ o q b h) = nS V := by unfold nS nat; rw [a2 2 (by omega)]
  have hH : nH (addE V κ o q b h) = nH V := by unfold nH nat; rw [a2 3 (by omega)]
  have nt : ∀ a k, a ≠ 304 → (a < 309 ∨ 313 < a) → nat (addE V κ o q b h) a k = nat V a k := fun a k z1 z2 => nat_eq (a3 a z1 z2)
  refine ⟨⟨⟨⟨?_, ?_, ?_, ?_, by omega, by omega, by omega, by omega⟩, fun x hx => ?_, fun e he => ?_, fun t ht => ?_, fun k hk => ?_, fun c hc => ?_, fun k hk => ?_⟩, ?_⟩, hQ, hE, hS, hH⟩
  · rw [a2 0 (by omega), hQ]; exact n1
  · rw [a1, hE]
  · rw [a2 2 (by omega), hS]; exact n3
  · rw [a2 3 (by omega), hH]; exact n4
  · rw [hQ] at hx
    rw [a3 305 (by omega) (by omega), a3 306 (by omega) (by omega), a3 307 (by omega) (by omega), nt 305 x (by omega) (by omega)]; exact q1 x hx
  · rw [hE] at he
    by_cases hx : e = nE V
    · subst hx
      have hk9 : nat (addE V κ o q b h) 309 (nE V) = κ := nat_n b1 (by omega)
      have hk11 : nat (addE V κ o q b h) 311 (nE V) = q := nat_n b3 (by omega)
      rw [hk9, hk11, b1, b2, b3, b4, b5, hQ]
      refine ⟨rfl, hκ, rfl, hq, nI_le (a := 1) hb.1 (by omega), nI_le (b := 40) hb.2 (by omega), nI_pos' (by omega), nI_le (b := 20) hh (by omega), ?_⟩
      rcases (show o = 0 ∨ o = 1 by omega) with rfl | rfl
      · exact Or.inl rfl
      · exact Or.inr rfl
    · obtain ⟨r1, r2, r3, r4, r5⟩ := a4 e hx
      have hk9 : nat (addE V κ o q b h) 309 e = nat V 309 e := by unfold nat; rw [r1]
      have hk11 : nat (addE V κ o q b h) 311 e = nat V 311 e := by unfold nat; rw [r3]
      rw [hk9, hk11, r1, r2, r3, r4, r5, hQ]
      exact e1 e (by omega)
  · rw [hS] at ht
    rw [a3 314 (by omega) (by omega), a3 315 (by omega) (by omega), a3 316 (by omega) (by omega), a3 317 (by omega) (by omega), nt 314 t (by omega) (by omega), nt 315 t (by omega) (by omega), nt 316 t (by omega) (by omega), hQ]
    exact s1 t ht
  · rw [a3 318 (by omega) (by omega)]; exact m1 k hk
  · rw [a3 319 (by omega) (by omega), nt 319 c (by omega) (by omega)]; exact c1 c hc
  · rw [hH] at hk
    obtain ⟨z1, z2⟩ := h1 k hk
    rw [a3 320 (by omega) (by omega), nt 320 k (by omega) (by omega), hE]; exact ⟨z1, by omega⟩
  · unfold PrOK; rw [a2 4 (by omega), a2 5 (by omega)]; exact p1
theorem Gd.inS {V : KI} {κ q h s : Nat} (hg : Gd V) (h4 : nS V < 4) (hκ : κ < 4) (hq : q < nQ V) (hh : h ≤ 23) (hs : s ≤ 40) : Gd (addS V κ q h s) ∧ nQ (addS V κ q h s) = nQ V ∧ nE (addS V κ q h s) = nE V ∧ nS (addS V κ q h s) = nS V + 1 ∧ nH (addS V κ q h s) = nH V := by
  obtain ⟨a1, a2, a3, a4, b1, b2, b3, b4⟩ := addS_at V κ q h s
  obtain ⟨⟨⟨n1, n2, n3, n4, hnq, hne, hns, hnh⟩, q1, e1, s1, m1, c1, h1⟩, p1⟩ := hg
  have hS : nS (addS V κ q h s) = nS V + 1 := nat_n a1 (by omega)
  have hQ : nQ (addS V κ q h s) = nQ V := by unfold nQ nat; rw [a2 0 (by omega)]
  have hE : nE (addS V κ q h s) = nE V := by unfold nE nat; rw [a2 1 (by omega)]
  have hH : nH (addS V κ q h s) = nH V := by unfold nH nat; rw [a2 3 (by omega)]
  have nt : ∀ a k, a ≠ 304 → (a < 314 ∨ 317 < a) → nat (addS V κ q h s) a k = nat V a k := fun a k z1 z2 => nat_eq (a3 a z1 z2)
  refine ⟨⟨⟨⟨?_, ?_, ?_, ?_, by omega, by omega, by omega, by omega⟩, fun x hx => ?_, fun e he => ?_, fun t ht => ?_, fun k hk => ?_, fun c hc => ?_, fun k hk => ?_⟩, ?_⟩, hQ, hE, hS, hH⟩
  · rw [a2 0 (by omega), hQ]; exact n1
  · rw [a2 1 (by omega), hE]; exact n2
  · rw [a1, hS]
  · rw [a2 3 (by omega), hH]; exact n4
  · rw [hQ] at hx
    rw [a3 305 (by omega) (by omega), a3 306 (by omega) (by omega), a3 307 (by omega) (by omega), nt 305 x (by omega) (by omega)]; exact q1 x hx
  · rw [hE] at he
    rw [a3 309 (by omega) (by omega), a3 310 (by omega) (by omega), a3 311 (by omega) (by omega), a3 312 (by omega) (by omega), a3 313 (by omega) (by omega), nt 309 e (by omega) (by omega), nt 311 e (by omega) (by omega), hQ]
    exact e1 e he
  · rw [hS] at ht
    by_cases hx : t = nS V
    · subst hx
      have k4 : nat (addS V κ q h s) 314 (nS V) = κ := nat_n b1 (by omega)
      have k5 : nat (addS V κ q h s) 315 (nS V) = q := nat_n b2 (by omega)
      have k6 : nat (addS V κ q h s) 316 (nS V) = h := nat_n b3 (by omega)
      rw [k4, k5, k6, b1, b2, b3, b4, hQ]
      exact ⟨rfl, hκ, rfl, hq, rfl, by omega, nI_pos' (by omega)⟩
    · obtain ⟨r1, r2, r3, r4⟩ := a4 t hx
      have k4 : nat (addS V κ q h s) 314 t = nat V 314 t := by unfold nat; rw [r1]
      have k5 : nat (addS V κ q h s) 315 t = nat V 315 t := by unfold nat; rw [r2]
      have k6 : nat (addS V κ q h s) 316 t = nat V 316 t := by unfold nat; rw [r3]
      rw [k4, k5, k6, r1, r2, r3, r4, hQ]
      exact s1 t (by omega)
  · rw [a3 318 (by omega) (by omega)]; exact m1 k hk
  · rw [a3 319 (by omega) (by omega), nt 319 c (by omega) (by omega)]; exact c1 c hc
  · rw [hH] at hk
    rw [a3 320 (by omega) (by omega), nt 320 k (by omega) (by omega), hE]; exact h1 k hk
  · unfold PrOK; rw [a2 4 (by omega), a2 5 (by omega)]; exact p1
theorem Gd.inH {V : KI} {e f t : Nat} (hg : Gd V) (h6 : nH V < 6) (he : e < nE V) : Gd (addH V e f t) ∧ nQ (addH V e f t) = nQ V ∧ nE (addH V e f t) = nE V ∧ nS (addH V e f t) = nS V ∧ nH (addH V e f t) = nH V + 1 := by
  obtain ⟨a1, a2, a3, a4, b1, b2, b3⟩ := addH_at V e f t
  obtain ⟨⟨⟨n1, n2, n3, n4, hnq, hne, hns, hnh⟩, q1, e1, s1, m1, c1, h1⟩, p1⟩ := hg
  have hH : nH (addH V e f t) = nH V + 1 := nat_n a1 (by omega)
  have hQ : nQ (addH V e f t) = nQ V := by unfold nQ nat; rw [a2 0 (by omega)]
  have hE : nE (addH V e f t) = nE V := by unfold nE nat; rw [a2 1 (by omega)]
  have hS : nS (addH V e f t) = nS V := by unfold nS nat; rw [a2 2 (by omega)]
  have nt : ∀ a k, a ≠ 304 → (a < 320 ∨ 322 < a) → nat (addH V e f t) a k = nat V a k := fun a k z1 z2 => nat_eq (a3 a z1 z2)
  refine ⟨⟨⟨⟨?_, ?_, ?_, ?_, by omega, by omega, by omega, by omega⟩, fun x hx => ?_, fun e' he' => ?_, fun t' ht => ?_, fun k hk => ?_, fun c hc => ?_, fun k hk => ?_⟩, ?_⟩, hQ, hE, hS, hH⟩
  · rw [a2 0 (by omega), hQ]; exact n1
  · rw [a2 1 (by omega), hE]; exact n2
  · rw [a2 2 (by omega), hS]; exact n3
  · rw [a1, hH]
  · rw [hQ] at hx
    rw [a3 305 (by omega) (by omega), a3 306 (by omega) (by omega), a3 307 (by omega) (by omega), nt 305 x (by omega) (by omega)]; exact q1 x hx
  · rw [hE] at he'
    rw [a3 309 (by omega) (by omega), a3 310 (by omega) (by omega), a3 311 (by omega) (by omega), a3 312 (by omega) (by omega), a3 313 (by omega) (by omega), nt 309 e' (by omega) (by omega), nt 311 e' (by omega) (by omega), hQ]
    exact e1 e' he'
  · rw [hS] at ht
    rw [a3 314 (by omega) (by omega), a3 315 (by omega) (by omega), a3 316 (by omega) (by omega), a3 317 (by omega) (by omega), nt 314 t' (by omega) (by omega), nt 315 t' (by omega) (by omega), nt 316 t' (by omega) (by omega), hQ]
    exact s1 t' ht
  · rw [a3 318 (by omega) (by omega)]; exact m1 k hk
  · rw [a3 319 (by omega) (by omega), nt 319 c (by omega) (by omega)]; exact c1 c hc
  · rw [hH] at hk
    by_cases hx : k = nH V
    · subst hx
      have k0 : nat (addH V e f t) 320 (nH V) = e := nat_n b1 (by omega)
      rw [k0, b1, hE]; exact ⟨rfl, he⟩
    · have r1 := (a4 k hx).1
      have k0 : nat (addH V e f t) 320 k = nat V 320 k := by unfold nat; rw [r1]
      rw [k0, r1, hE]; exact h1 k (by omega)
  · unfold PrOK; rw [a2 4 (by omega), a2 5 (by omega)]; exact p1
/-- rows that NOK doesn't bound, or bounds alone, are written -/
theorem Gd.of {V V' : KI} (hg : Gd V) (h4 : ∀ k, k < 4 → V' 304 k = V 304 k) (hr : ∀ a, 305 ≤ a → a ≤ 322 → a ≠ 308 → a ≠ 318 → a ≠ 319 → V' a = V a) (hm : ∀ h, h < 24 → 0 ≤ V' 318 h ∧ V' 318 h ≤ 20) (hc : ∀ c, c < 10 → ∃ v, v < 100 ∧ V' 319 c = nI v) (hp : PrOK V') : Gd V' ∧ nQ V' = nQ V ∧ nE V' = nE V ∧ nS V' = nS V ∧ nH V' = nH V := by
  obtain ⟨⟨⟨n1, n2, n3, n4, hnq, hne, hns, hnh⟩, q1, e1, s1, m1, c1, h1⟩, p1⟩ := hg
  have hQ : nQ V' = nQ V := by unfold nQ nat; rw [h4 0 (by omega)]
  have hE : nE V' = nE V := by unfold nE nat; rw [h4 1 (by omega)]
  have hS : nS V' = nS V := by unfold nS nat; rw [h4 2 (by omega)]
  have hH : nH V' = nH V := by unfold nH nat; rw [h4 3 (by omega)]
  have nt : ∀ a k, 305 ≤ a → a ≤ 322 → a ≠ 308 → a ≠ 318 → a ≠ 319 → nat V' a k = nat V a k := fun a k z1 z2 z3 z4 z5 => nat_eq (hr a z1 z2 z3 z4 z5)
  refine ⟨⟨⟨⟨?_, ?_, ?_, ?_, by omega, by omega, by omega, by omega⟩, fun x hx => ?_, fun e' he' => ?_, fun t' ht => ?_, hm, fun c hc' => ?_, fun k hk => ?_⟩, hp⟩, hQ, hE, hS, hH⟩
  · rw [h4 0 (by omega), hQ]; exact n1
  · rw [h4 1 (by omega), hE]; exact n2
  · rw [h4 2 (by omega), hS]; exact n3
  · rw [h4 3 (by omega), hH]; exact n4
  · rw [hQ] at hx
    rw [hr 305 (by omega) (by omega) (by omega) (by omega) (by omega), hr 306 (by omega) (by omega) (by omega) (by omega) (by omega), hr 307 (by omega) (by omega) (by omega) (by omega) (by omega), nt 305 x (by omega) (by omega) (by omega) (by omega) (by omega)]; exact q1 x hx
  · rw [hE] at he'
    rw [hr 309 (by omega) (by omega) (by omega) (by omega) (by omega), hr 310 (by omega) (by omega) (by omega) (by omega) (by omega), hr 311 (by omega) (by omega) (by omega) (by omega) (by omega), hr 312 (by omega) (by omega) (by omega) (by omega) (by omega), hr 313 (by omega) (by omega) (by omega) (by omega) (by omega), nt 309 e' (by omega) (by omega) (by omega) (by omega) (by omega), nt 311 e' (by omega) (by omega) (by omega) (by omega) (by omega), hQ]
    exact e1 e' he'
  · rw [hS] at ht
    rw [hr 314 (by omega) (by omega) (by omega) (by omega) (by omega), hr 315 (by omega) (by omega) (by omega) (by omega) (by omega), hr 316 (by omega) (by omega) (by omega) (by omega) (by omega), hr 317 (by omega) (by omega) (by omega) (by omega) (by omega), nt 314 t' (by omega) (by omega) (by omega) (by omega) (by omega), nt 315 t' (by omega) (by omega) (by omega) (by omega) (by omega), nt 316 t' (by omega) (by omega) (by omega) (by omega) (by omega), hQ]
    exact s1 t' ht
  · obtain ⟨v, hv, hv2⟩ := hc c hc'
    rw [show nat V' 319 c = v from nat_n hv2 (by omega)]; exact ⟨hv2, hv⟩
  · rw [hH] at hk
    rw [hr 320 (by omega) (by omega) (by omega) (by omega) (by omega), nt 320 k (by omega) (by omega) (by omega) (by omega) (by omega), hE]; exact h1 k hk
