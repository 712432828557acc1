/-! 09i: the model reads quays, ways, moons, colds (written by src/gen09i.py and src/walk.py) -/
set_option maxRecDepth 100000
set_option maxHeartbeats 4000000
def wayT (Bt : Nat → Nat) (sz j : Nat) (S : Rd) : Except Er (Nat × Rd) :=
  Except.bind (amF Bt sz (nQ S.1) j) fun a => Except.bind (amF Bt sz (nQ S.1) a.2) fun b =>
  if a.1 = b.1 ∨ isWy S.1 a.1 b.1 then .error (4, beg Bt sz a.2) else .ok (b.2, addW S.1 a.1 b.1, S.2)
def moonT (Bt : Nat → Nat) (sz j : Nat) (S : Rd) : Except Er (Nat × Rd) :=
  Except.bind (numF Bt sz 0 23 j) fun h => if S.2.2.1 h.1 = true then .error (4, beg Bt sz j) else
  Except.bind (numF Bt sz 0 20 h.2) fun v => .ok (v.2, w2 S.1 318 h.1 (nI v.1), S.2.1, setB S.2.2.1 h.1, S.2.2.2)
def coldT (Bt : Nat → Nat) (sz j : Nat) (S : Rd) : Except Er (Nat × Rd) :=
  Except.bind (numF Bt sz 0 9 j) fun h => if S.2.2.2 h.1 = true then .error (4, beg Bt sz j) else
  Except.bind (numF Bt sz 0 99 h.2) fun v => .ok (v.2, w2 S.1 319 h.1 (nI v.1), S.2.1, S.2.2.1, setB S.2.2.2 h.1)
theorem addW_r {V : KI} {a b c : Nat} (h : c ≠ 308) : addW V a b c = V c := by unfold addW; rw [w2_r h, w2_r h]
def chW (I : KI) (a b : Nat) : KI := w2 (w2 I 308 (8 + a) (I 308 (8 + a) ||| 1 <<< (nI b &&& 31))) 308 (8 + b) (w2 I 308 (8 + a) (I 308 (8 + a) ||| 1 <<< (nI b &&& 31)) 308 (8 + b) ||| 1 <<< (nI a &&& 31))
theorem Gd.rows {V V' : KI} (hg : Gd V) (hr : ∀ a, 304 ≤ a → a ≤ 322 → a ≠ 308 → V' a = V a) : Gd V' ∧ nQ V' = nQ V ∧ nE V' = nE V ∧ nS V' = nS V ∧ nH V' = nH V := by
  refine hg.of (fun k _ => by rw [hr 304 (by omega) (by omega) (by omega)]) (fun a a1 a2 a3 _ _ => hr a (by omega) a2 a3) (fun h hh => by rw [hr 318 (by omega) (by omega) (by omega)]; exact hg.1.2.2.2.2.1 h hh) (fun c hc => ⟨nat V 319 c, (hg.1.2.2.2.2.2.1 c hc).2, by rw [hr 319 (by omega) (by omega) (by omega)]; exact (hg.1.2.2.2.2.2.1 c hc).1⟩) ?_
  unfold PrOK; rw [hr 304 (by omega) (by omega) (by omega)]; exact hg.2
theorem Gd.moon {V : KI} {h v : Nat} (hg : Gd V) (hv : v ≤ 20) : Gd (w2 V 318 h (nI v)) ∧ nQ (w2 V 318 h (nI v)) = nQ V ∧ nE (w2 V 318 h (nI v)) = nE V ∧ nS (w2 V 318 h (nI v)) = nS V ∧ nH (w2 V 318 h (nI v)) = nH V := by
  refine hg.of (fun k _ => w2_n1 (by omega)) (fun a a1 a2 a3 a4 _ => w2_r a4) (fun h' hh => ?_) (fun c hc => ⟨nat V 319 c, (hg.1.2.2.2.2.2.1 c hc).2, by rw [w2_r (by omega)]; exact (hg.1.2.2.2.2.2.1 c hc).1⟩) ?_
  · by_cases hx : h' = h
    · subst hx; rw [w2_s]; exact ⟨nI_pos' (by omega), nI_le (b := 20) hv (by omega)⟩
    · rw [w2_n2 hx]; exact hg.1.2.2.2.2.1 h' hh
  · unfold PrOK; rw [w2_r (by omega)]; exact hg.2
theorem Gd.cold {V : KI} {h v : Nat} (hg : Gd V) (hv : v ≤ 99) : Gd (w2 V 319 h (nI v)) ∧ nQ (w2 V 319 h (nI v)) = nQ V ∧ nE (w2 V 319 h (nI v)) = nE V ∧ nS (w2 V 319 h (nI v)) = nS V ∧ nH (w2 V 319 h (nI v)) = nH V := by
  refine hg.of (fun k _ => w2_n1 (by omega)) (fun a a1 a2 a3 _ a5 => w2_r a5) (fun h' hh => by rw [w2_r (by omega)]; exact hg.1.2.2.2.2.1 h' hh) (fun c hc => ?_) ?_
  · by_cases hx : c = h
    · subst hx; rw [w2_s]; exact ⟨v, by omega, rfl⟩
    · rw [w2_n2 hx]; exact ⟨nat V 319 c, (hg.1.2.2.2.2.2.1 c hc).2, (hg.1.2.2.2.2.2.1 c hc).1⟩
  · unfold PrOK; rw [w2_r (by omega)]; exact hg.2
theorem Gd.price {V : KI} {l b : Nat} (hg : Gd V) (hl : l ≤ 99) (hb : b ≤ 99) : Gd (w2 (w2 V 304 4 (nI l)) 304 5 (nI b)) ∧ nQ (w2 (w2 V 304 4 (nI l)) 304 5 (nI b)) = nQ V ∧ nE (w2 (w2 V 304 4 (nI l)) 304 5 (nI b)) = nE V ∧ nS (w2 (w2 V 304 4 (nI l)) 304 5 (nI b)) = nS V ∧ nH (w2 (w2 V 304 4 (nI l)) 304 5 (nI b)) = nH V := by
  refine hg.of (fun k hk => by rw [w2_n2 (by omega), w2_n2 (by omega)]) (fun a a1 a2 _ _ _ => by rw [w2_r (by omega), w2_r (by omega)]) (fun h hh => by rw [w2_r (by omega), w2_r (by omega)]; exact hg.1.2.2.2.2.1 h hh) (fun c hc => ⟨nat V 319 c, (hg.1.2.2.2.2.2.1 c hc).2, by rw [w2_r (by omega), w2_r (by omega)]; exact (hg.1.2.2.2.2.2.1 c hc).1⟩) ⟨l, b, by omega, by omega, by rw [w2_n2 (by omega), w2_s], w2_s _ _ _ _⟩
/-- what stands, when one row alone is other -/
theorem HfM.row {S S' : Rd} {I X : KI} (r0 : Nat) (hH : HfM S I) (hc : nQ S'.1 = nQ S.1 ∧ nE S'.1 = nE S.1 ∧ nS S'.1 = nS S.1 ∧ nH S'.1 = nH S.1) (hV : ∀ a, 304 ≤ a → a ≤ 322 → a ≠ r0 → S'.1 a = S.1 a) (hX : ∀ a, 304 ≤ a → a ≤ 322 → a ≠ r0 → X a = I a)
    (h4 : r0 = 304 → ∀ k, k < 6 → X 304 (6 + k) = S'.1 304 k) (h8 : r0 = 308 → ∀ q, q < nQ S.1 → X 308 (8 + q) = S'.1 308 q) (hm : r0 = 318 → ∀ h, h < 24 → X 318 (24 + h) = S'.1 318 h) (hw : r0 = 319 → ∀ c, c < 10 → X 319 (10 + c) = S'.1 319 c) (hr : r0 = 304 ∨ r0 = 308 ∨ r0 = 318 ∨ r0 = 319)
    (b35 : ∀ h, h < 24 → ((X 200 35 >>> (nI h &&& 31)) &&& 1 = 1 ↔ S'.2.2.1 h = true)) (b36 : ∀ c, c < 10 → ((X 200 36 >>> (nI c &&& 31)) &&& 1 = 1 ↔ S'.2.2.2 c = true)) : HfM S' X := by
  obtain ⟨k1, k2, k3, k4, k5, k6, k7, k8, k9⟩ := hH
  obtain ⟨gQ, gE, gS, gH⟩ := hc
  refine ⟨fun k hk => ?_, fun q hq => ?_, fun e he => ?_, fun s hs => ?_, fun h hh => ?_, fun c hc => ?_, fun k hk => ?_, b35, b36⟩
  · by_cases hx : r0 = 304
    · exact h4 hx k hk
    · rw [hX 304 (by omega) (by omega) (by omega), hV 304 (by omega) (by omega) (by omega)]; exact k1 k hk
  · rw [gQ] at hq
    obtain ⟨y1, y2, y3, y4⟩ := k2 q hq
    rw [hX 305 (by omega) (by omega) (by omega), hX 306 (by omega) (by omega) (by omega), hX 307 (by omega) (by omega) (by omega), hV 305 (by omega) (by omega) (by omega), hV 306 (by omega) (by omega) (by omega), hV 307 (by omega) (by omega) (by omega)]
    refine ⟨y1, y2, y3, ?_⟩
    by_cases hx : r0 = 308
    · exact h8 hx q hq
    · rw [hX 308 (by omega) (by omega) (by omega), hV 308 (by omega) (by omega) (by omega)]; exact y4
  · rw [gE] at he
    rw [hX 309 (by omega) (by omega) (by omega), hX 310 (by omega) (by omega) (by omega), hX 311 (by omega) (by omega) (by omega), hX 312 (by omega) (by omega) (by omega), hX 313 (by omega) (by omega) (by omega), hV 309 (by omega) (by omega) (by omega), hV 310 (by omega) (by omega) (by omega), hV 311 (by omega) (by omega) (by omega), hV 312 (by omega) (by omega) (by omega), hV 313 (by omega) (by omega) (by omega)]
    exact k3 e he
  · rw [gS] at hs
    rw [hX 314 (by omega) (by omega) (by omega), hX 315 (by omega) (by omega) (by omega), hX 316 (by omega) (by omega) (by omega), hX 317 (by omega) (by omega) (by omega), hV 314 (by omega) (by omega) (by omega), hV 315 (by omega) (by omega) (by omega), hV 316 (by omega) (by omega) (by omega), hV 317 (by omega) (by omega) (by omega)]
    exact k4 s hs
  · by_cases hx : r0 = 318
    · exact hm hx h hh
    · rw [hX 318 (by omega) (by omega) (by omega), hV 318 (by omega) (by omega) (by omega)]; exact k5 h hh
  · by_cases hx : r0 = 319
    · exact hw hx c hc
    · rw [hX 319 (by omega) (by omega) (by omega), hV 319 (by omega) (by omega) (by omega)]; exact k6 c hc
  · rw [gH] at hk
    rw [hX 320 (by omega) (by omega) (by omega), hX 321 (by omega) (by omega) (by omega), hX 322 (by omega) (by omega) (by omega), hV 320 (by omega) (by omega) (by omega), hV 321 (by omega) (by omega) (by omega), hV 322 (by omega) (by omega) (by omega)]
    exact k7 k hk
theorem StM.w35 {Bt : Nat → Nat} {sz : Nat} {x : Except Er Nat} {I : KI} {k : Nat} {v : Int32} (h : StM Bt sz x I) (hk : 33 < k) : StM Bt sz x (w2 I 200 k v) := by
  have e : ∀ j, j ≤ 33 → w2 I 200 k v 200 j = I 200 j := fun j hj => w2_n2 (by omega)
  rcases x with er | i
  · show w2 I 200 k v 200 32 = nI er.1 ∧ w2 I 200 k v 200 33 = nI er.2 ∧ _
    rw [e 32 (by omega), e 33 (by omega)]; exact h
  · show i ≤ sz ∧ w2 I 200 k v 200 32 = 0 ∧ TkM Bt sz i (w2 I 200 k v)
    unfold TkM
    rw [e 32 (by omega), e 26 (by omega), e 28 (by omega), e 30 (by omega), e 31 (by omega), e 29 (by omega)]; exact h
theorem TxM.w35 {Bt : Nat → Nat} {sz : Nat} {I : KI} {k : Nat} {v : Int32} (h : TxM Bt sz I) (hk : 33 < k) : TxM Bt sz (w2 I 200 k v) := by
  unfold TxM
  rw [w2_n2 (show 27 ≠ k by omega), w2_r (show 324 ≠ 200 by omega)]; exact h
theorem HfM.price {S : Rd} {I X : KI} {l b : Nat} (hH : HfM S I) (hg : nQ (w2 (w2 S.1 304 4 (nI l)) 304 5 (nI b)) = nQ S.1 ∧ nE (w2 (w2 S.1 304 4 (nI l)) 304 5 (nI b)) = nE S.1 ∧ nS (w2 (w2 S.1 304 4 (nI l)) 304 5 (nI b)) = nS S.1 ∧ nH (w2 (w2 S.1 304 4 (nI l)) 304 5 (nI b)) = nH S.1) (hz : Zr I (w2 (w2 I 304 10 (nI l)) 304 11 (nI b)) X) : HfM (w2 (w2 S.1 304 4 (nI l)) 304 5 (nI b), true, S.2.2) X := by
  refine hH.row 304 hg (fun a _ _ a3 => by show w2 (w2 S.1 304 4 (nI l)) 304 5 (nI b) a = S.1 a; rw [w2_r a3, w2_r a3]) (fun a a1 a2 a3 => by rw [hz.1 a (by omega), w2_r a3, w2_r a3]) (fun _ k hk => ?_) (fun h => by omega) (fun h => by omega) (fun h => by omega) (Or.inl rfl) (by rw [hz.2 35 (by omega)]; exact hH.2.2.2.2.2.2.2.1) (by rw [hz.2 36 (by omega)]; exact hH.2.2.2.2.2.2.2.2)
  show X 304 (6 + k) = w2 (w2 S.1 304 4 (nI l)) 304 5 (nI b) 304 k
  rw [hz.1 304 (by omega)]
  by_cases h5 : k = 5
  · subst h5; exact (w2_s (w2 I 304 10 (nI l)) 304 11 (nI b)).trans (w2_s _ _ _ _).symm
  · rw [w2_n2 (show 6 + k ≠ 11 by omega), w2_n2 h5]
    by_cases h4 : k = 4
    · subst h4; exact (w2_s I 304 10 (nI l)).trans (w2_s _ _ _ _).symm
    · rw [w2_n2 (show 6 + k ≠ 10 by omega), w2_n2 h4]; exact hH.1 k hk
theorem HfM.way {S : Rd} {I X : KI} {a b : Nat} (hH : HfM S I) (hg : nQ (addW S.1 a b) = nQ S.1 ∧ nE (addW S.1 a b) = nE S.1 ∧ nS (addW S.1 a b) = nS S.1 ∧ nH (addW S.1 a b) = nH S.1) (ha : a < nQ S.1) (hb : b < nQ S.1) (hz : Zr I (chW I a b) X) : HfM (addW S.1 a b, S.2) X := by
  refine hH.row 308 hg (fun c _ _ a3 => addW_r a3) (fun c a1 a2 a3 => by rw [hz.1 c (by omega)]; unfold chW; rw [w2_r a3, w2_r a3]) (fun h => by omega) (fun _ q hq => ?_) (fun h => by omega) (fun h => by omega) (Or.inr (Or.inl rfl)) (by rw [hz.2 35 (by omega)]; exact hH.2.2.2.2.2.2.2.1) (by rw [hz.2 36 (by omega)]; exact hH.2.2.2.2.2.2.2.2)
  have e8 : ∀ q, q < nQ S.1 → I 308 (8 + q) = S.1 308 q := fun q hq => (hH.2.1 q hq).2.2.2
  have w8 : ∀ q, q < nQ S.1 → w2 I 308 (8 + a) (I 308 (8 + a) ||| 1 <<< (nI b &&& 31)) 308 (8 + q) = w2 S.1 308 a (S.1 308 a ||| 1 <<< (nI b &&& 31)) 308 q := fun q hq => by
    by_cases hx : q = a
    · subst hx; rw [w2_s, w2_s, e8 q hq]
    · rw [w2_n2 (by omega), w2_n2 hx]; exact e8 q hq
  show X 308 (8 + q) = addW S.1 a b 308 q
  rw [hz.1 308 (by omega)]
  unfold chW addW
  by_cases hx : q = b
  · subst hx; rw [w2_s, w2_s, w8 q hq]
  · rw [w2_n2 (show 8 + q ≠ 8 + b by omega), w2_n2 hx]; exact w8 q hq
theorem HfM.moon {S : Rd} {I X : KI} {h v : Nat} (hH : HfM S I) (hg : nQ (w2 S.1 318 h (nI v)) = nQ S.1 ∧ nE (w2 S.1 318 h (nI v)) = nE S.1 ∧ nS (w2 S.1 318 h (nI v)) = nS S.1 ∧ nH (w2 S.1 318 h (nI v)) = nH S.1) (hh : h < 24) (hz : ∀ a, a ≠ 200 → X a = w2 I 318 (24 + h) (nI v) a) (hb : X 200 35 = I 200 35 ||| 1 <<< (nI h &&& 31)) (ho : X 200 36 = I 200 36) : HfM (w2 S.1 318 h (nI v), S.2.1, setB S.2.2.1 h, S.2.2.2) X := by
  refine hH.row 318 hg (fun a _ _ a3 => w2_r a3) (fun a a1 a2 a3 => by rw [hz a (by omega)]; exact w2_r a3) (fun h => by omega) (fun h => by omega) (fun _ h1 hh1 => ?_) (fun h => by omega) (Or.inr (Or.inr (Or.inl rfl))) (fun h' hh' => by
    rw [hb, bit_iff _ (by omega), bit_set _ (by omega) (by omega)]
    have := hH.2.2.2.2.2.2.2.1 h' hh'
    rw [bit_iff _ (by omega)] at this
    show _ ↔ setB S.2.2.1 h h' = true
    unfold setB
    by_cases hx : h' = h
    · rw [if_pos hx, decide_eq_true hx, Bool.or_true]
    · rw [if_neg hx, decide_eq_false hx, Bool.or_false]; exact this) (by rw [ho]; exact hH.2.2.2.2.2.2.2.2)
  show X 318 (24 + h1) = w2 S.1 318 h (nI v) 318 h1
  rw [hz 318 (by omega)]
  by_cases hx : h1 = h
  · subst hx; rw [w2_s, w2_s]
  · rw [w2_n2 (by omega), w2_n2 hx]; exact hH.2.2.2.2.1 h1 hh1
theorem HfM.cold {S : Rd} {I X : KI} {h v : Nat} (hH : HfM S I) (hg : nQ (w2 S.1 319 h (nI v)) = nQ S.1 ∧ nE (w2 S.1 319 h (nI v)) = nE S.1 ∧ nS (w2 S.1 319 h (nI v)) = nS S.1 ∧ nH (w2 S.1 319 h (nI v)) = nH S.1) (hh : h < 10) (hz : ∀ a, a ≠ 200 → X a = w2 I 319 (10 + h) (nI v) a) (hb : X 200 36 = I 200 36 ||| 1 <<< (nI h &&& 31)) (ho : X 200 35 = I 200 35) : HfM (w2 S.1 319 h (nI v), S.2.1, S.2.2.1, setB S.2.2.2 h) X := by
  refine hH.row 319 hg (fun a _ _ a3 => w2_r a3) (fun a a1 a2 a3 => by rw [hz a (by omega)]; exact w2_r a3) (fun h => by omega) (fun h => by omega) (fun h => by omega) (fun _ h1 hh1 => ?_) (Or.inr (Or.inr (Or.inr rfl))) (by rw [ho]; exact hH.2.2.2.2.2.2.2.1) (fun h' hh' => by
    rw [hb, bit_iff _ (by omega), bit_set _ (by omega) (by omega)]
    have := hH.2.2.2.2.2.2.2.2 h' hh'
    rw [bit_iff _ (by omega)] at this
    show _ ↔ setB S.2.2.2 h h' = true
    unfold setB
    by_cases hx : h' = h
    · rw [if_pos hx, decide_eq_true hx, Bool.or_true]
    · rw [if_neg hx, decide_eq_false hx, Bool.or_false]; exact this)
  show X 319 (10 + h1) = w2 S.1 319 h (nI v) 319 h1
  rw [hz 319 (by omega)]
  by_cases hx : h1 = h
  · subst hx; rw [w2_s, w2_s]
  · rw [w2_n2 (by omega), w2_n2 hx]; exact hH.2.2.2.2.2.1 h1 hh1
section MLI
variable {T : KT} {I : KI} {R : KR} {J : KJ} {Bt : Nat → Nat} {sz : Nat}
theorem c_X5_readWay {j : Nat} {S : Rd} (hT : XT T) (hR : XRf R) (hX : TxM Bt sz I) (hx : StM Bt sz (.ok j) I) (hH : HfM S I) (hg : Gd S.1) : MX5_readWay 4 0 [.ref 200] T I R J (qI (fun r I' => r = none ∧ TF I I' ∧ LnP Bt sz (wayT Bt sz j S) I') T R J) noX := by
  have hN := hg.1
  obtain ⟨⟨n1, n2, n3, n4, hnq, hne, hns, hnh⟩, -⟩ := id hN
  have m6 : I 304 (6 + 0) = nI (nQ S.1) := (hH.1 0 (by omega)).trans n1
  have hl : wayT Bt sz j S = Except.bind (amF Bt sz (nQ S.1) j) fun a => Except.bind (amF Bt sz (nQ S.1) a.2) fun b => if a.1 = b.1 ∨ isWy S.1 a.1 b.1 then .error (4, beg Bt sz a.2) else .ok (b.2, addW S.1 a.1 b.1, S.2) := rfl
  refine AMet.of (by decide) (Nat.le_of_ble_eq_true rfl) (cats1 rfl) fun cx X E => ?_
  show AW _ _ _ (_ :: _ :: _ :: []) _ _ _ _ _
  have err : ∀ e I' l1 l2, wayT Bt sz j S = .error e → SF I I' → StM Bt sz (.error e) I' → AW cx 0 46 [.ref 200, l1, l2] [] T I' R J := by
    intro e I' l1 l2 hw hf hs
    first | refine AW.aload_n X dX5_readWay_46 rfl rfl ?_ | refine AW.aloadN_n X dX5_readWay_46 rfl rfl ?_
    refine AW.getI X f_X5_239_18 (by first | assumption | exact hT _ _ rfl) dX5_readWay_47 ?_
    refine AW.if_eq X (tgt := 54) dX5_readWay_50 rfl ?_ ?_
    · intro t50
      exact absurd t50 hs.bad
    · intro f50
      refine AW.vreturn X E ?_ dX5_readWay_53
      exact ⟨rfl, rfl, rfl, rfl, hf.tf, by rw [hw]; exact hs⟩
  rcases e1 : amF Bt sz (nQ S.1) j with er | a
  · have g1 : gsX (.ok j) (amF Bt sz (nQ S.1)) = .error er := gsX_er rfl e1
    have hw : wayT Bt sz j S = .error er := by rw [hl, e1]; rfl
    first | refine AW.aload_n X dX5_readWay_0 rfl rfl ?_ | refine AW.aloadN_n X dX5_readWay_0 rfl rfl ?_
    refine AW.iconst X (v := 0) dX5_readWay_1 rfl ?_
    refine AW.callV_i X (c_X5_readOne (w := 0) (m := nQ S.1) hT hR hX hx (by omega) m6 (by omega)) (ci := 18) (q := (RX5, TX5, 74)) (by first | assumption | exact hT _ _ rfl) rfl s_X5_280_18 (by omega) (Nat.le_of_ble_eq_true rfl) rfl rfl (Nat.le_of_ble_eq_true rfl) dX5_readWay_2 ?_
    intro r2 I2 h2
    obtain ⟨rfl, q1, q2⟩ := h2
    rw [g1] at q2
    refine AW.istore1 X dX5_readWay_5 ?_
    first | refine AW.aload_n X dX5_readWay_6 rfl rfl ?_ | refine AW.aloadN_n X dX5_readWay_6 rfl rfl ?_
    refine AW.iconst X (v := 0) dX5_readWay_7 rfl ?_
    refine AW.callV_i X (c_X5_oneNow (w := 0) (m := nQ S.1) hT hR (hX.sf q1) q2 (by omega) (by rw [q1.1 304 (by omega)]; exact m6) (by omega)) (ci := 18) (q := (RX5, TX5, 74)) (by first | assumption | exact hT _ _ rfl) rfl s_X5_267_18 (by omega) (Nat.le_of_ble_eq_true rfl) rfl rfl (Nat.le_of_ble_eq_true rfl) dX5_readWay_8 ?_
    intro r8 I8 h8
    obtain ⟨rfl, u1, u2⟩ := h8
    refine AW.istore2 X dX5_readWay_11 ?_
    first | refine AW.aload_n X dX5_readWay_12 rfl rfl ?_ | refine AW.aloadN_n X dX5_readWay_12 rfl rfl ?_
    refine AW.getI X f_X5_239_18 (by first | assumption | exact hT _ _ rfl) dX5_readWay_13 ?_
    refine AW.if_ne X (tgt := 46) dX5_readWay_16 rfl ?_ ?_
    · intro t16
      exact err er _ _ _ hw (q1.tr u1) u2
    · intro f16
      exact absurd f16 (StM.bad (e := er) u2)
  · have g1 : gsX (.ok j) (amF Bt sz (nQ S.1)) = .ok a.2 := gsX_ok rfl e1
    have v1 : vOf ((Except.ok j).bind (amF Bt sz (nQ S.1))) = nI a.1 := vOf_ok rfl e1
    have ha := amF_en e1
    rcases e2 : amF Bt sz (nQ S.1) a.2 with er | b
    · have g2 : fsX (.ok a.2) (amF Bt sz (nQ S.1)) = .error er := by show ((amF Bt sz (nQ S.1) a.2).bind fun _ => .ok a.2) = _; rw [e2]; rfl
      have hw : wayT Bt sz j S = .error er := by rw [hl, e1]; show Except.bind (amF Bt sz (nQ S.1) a.2) _ = _; rw [e2]; rfl
      first | refine AW.aload_n X dX5_readWay_0 rfl rfl ?_ | refine AW.aloadN_n X dX5_readWay_0 rfl rfl ?_
      refine AW.iconst X (v := 0) dX5_readWay_1 rfl ?_
      refine AW.callV_i X (c_X5_readOne (w := 0) (m := nQ S.1) hT hR hX hx (by omega) m6 (by omega)) (ci := 18) (q := (RX5, TX5, 74)) (by first | assumption | exact hT _ _ rfl) rfl s_X5_280_18 (by omega) (Nat.le_of_ble_eq_true rfl) rfl rfl (Nat.le_of_ble_eq_true rfl) dX5_readWay_2 ?_
      intro r2 I2 h2
      obtain ⟨rfl, q1, q2⟩ := h2
      rw [g1] at q2
      refine AW.istore1 X dX5_readWay_5 ?_
      first | refine AW.aload_n X dX5_readWay_6 rfl rfl ?_ | refine AW.aloadN_n X dX5_readWay_6 rfl rfl ?_
      refine AW.iconst X (v := 0) dX5_readWay_7 rfl ?_
      refine AW.callV_i X (c_X5_oneNow (w := 0) (m := nQ S.1) hT hR (hX.sf q1) q2 (by omega) (by rw [q1.1 304 (by omega)]; exact m6) (by omega)) (ci := 18) (q := (RX5, TX5, 74)) (by first | assumption | exact hT _ _ rfl) rfl s_X5_267_18 (by omega) (Nat.le_of_ble_eq_true rfl) rfl rfl (Nat.le_of_ble_eq_true rfl) dX5_readWay_8 ?_
      intro r8 I8 h8
      obtain ⟨rfl, u1, u2⟩ := h8
      rw [g2] at u2
      refine AW.istore2 X dX5_readWay_11 ?_
      first | refine AW.aload_n X dX5_readWay_12 rfl rfl ?_ | refine AW.aloadN_n X dX5_readWay_12 rfl rfl ?_
      refine AW.getI X f_X5_239_18 (by first | assumption | exact hT _ _ rfl) dX5_readWay_13 ?_
      refine AW.if_ne X (tgt := 46) dX5_readWay_16 rfl ?_ ?_
      · intro t16
        exact err er _ _ _ hw (q1.tr u1) u2
      · intro f16
        exact absurd f16 (StM.bad (e := er) u2)
    · have g2 : fsX (.ok a.2) (amF Bt sz (nQ S.1)) = .ok a.2 := by show ((amF Bt sz (nQ S.1) a.2).bind fun _ => .ok a.2) = _; rw [e2]; rfl
      have v2 : vOf ((Except.ok a.2).bind (amF Bt sz (nQ S.1))) = nI b.1 := vOf_ok rfl e2
      have hb := amF_en e2
      have hw0 : wayT Bt sz j S = if a.1 = b.1 ∨ isWy S.1 a.1 b.1 then .error (4, beg Bt sz a.2) else .ok (b.2, addW S.1 a.1 b.1, S.2) := by rw [hl, e1]; show Except.bind (amF Bt sz (nQ S.1) a.2) _ = _; rw [e2]; rfl
      have e308 : I 308 (8 + a.1) = S.1 308 a.1 := (hH.2.1 a.1 ha.2.1).2.2.2
      have wr : ∀ I', SF I I' → StM Bt sz (.ok a.2) I' → TxM Bt sz I' → (a.1 = b.1 ∨ isWy S.1 a.1 b.1) → AW cx 0 41 [.ref 200, .int (nI a.1), .int (nI b.1)] [] T I' R J := by
        intro I' hf hs hx' hc
        rw [if_pos hc] at hw0
        first | refine AW.aload_n X dX5_readWay_41 rfl rfl ?_ | refine AW.aloadN_n X dX5_readWay_41 rfl rfl ?_
        refine AW.iconst X (v := 4) dX5_readWay_42 rfl ?_
        refine AW.callV_i X (c_X5_wrong hT hs (k := 4) (by omega) (by omega)) (ci := 18) (q := (RX5, TX5, 74)) (by first | assumption | exact hT _ _ rfl) rfl s_X5_260_18 (by omega) (Nat.le_of_ble_eq_true rfl) rfl rfl (Nat.le_of_ble_eq_true rfl) dX5_readWay_43 ?_
        intro r43 I43 h43
        obtain ⟨rfl, y1, y2⟩ := h43
        exact err (4, beg Bt sz a.2) _ _ _ hw0 (hf.tr y1) y2
      have go : ∀ I', SF I I' → StM Bt sz (.ok a.2) I' → TxM Bt sz I' → ¬ (a.1 = b.1 ∨ isWy S.1 a.1 b.1) → AW cx 0 46 [.ref 200, .int (nI a.1), .int (nI b.1)] [] T I' R J := by
        intro I' hf hs hx' hc
        rw [if_neg hc] at hw0
        obtain ⟨p1, p2, p3⟩ := hs
        have hgw := hg.rows (V' := addW S.1 a.1 b.1) (fun c _ _ c3 => addW_r c3)
        first | refine AW.aload_n X dX5_readWay_46 rfl rfl ?_ | refine AW.aloadN_n X dX5_readWay_46 rfl rfl ?_
        refine AW.getI X f_X5_239_18 (by first | assumption | exact hT _ _ rfl) dX5_readWay_47 ?_
        rw [p2]
        refine AW.if_eq X (tgt := 54) dX5_readWay_50 rfl ?_ ?_
        · intro t50
          first | refine AW.aload_n X dX5_readWay_54 rfl rfl ?_ | refine AW.aloadN_n X dX5_readWay_54 rfl rfl ?_
          refine AW.callV_i X (c_X5_stepOn hT hR hx' (en_sz p1) p3.1) (ci := 18) (q := (RX5, TX5, 74)) (by first | assumption | exact hT _ _ rfl) rfl s_X5_257_18 (by omega) (Nat.le_of_ble_eq_true rfl) rfl rfl (Nat.le_of_ble_eq_true rfl) dX5_readWay_55 ?_
          intro r55 I55 h55
          obtain ⟨rfl, y1, y2⟩ := h55
          have z0 := (Zr.rf.sf hf).sf y1.sf
          first | refine AW.aload_n X dX5_readWay_58 rfl rfl ?_ | refine AW.aloadN_n X dX5_readWay_58 rfl rfl ?_
          refine AW.getR X f_X5_58_18 (by first | assumption | exact hT _ _ rfl) (by first | assumption | exact hR _ _ _ rfl) dX5_readWay_59 ?_
          refine AW.bipush X (v := 8) dX5_readWay_62 rfl ?_
          refine AW.iload_n X dX5_readWay_64 rfl rfl ?_
          refine AW.iadd X dX5_readWay_65 ?_
          refine AW.dup2 X dX5_readWay_66 rfl rfl ?_
          refine AW.iald X (j := 8 + a.1) (by first | assumption | exact hT _ _ rfl) (by repeat (first | with_reducible exact rfl | assumption | exact ix_l _ | apply ix_add | apply ix_mul)) (by omega) dX5_readWay_67 ?_
          rw [z0.1 308 (by omega)]
          refine AW.iconst X (v := 1) dX5_readWay_68 rfl ?_
          refine AW.iload_n X dX5_readWay_69 rfl rfl ?_
          refine AW.ishl X dX5_readWay_70 ?_
          refine AW.ior X dX5_readWay_71 ?_
          refine AW.iast X (j := 8 + a.1) (by omega) (by first | assumption | exact hT _ _ rfl) (by repeat (first | with_reducible exact rfl | assumption | exact ix_l _ | apply ix_add | apply ix_mul)) (by omega) dX5_readWay_72 ?_
          have z1 := z0.w (b := 308) (k := 8 + a.1) (v := I 308 (8 + a.1) ||| 1 <<< (nI b.1 &&& 31)) (by omega)
          first | refine AW.aload_n X dX5_readWay_73 rfl rfl ?_ | refine AW.aloadN_n X dX5_readWay_73 rfl rfl ?_
          refine AW.getR X f_X5_58_18 (by first | assumption | exact hT _ _ rfl) (by first | assumption | exact hR _ _ _ rfl) dX5_readWay_74 ?_
          refine AW.bipush X (v := 8) dX5_readWay_77 rfl ?_
          refine AW.iload_n X dX5_readWay_79 rfl rfl ?_
          refine AW.iadd X dX5_readWay_80 ?_
          refine AW.dup2 X dX5_readWay_81 rfl rfl ?_
          refine AW.iald X (j := 8 + b.1) (by first | assumption | exact hT _ _ rfl) (by repeat (first | with_reducible exact rfl | assumption | exact ix_l _ | apply ix_add | apply ix_mul)) (by omega) dX5_readWay_82 ?_
          rw [z1.1 308 (by omega)]
          refine AW.iconst X (v := 1) dX5_readWay_83 rfl ?_
          refine AW.iload_n X dX5_readWay_84 rfl rfl ?_
          refine AW.ishl X dX5_readWay_85 ?_
          refine AW.ior X dX5_readWay_86 ?_
          refine AW.iast X (j := 8 + b.1) (by omega) (by first | assumption | exact hT _ _ rfl) (by repeat (first | with_reducible exact rfl | assumption | exact ix_l _ | apply ix_add | apply ix_mul)) (by omega) dX5_readWay_87 ?_
          refine AW.vreturn X E ?_ dX5_readWay_88
          have z2 := z1.w (b := 308) (k := 8 + b.1) (v := w2 I 308 (8 + a.1) (I 308 (8 + a.1) ||| 1 <<< (nI b.1 &&& 31)) 308 (8 + b.1) ||| 1 <<< (nI a.1 &&& 31)) (by omega)
          refine ⟨rfl, rfl, rfl, rfl, z2.tf ((TFr.rf.w (by omega) (by omega) (by show 8 ≤ _; omega)).w (by omega) (by omega) (by show 8 ≤ _; omega)), ?_⟩
          rw [hw0]
          refine ⟨?_, hH.way hgw.2 ha.2.1 hb.2.1 z2, hgw.1⟩
          have hst : StM Bt sz (.ok b.2) I55 := by rw [hb.1]; exact ⟨en_sz p1, (y1.2 32 (by omega)).trans p2, y2⟩
          exact (hst.w (by omega)).w (by omega)
        · intro f50
          exact absurd rfl f50
      first | refine AW.aload_n X dX5_readWay_0 rfl rfl ?_ | refine AW.aloadN_n X dX5_readWay_0 rfl rfl ?_
      refine AW.iconst X (v := 0) dX5_readWay_1 rfl ?_
      refine AW.callV_i X (c_X5_readOne (w := 0) (m := nQ S.1) hT hR hX hx (by omega) m6 (by omega)) (ci := 18) (q := (RX5, TX5, 74)) (by first | assumption | exact hT _ _ rfl) rfl s_X5_280_18 (by omega) (Nat.le_of_ble_eq_true rfl) rfl rfl (Nat.le_of_ble_eq_true rfl) dX5_readWay_2 ?_
      intro r2 I2 h2
      obtain ⟨rfl, q1, q2⟩ := h2
      rw [g1] at q2
      rw [v1]
      refine AW.istore1 X dX5_readWay_5 ?_
      first | refine AW.aload_n X dX5_readWay_6 rfl rfl ?_ | refine AW.aloadN_n X dX5_readWay_6 rfl rfl ?_
      refine AW.iconst X (v := 0) dX5_readWay_7 rfl ?_
      refine AW.callV_i X (c_X5_oneNow (w := 0) (m := nQ S.1) hT hR (hX.sf q1) q2 (by omega) (by rw [q1.1 304 (by omega)]; exact m6) (by omega)) (ci := 18) (q := (RX5, TX5, 74)) (by first | assumption | exact hT _ _ rfl) rfl s_X5_267_18 (by omega) (Nat.le_of_ble_eq_true rfl) rfl rfl (Nat.le_of_ble_eq_true rfl) dX5_readWay_8 ?_
      intro r8 I8 h8
      obtain ⟨rfl, u1, u2⟩ := h8
      rw [g2] at u2
      rw [v2]
      refine AW.istore2 X dX5_readWay_11 ?_
      first | refine AW.aload_n X dX5_readWay_12 rfl rfl ?_ | refine AW.aloadN_n X dX5_readWay_12 rfl rfl ?_
      refine AW.getI X f_X5_239_18 (by first | assumption | exact hT _ _ rfl) dX5_readWay_13 ?_
      rw [u2.2.1]
      refine AW.if_ne X (tgt := 46) dX5_readWay_16 rfl ?_ ?_
      · intro t16
        exact absurd rfl t16
      · intro f16
        refine AW.iload_n X dX5_readWay_19 rfl rfl ?_
        refine AW.iload_n X dX5_readWay_20 rfl rfl ?_
        refine AW.icmp_eq X (tgt := 41) dX5_readWay_21 rfl ?_ ?_
        · intro t21
          exact wr _ (q1.tr u1) u2 (hX.sf (q1.tr u1)) (Or.inl ((nI_eq (by omega) (by omega)).mp t21))
        · intro f21
          first | refine AW.aload_n X dX5_readWay_24 rfl rfl ?_ | refine AW.aloadN_n X dX5_readWay_24 rfl rfl ?_
          refine AW.getR X f_X5_58_18 (by first | assumption | exact hT _ _ rfl) (by first | assumption | exact hR _ _ _ rfl) dX5_readWay_25 ?_
          refine AW.bipush X (v := 8) dX5_readWay_28 rfl ?_
          refine AW.iload_n X dX5_readWay_30 rfl rfl ?_
          refine AW.iadd X dX5_readWay_31 ?_
          refine AW.iald X (j := 8 + a.1) (by first | assumption | exact hT _ _ rfl) (by repeat (first | with_reducible exact rfl | assumption | exact ix_l _ | apply ix_add | apply ix_mul)) (by omega) dX5_readWay_32 ?_
          rw [(q1.tr u1).1 308 (by omega), e308]
          refine AW.iload_n X dX5_readWay_33 rfl rfl ?_
          refine AW.ishr X dX5_readWay_34 ?_
          refine AW.iconst X (v := 1) dX5_readWay_35 rfl ?_
          refine AW.iand X dX5_readWay_36 ?_
          refine AW.iconst X (v := 1) dX5_readWay_37 rfl ?_
          refine AW.icmp_ne X (tgt := 46) dX5_readWay_38 rfl ?_ ?_
          · intro t38
            exact go _ (q1.tr u1) u2 (hX.sf (q1.tr u1)) (fun z => z.elim (fun z => f21 (by rw [z])) (fun z => t38 z))
          · intro f38
            exact wr _ (q1.tr u1) u2 (hX.sf (q1.tr u1)) (Or.inr f38)
theorem c_X5_readMoon {j : Nat} {S : Rd} (hT : XT T) (hR : XRf R) (hX : TxM Bt sz I) (hx : StM Bt sz (.ok j) I) (hH : HfM S I) (hg : Gd S.1) : MX5_readMoon 4 0 [.ref 200] T I R J (qI (fun r I' => r = none ∧ TF I I' ∧ LnP Bt sz (moonT Bt sz j S) I') T R J) noX := by
  have hl : moonT Bt sz j S = Except.bind (numF Bt sz 0 23 j) fun h => if S.2.2.1 h.1 = true then .error (4, beg Bt sz j) else Except.bind (numF Bt sz 0 20 h.2) fun v => .ok (v.2, w2 S.1 318 h.1 (nI v.1), S.2.1, setB S.2.2.1 h.1, S.2.2.2) := rfl
  refine AMet.of (by decide) (Nat.le_of_ble_eq_true rfl) (cats1 rfl) fun cx X E => ?_
  show AW _ _ _ (_ :: _ :: []) _ _ _ _ _
  have err : ∀ e I' l1, moonT Bt sz j S = .error e → SF I I' → StM Bt sz (.error e) I' → AW cx 0 32 [.ref 200, l1] [] T I' R J := by
    intro e I' l1 hw hf hs
    first | refine AW.aload_n X dX5_readMoon_32 rfl rfl ?_ | refine AW.aloadN_n X dX5_readMoon_32 rfl rfl ?_
    refine AW.getI X f_X5_239_18 (by first | assumption | exact hT _ _ rfl) dX5_readMoon_33 ?_
    refine AW.if_eq X (tgt := 40) dX5_readMoon_36 rfl ?_ ?_
    · intro t36
      exact absurd t36 hs.bad
    · intro f36
      refine AW.vreturn X E ?_ dX5_readMoon_39
      exact ⟨rfl, rfl, rfl, rfl, hf.tf, by rw [hw]; exact hs⟩
  rcases e1 : numF Bt sz 0 23 j with er | h
  · have g1 : fsX (.ok j) (numF Bt sz 0 23) = .error er := by show ((numF Bt sz 0 23 j).bind fun _ => .ok j) = _; rw [e1]; rfl
    have hw : moonT Bt sz j S = .error er := by rw [hl, e1]; rfl
    first | refine AW.aload_n X dX5_readMoon_0 rfl rfl ?_ | refine AW.aloadN_n X dX5_readMoon_0 rfl rfl ?_
    refine AW.iconst X (v := 0) dX5_readMoon_1 rfl ?_
    refine AW.bipush X (v := 23) dX5_readMoon_2 rfl ?_
    refine AW.callV_i X (c_X5_numberNow (lo := 0) (hi := 23) hT hX hx (by omega) (by omega)) (ci := 18) (q := (RX5, TX5, 74)) (by first | assumption | exact hT _ _ rfl) rfl s_X5_264_18 (by omega) (Nat.le_of_ble_eq_true rfl) rfl rfl (Nat.le_of_ble_eq_true rfl) dX5_readMoon_4 ?_
    intro r4 I4 h4
    obtain ⟨rfl, q1, q2⟩ := h4
    rw [g1] at q2
    refine AW.istore1 X dX5_readMoon_7 ?_
    first | refine AW.aload_n X dX5_readMoon_8 rfl rfl ?_ | refine AW.aloadN_n X dX5_readMoon_8 rfl rfl ?_
    refine AW.getI X f_X5_239_18 (by first | assumption | exact hT _ _ rfl) dX5_readMoon_9 ?_
    refine AW.if_ne X (tgt := 32) dX5_readMoon_12 rfl ?_ ?_
    · intro t12
      exact err er _ _ hw q1 q2
    · intro f12
      exact absurd f12 (StM.bad (e := er) q2)
  · have g1 : fsX (.ok j) (numF Bt sz 0 23) = .ok j := by show ((numF Bt sz 0 23 j).bind fun _ => .ok j) = _; rw [e1]; rfl
    have v1 : vOf ((Except.ok j).bind (numF Bt sz 0 23)) = nI h.1 := vOf_ok rfl e1
    have hh := numF_en e1
    have hbit := hH.2.2.2.2.2.2.2.1 h.1 (by omega)
    have hw0 : moonT Bt sz j S = if S.2.2.1 h.1 = true then .error (4, beg Bt sz j) else Except.bind (numF Bt sz 0 20 h.2) fun v => .ok (v.2, w2 S.1 318 h.1 (nI v.1), S.2.1, setB S.2.2.1 h.1, S.2.2.2) := by rw [hl, e1]; rfl
    have go : ∀ I', SF I I' → StM Bt sz (.ok j) I' → TxM Bt sz I' → ¬ S.2.2.1 h.1 = true → AW cx 0 32 [.ref 200, .int (nI h.1)] [] T I' R J := by
      intro I' hf hs hx' hc
      rw [if_neg hc] at hw0
      obtain ⟨p1, p2, p3⟩ := hs
      first | refine AW.aload_n X dX5_readMoon_32 rfl rfl ?_ | refine AW.aloadN_n X dX5_readMoon_32 rfl rfl ?_
      refine AW.getI X f_X5_239_18 (by first | assumption | exact hT _ _ rfl) dX5_readMoon_33 ?_
      rw [p2]
      refine AW.if_eq X (tgt := 40) dX5_readMoon_36 rfl ?_ ?_
      · intro t36
        first | refine AW.aload_n X dX5_readMoon_40 rfl rfl ?_ | refine AW.aloadN_n X dX5_readMoon_40 rfl rfl ?_
        refine AW.dup X dX5_readMoon_41 rfl ?_
        refine AW.getI X f_X5_283_18 (by first | assumption | exact hT _ _ rfl) dX5_readMoon_42 ?_
        rw [hf.2 35 (by omega)]
        refine AW.iconst X (v := 1) dX5_readMoon_45 rfl ?_
        refine AW.iload_n X dX5_readMoon_46 rfl rfl ?_
        refine AW.ishl X dX5_readMoon_47 ?_
        refine AW.ior X dX5_readMoon_48 ?_
        refine AW.putI X g_X5_readMoon_283_18 (by omega) (by first | assumption | exact hT _ _ rfl) dX5_readMoon_49 ?_ 
        first | refine AW.aload_n X dX5_readMoon_52 rfl rfl ?_ | refine AW.aloadN_n X dX5_readMoon_52 rfl rfl ?_
        refine AW.callV_i X (c_X5_stepOn hT hR (hx'.w35 (by omega)) (en_sz p1) ((w2_n2 (by omega)).trans p3.1)) (ci := 18) (q := (RX5, TX5, 74)) (by first | assumption | exact hT _ _ rfl) rfl s_X5_257_18 (by omega) (Nat.le_of_ble_eq_true rfl) rfl rfl (Nat.le_of_ble_eq_true rfl) dX5_readMoon_53 ?_
        intro r53 I53 h53
        obtain ⟨rfl, y1, y2⟩ := h53
        have hst : StM Bt sz (.ok h.2) I53 := by rw [hh.1]; exact ⟨en_sz p1, ((y1.2 32 (by omega)).trans (w2_n2 (by omega))).trans p2, y2⟩
        first | refine AW.aload_n X dX5_readMoon_56 rfl rfl ?_ | refine AW.aloadN_n X dX5_readMoon_56 rfl rfl ?_
        refine AW.getR X f_X5_88_18 (by first | assumption | exact hT _ _ rfl) (by first | assumption | exact hR _ _ _ rfl) dX5_readMoon_57 ?_
        refine AW.bipush X (v := 24) dX5_readMoon_60 rfl ?_
        refine AW.iload_n X dX5_readMoon_62 rfl rfl ?_
        refine AW.iadd X dX5_readMoon_63 ?_
        first | refine AW.aload_n X dX5_readMoon_64 rfl rfl ?_ | refine AW.aloadN_n X dX5_readMoon_64 rfl rfl ?_
        refine AW.iconst X (v := 0) dX5_readMoon_65 rfl ?_
        refine AW.bipush X (v := 20) dX5_readMoon_66 rfl ?_
        refine AW.callV_i X (c_X5_readNumber (lo := 0) (hi := 20) hT hR ((hx'.w35 (by omega)).sf y1.sf) hst (by omega) (by omega)) (ci := 18) (q := (RX5, TX5, 74)) (by first | assumption | exact hT _ _ rfl) rfl s_X5_273_18 (by omega) (Nat.le_of_ble_eq_true rfl) rfl rfl (Nat.le_of_ble_eq_true rfl) dX5_readMoon_68 ?_
        intro r68 I68 h68
        obtain ⟨rfl, t1, t2⟩ := h68
        have rws : ∀ a, a ≠ 200 → I68 a = I a := fun a ha => (t1.1 a ha).trans ((y1.1 a ha).trans ((w2_r ha).trans (hf.1 a ha)))
        have scs : ∀ k, (k < 26 ∨ k = 27 ∨ 33 < k) → k ≠ 35 → I68 200 k = I 200 k := fun k hk hk2 => (t1.2 k hk).trans ((y1.2 k (by omega)).trans ((w2_n2 hk2).trans (hf.2 k hk)))
        have sfl : I68 200 35 = I 200 35 ||| 1 <<< (nI h.1 &&& 31) := (t1.2 35 (by omega)).trans ((y1.2 35 (by omega)).trans (w2_s _ _ _ _))
        refine AW.iast X (j := 24 + h.1) (by omega) (by first | assumption | exact hT _ _ rfl) (by repeat (first | with_reducible exact rfl | assumption | exact ix_l _ | apply ix_add | apply ix_mul)) (by omega) dX5_readMoon_71 ?_
        refine AW.vreturn X E ?_ dX5_readMoon_72
        refine ⟨rfl, rfl, rfl, rfl, ⟨⟨fun a a1 a2 => (w2_r (by omega)).trans (rws a a1), fun a k a1 a2 a3 => ?_⟩, fun k hk => (w2_n1 (by omega)).trans (scs k (by omega) (by omega))⟩, ?_⟩
        · by_cases hx : a = 318
          · subst hx; rw [w2_n2 (by have : hlf 318 = 24 := rfl; omega)]; exact congrFun (rws 318 (by omega)) k
          · rw [w2_n1 hx]; exact congrFun (rws a (by omega)) k
        rw [hw0]
        rcases e2 : numF Bt sz 0 20 h.2 with er | v
        · rw [show gsX (.ok h.2) (numF Bt sz 0 20) = .error er from gsX_er rfl e2] at t2
          exact t2.w (b := 318) (by omega)
        · have gg := hg.moon (h := h.1) (v := v.1) (numF_en e2).2.2
          rw [show gsX (.ok h.2) (numF Bt sz 0 20) = .ok v.2 from gsX_ok rfl e2] at t2
          refine ⟨t2.w (b := 318) (by omega), hH.moon gg.2 (by omega) (fun a ha => ?_) ((w2_n1 (by omega)).trans sfl) ((w2_n1 (by omega)).trans (scs 36 (by omega) (by omega))), gg.1⟩
          rw [← vOf_ok (x := .ok h.2) rfl e2]
          by_cases hx : a = 318
          · subst hx; unfold w2; rw [row_s, row_s, rws 318 ha]
          · rw [w2_r hx, w2_r hx]; exact rws a ha
      · intro f36
        exact absurd rfl f36
    first | refine AW.aload_n X dX5_readMoon_0 rfl rfl ?_ | refine AW.aloadN_n X dX5_readMoon_0 rfl rfl ?_
    refine AW.iconst X (v := 0) dX5_readMoon_1 rfl ?_
    refine AW.bipush X (v := 23) dX5_readMoon_2 rfl ?_
    refine AW.callV_i X (c_X5_numberNow (lo := 0) (hi := 23) hT hX hx (by omega) (by omega)) (ci := 18) (q := (RX5, TX5, 74)) (by first | assumption | exact hT _ _ rfl) rfl s_X5_264_18 (by omega) (Nat.le_of_ble_eq_true rfl) rfl rfl (Nat.le_of_ble_eq_true rfl) dX5_readMoon_4 ?_
    intro r4 I4 h4
    obtain ⟨rfl, q1, q2⟩ := h4
    rw [g1] at q2
    rw [v1]
    refine AW.istore1 X dX5_readMoon_7 ?_
    first | refine AW.aload_n X dX5_readMoon_8 rfl rfl ?_ | refine AW.aloadN_n X dX5_readMoon_8 rfl rfl ?_
    refine AW.getI X f_X5_239_18 (by first | assumption | exact hT _ _ rfl) dX5_readMoon_9 ?_
    rw [q2.2.1]
    refine AW.if_ne X (tgt := 32) dX5_readMoon_12 rfl ?_ ?_
    · intro t12
      exact absurd rfl t12
    · intro f12
      first | refine AW.aload_n X dX5_readMoon_15 rfl rfl ?_ | refine AW.aloadN_n X dX5_readMoon_15 rfl rfl ?_
      refine AW.getI X f_X5_283_18 (by first | assumption | exact hT _ _ rfl) dX5_readMoon_16 ?_
      rw [q1.2 35 (by omega)]
      refine AW.iload_n X dX5_readMoon_19 rfl rfl ?_
      refine AW.ishr X dX5_readMoon_20 ?_
      refine AW.iconst X (v := 1) dX5_readMoon_21 rfl ?_
      refine AW.iand X dX5_readMoon_22 ?_
      refine AW.iconst X (v := 1) dX5_readMoon_23 rfl ?_
      refine AW.icmp_ne X (tgt := 32) dX5_readMoon_24 rfl ?_ ?_
      · intro t24
        exact go _ q1 q2 (hX.sf q1) (fun z => t24 (hbit.mpr z))
      · intro f24
        first | refine AW.aload_n X dX5_readMoon_27 rfl rfl ?_ | refine AW.aloadN_n X dX5_readMoon_27 rfl rfl ?_
        refine AW.iconst X (v := 4) dX5_readMoon_28 rfl ?_
        refine AW.callV_i X (c_X5_wrong hT q2 (k := 4) (by omega) (by omega)) (ci := 18) (q := (RX5, TX5, 74)) (by first | assumption | exact hT _ _ rfl) rfl s_X5_260_18 (by omega) (Nat.le_of_ble_eq_true rfl) rfl rfl (Nat.le_of_ble_eq_true rfl) dX5_readMoon_29 ?_
        intro r29 I29 h29
        obtain ⟨rfl, y1, y2⟩ := h29
        exact err (4, beg Bt sz j) _ _ (by rw [hw0, if_pos (hbit.mp f24)]) (q1.tr y1) y2
theorem c_X5_readCold {j : Nat} {S : Rd} (hT : XT T) (hR : XRf R) (hX : TxM Bt sz I) (hx : StM Bt sz (.ok j) I) (hH : HfM S I) (hg : Gd S.1) : MX5_readCold 4 0 [.ref 200] T I R J (qI (fun r I' => r = none ∧ TF I I' ∧ LnP Bt sz (coldT Bt sz j S) I') T R J) noX := by
  have hl : coldT Bt sz j S = Except.bind (numF Bt sz 0 9 j) fun h => if S.2.2.2 h.1 = true then .error (4, beg Bt sz j) else Except.bind (numF Bt sz 0 99 h.2) fun v => .ok (v.2, w2 S.1 319 h.1 (nI v.1), S.2.1, S.2.2.1, setB S.2.2.2 h.1) := rfl
  refine AMet.of (by decide) (Nat.le_of_ble_eq_true rfl) (cats1 rfl) fun cx X E => ?_
  show AW _ _ _ (_ :: _ :: []) _ _ _ _ _
  have err : ∀ e I' l1, coldT Bt sz j S = .error e → SF I I' → StM Bt sz (.error e) I' → AW cx 0 32 [.ref 200, l1] [] T I' R J := by
    intro e I' l1 hw hf hs
    first | refine AW.aload_n X dX5_readCold_32 rfl rfl ?_ | refine AW.aloadN_n X dX5_readCold_32 rfl rfl ?_
    refine AW.getI X f_X5_239_18 (by first | assumption | exact hT _ _ rfl) dX5_readCold_33 ?_
    refine AW.if_eq X (tgt := 40) dX5_readCold_36 rfl ?_ ?_
    · intro t36
      exact absurd t36 hs.bad
    · intro f36
      refine AW.vreturn X E ?_ dX5_readCold_39
      exact ⟨rfl, rfl, rfl, rfl, hf.tf, by rw [hw]; exact hs⟩
  rcases e1 : numF Bt sz 0 9 j with er | h
  · have g1 : fsX (.ok j) (numF Bt sz 0 9) = .error er := by show ((numF Bt sz 0 9 j).bind fun _ => .ok j) = _; rw [e1]; rfl
    have hw : coldT Bt sz j S = .error er := by rw [hl, e1]; rfl
    first | refine AW.aload_n X dX5_readCold_0 rfl rfl ?_ | refine AW.aloadN_n X dX5_readCold_0 rfl rfl ?_
    refine AW.iconst X (v := 0) dX5_readCold_1 rfl ?_
    refine AW.bipush X (v := 9) dX5_readCold_2 rfl ?_
    refine AW.callV_i X (c_X5_numberNow (lo := 0) (hi := 9) hT hX hx (by omega) (by omega)) (ci := 18) (q := (RX5, TX5, 74)) (by first | assumption | exact hT _ _ rfl) rfl s_X5_264_18 (by omega) (Nat.le_of_ble_eq_true rfl) rfl rfl (Nat.le_of_ble_eq_true rfl) dX5_readCold_4 ?_
    intro r4 I4 h4
    obtain ⟨rfl, q1, q2⟩ := h4
    rw [g1] at q2
    refine AW.istore1 X dX5_readCold_7 ?_
    first | refine AW.aload_n X dX5_readCold_8 rfl rfl ?_ | refine AW.aloadN_n X dX5_readCold_8 rfl rfl ?_
    refine AW.getI X f_X5_239_18 (by first | assumption | exact hT _ _ rfl) dX5_readCold_9 ?_
    refine AW.if_ne X (tgt := 32) dX5_readCold_12 rfl ?_ ?_
    · intro t12
      exact err er _ _ hw q1 q2
    · intro f12
      exact absurd f12 (StM.bad (e := er) q2)
  · have g1 : fsX (.ok j) (numF Bt sz 0 9) = .ok j := by show ((numF Bt sz 0 9 j).bind fun _ => .ok j) = _; rw [e1]; rfl
    have v1 : vOf ((Except.ok j).bind (numF Bt sz 0 9)) = nI h.1 := vOf_ok rfl e1
    have hh := numF_en e1
    have hbit := hH.2.2.2.2.2.2.2.2 h.1 (by omega)
    have hw0 : coldT Bt sz j S = if S.2.2.2 h.1 = true then .error (4, beg Bt sz j) else Except.bind (numF Bt sz 0 99 h.2) fun v => .ok (v.2, w2 S.1 319 h.1 (nI v.1), S.2.1, S.2.2.1, setB S.2.2.2 h.1) := by rw [hl, e1]; rfl
    have go : ∀ I', SF I I' → StM Bt sz (.ok j) I' → TxM Bt sz I' → ¬ S.2.2.2 h.1 = true → AW cx 0 32 [.ref 200, .int (nI h.1)] [] T I' R J := by
      intro I' hf hs hx' hc
      rw [if_neg hc] at hw0
      obtain ⟨p1, p2, p3⟩ := hs
      first | refine AW.aload_n X dX5_readCold_32 rfl rfl ?_ | refine AW.aloadN_n X dX5_readCold_32 rfl rfl ?_
      refine AW.getI X f_X5_239_18 (by first | assumption | exact hT _ _ rfl) dX5_readCold_33 ?_
      rw [p2]
      refine AW.if_eq X (tgt := 40) dX5_readCold_36 rfl ?_ ?_
      · intro t36
        first | refine AW.aload_n X dX5_readCold_40 rfl rfl ?_ | refine AW.aloadN_n X dX5_readCold_40 rfl rfl ?_
        refine AW.dup X dX5_readCold_41 rfl ?_
        refine AW.getI X f_X5_286_18 (by first | assumption | exact hT _ _ rfl) dX5_readCold_42 ?_
        rw [hf.2 36 (by omega)]
        refine AW.iconst X (v := 1) dX5_readCold_45 rfl ?_
        refine AW.iload_n X dX5_readCold_46 rfl rfl ?_
        refine AW.ishl X dX5_readCold_47 ?_
        refine AW.ior X dX5_readCold_48 ?_
        refine AW.putI X g_X5_readCold_286_18 (by omega) (by first | assumption | exact hT _ _ rfl) dX5_readCold_49 ?_ 
        first | refine AW.aload_n X dX5_readCold_52 rfl rfl ?_ | refine AW.aloadN_n X dX5_readCold_52 rfl rfl ?_
        refine AW.callV_i X (c_X5_stepOn hT hR (hx'.w35 (by omega)) (en_sz p1) ((w2_n2 (by omega)).trans p3.1)) (ci := 18) (q := (RX5, TX5, 74)) (by first | assumption | exact hT _ _ rfl) rfl s_X5_257_18 (by omega) (Nat.le_of_ble_eq_true rfl) rfl rfl (Nat.le_of_ble_eq_true rfl) dX5_readCold_53 ?_
        intro r53 I53 h53
        obtain ⟨rfl, y1, y2⟩ := h53
        have hst : StM Bt sz (.ok h.2) I53 := by rw [hh.1]; exact ⟨en_sz p1, ((y1.2 32 (by omega)).trans (w2_n2 (by omega))).trans p2, y2⟩
        first | refine AW.aload_n X dX5_readCold_56 rfl rfl ?_ | refine AW.aloadN_n X dX5_readCold_56 rfl rfl ?_
        refine AW.getR X f_X5_91_18 (by first | assumption | exact hT _ _ rfl) (by first | assumption | exact hR _ _ _ rfl) dX5_readCold_57 ?_
        refine AW.bipush X (v := 10) dX5_readCold_60 rfl ?_
        refine AW.iload_n X dX5_readCold_62 rfl rfl ?_
        refine AW.iadd X dX5_readCold_63 ?_
        first | refine AW.aload_n X dX5_readCold_64 rfl rfl ?_ | refine AW.aloadN_n X dX5_readCold_64 rfl rfl ?_
        refine AW.iconst X (v := 0) dX5_readCold_65 rfl ?_
        refine AW.bipush X (v := 99) dX5_readCold_66 rfl ?_
        refine AW.callV_i X (c_X5_readNumber (lo := 0) (hi := 99) hT hR ((hx'.w35 (by omega)).sf y1.sf) hst (by omega) (by omega)) (ci := 18) (q := (RX5, TX5, 74)) (by first | assumption | exact hT _ _ rfl) rfl s_X5_273_18 (by omega) (Nat.le_of_ble_eq_true rfl) rfl rfl (Nat.le_of_ble_eq_true rfl) dX5_readCold_68 ?_
        intro r68 I68 h68
        obtain ⟨rfl, t1, t2⟩ := h68
        have rws : ∀ a, a ≠ 200 → I68 a = I a := fun a ha => (t1.1 a ha).trans ((y1.1 a ha).trans ((w2_r ha).trans (hf.1 a ha)))
        have scs : ∀ k, (k < 26 ∨ k = 27 ∨ 33 < k) → k ≠ 36 → I68 200 k = I 200 k := fun k hk hk2 => (t1.2 k hk).trans ((y1.2 k (by omega)).trans ((w2_n2 hk2).trans (hf.2 k hk)))
        have sfl : I68 200 36 = I 200 36 ||| 1 <<< (nI h.1 &&& 31) := (t1.2 36 (by omega)).trans ((y1.2 36 (by omega)).trans (w2_s _ _ _ _))
        refine AW.iast X (j := 10 + h.1) (by omega) (by first | assumption | exact hT _ _ rfl) (by repeat (first | with_reducible exact rfl | assumption | exact ix_l _ | apply ix_add | apply ix_mul)) (by omega) dX5_readCold_71 ?_
        refine AW.vreturn X E ?_ dX5_readCold_72
        refine ⟨rfl, rfl, rfl, rfl, ⟨⟨fun a a1 a2 => (w2_r (by omega)).trans (rws a a1), fun a k a1 a2 a3 => ?_⟩, fun k hk => (w2_n1 (by omega)).trans (scs k (by omega) (by omega))⟩, ?_⟩
        · by_cases hx : a = 319
          · subst hx; rw [w2_n2 (by have : hlf 319 = 10 := rfl; omega)]; exact congrFun (rws 319 (by omega)) k
          · rw [w2_n1 hx]; exact congrFun (rws a (by omega)) k
        rw [hw0]
        rcases e2 : numF Bt sz 0 99 h.2 with er | v
        · rw [show gsX (.ok h.2) (numF Bt sz 0 99) = .error er from gsX_er rfl e2] at t2
          exact t2.w (b := 319) (by omega)
        · have gg := hg.cold (h := h.1) (v := v.1) (numF_en e2).2.2
          rw [show gsX (.ok h.2) (numF Bt sz 0 99) = .ok v.2 from gsX_ok rfl e2] at t2
          refine ⟨t2.w (b := 319) (by omega), hH.cold gg.2 (by omega) (fun a ha => ?_) ((w2_n1 (by omega)).trans sfl) ((w2_n1 (by omega)).trans (scs 35 (by omega) (by omega))), gg.1⟩
          rw [← vOf_ok (x := .ok h.2) rfl e2]
          by_cases hx : a = 319
          · subst hx; unfold w2; rw [row_s, row_s, rws 319 ha]
          · rw [w2_r hx, w2_r hx]; exact rws a ha
      · intro f36
        exact absurd rfl f36
    first | refine AW.aload_n X dX5_readCold_0 rfl rfl ?_ | refine AW.aloadN_n X dX5_readCold_0 rfl rfl ?_
    refine AW.iconst X (v := 0) dX5_readCold_1 rfl ?_
    refine AW.bipush X (v := 9) dX5_readCold_2 rfl ?_
    refine AW.callV_i X (c_X5_numberNow (lo := 0) (hi := 9) hT hX hx (by omega) (by omega)) (ci := 18) (q := (RX5, TX5, 74)) (by first | assumption | exact hT _ _ rfl) rfl s_X5_264_18 (by omega) (Nat.le_of_ble_eq_true rfl) rfl rfl (Nat.le_of_ble_eq_true rfl) dX5_readCold_4 ?_
    intro r4 I4 h4
    obtain ⟨rfl, q1, q2⟩ := h4
    rw [g1] at q2
    rw [v1]
    refine AW.istore1 X dX5_readCold_7 ?_
    first | refine AW.aload_n X dX5_readCold_8 rfl rfl ?_ | refine AW.aloadN_n X dX5_readCold_8 rfl rfl ?_
    refine AW.getI X f_X5_239_18 (by first | assumption | exact hT _ _ rfl) dX5_readCold_9 ?_
    rw [q2.2.1]
    refine AW.if_ne X (tgt := 32) dX5_readCold_12 rfl ?_ ?_
    · intro t12
      exact absurd rfl t12
    · intro f12
      first | refine AW.aload_n X dX5_readCold_15 rfl rfl ?_ | refine AW.aloadN_n X dX5_readCold_15 rfl rfl ?_
      refine AW.getI X f_X5_286_18 (by first | assumption | exact hT _ _ rfl) dX5_readCold_16 ?_
      rw [q1.2 36 (by omega)]
      refine AW.iload_n X dX5_readCold_19 rfl rfl ?_
      refine AW.ishr X dX5_readCold_20 ?_
      refine AW.iconst X (v := 1) dX5_readCold_21 rfl ?_
      refine AW.iand X dX5_readCold_22 ?_
      refine AW.iconst X (v := 1) dX5_readCold_23 rfl ?_
      refine AW.icmp_ne X (tgt := 32) dX5_readCold_24 rfl ?_ ?_
      · intro t24
        exact go _ q1 q2 (hX.sf q1) (fun z => t24 (hbit.mpr z))
      · intro f24
        first | refine AW.aload_n X dX5_readCold_27 rfl rfl ?_ | refine AW.aloadN_n X dX5_readCold_27 rfl rfl ?_
        refine AW.iconst X (v := 4) dX5_readCold_28 rfl ?_
        refine AW.callV_i X (c_X5_wrong hT q2 (k := 4) (by omega) (by omega)) (ci := 18) (q := (RX5, TX5, 74)) (by first | assumption | exact hT _ _ rfl) rfl s_X5_260_18 (by omega) (Nat.le_of_ble_eq_true rfl) rfl rfl (Nat.le_of_ble_eq_true rfl) dX5_readCold_29 ?_
        intro r29 I29 h29
        obtain ⟨rfl, y1, y2⟩ := h29
        exact err (4, beg Bt sz j) _ _ (by rw [hw0, if_pos (hbit.mp f24)]) (q1.tr y1) y2
theorem c_X5_readQuay {κ i : Nat} {S : Rd} (hT : XT T) (hR : XRf R) (hC : SC I) (hX : TxM Bt sz I) (hx : StM Bt sz (.ok i) I) (hH : HfM S I) (hg : Gd S.1) (hκ : κ < 4) : MX5_readQuay 6 0 [.ref 200, .int (nI κ)] T I R J (qI (fun r I' => r = none ∧ TF I I' ∧ LnP Bt sz (quayF Bt sz κ i S) I') T R J) noX := by
  have hN := hg.1
  obtain ⟨⟨n1, n2, n3, n4, hnq, hne, hns, hnh⟩, -⟩ := id hN
  have mT : I 304 (6 + 0) = nI (nQ S.1) := (hH.1 0 (by omega)).trans n1
  refine AMet.of (by decide) (Nat.le_of_ble_eq_true rfl) (cats1 rfl) fun cx X E => ?_
  show AW _ _ _ (_ :: _ :: _ :: []) _ _ _ _ _
  by_cases h6 : nQ S.1 = 8
  · have ho : opX Bt sz (.ok i) (nQ S.1) 8 = .error (2, beg Bt sz i) := if_pos h6
    have hl : quayF Bt sz κ i S = .error (2, beg Bt sz i) := if_pos h6
    first | refine AW.aload_n X dX5_readQuay_0 rfl rfl ?_ | refine AW.aloadN_n X dX5_readQuay_0 rfl rfl ?_
    refine AW.iconst X (v := 0) dX5_readQuay_1 rfl ?_
    refine AW.bipush X (v := 8) dX5_readQuay_2 rfl ?_
    refine AW.callV_i X (c_X5_open (w := 0) (m := nQ S.1) (most := 8) hT hR hX hx (by omega) mT (by omega) (by omega)) (ci := 18) (q := (RX5, TX5, 74)) (by first | assumption | exact hT _ _ rfl) rfl s_X5_270_18 (by omega) (Nat.le_of_ble_eq_true rfl) rfl rfl (Nat.le_of_ble_eq_true rfl) dX5_readQuay_4 ?_
    intro r4 I4 h4
    rw [ho] at h4
    obtain ⟨rfl, q1, q2⟩ := h4
    refine AW.if_ne X (tgt := 11) dX5_readQuay_7 rfl ?_ ?_
    · intro t7
      exact absurd rfl t7
    · intro f7
      refine AW.vreturn X E ?_ dX5_readQuay_10
      exact ⟨rfl, rfl, rfl, rfl, q1.tf, by rw [hl]; exact q2⟩
  · have ho : opX Bt sz (.ok i) (nQ S.1) 8 = .ok (en Bt sz i) := if_neg h6
    have hl : quayF Bt sz κ i S = Except.bind (if κ = 3 then numF Bt sz 0 1 (en Bt sz i) else .ok (0, en Bt sz i)) fun o => Except.bind (if cls Bt sz o.2 = 39 then numF Bt sz 0 100 (en Bt sz o.2) else .ok (0, o.2)) fun s => .ok (s.2, addQ S.1 κ (if κ = 3 then nI o.1 else -1) s.1, S.2) := if_neg h6
    have fin : ∀ (x4 : Except Er Nat) (I4 : KI) (ow : Int32) (s : Int32), StM Bt sz x4 I4 → Zr I (w2 (w2 I 305 (8 + nQ S.1) (nI κ)) 306 (8 + nQ S.1) ow) I4 → (∀ I', StM Bt sz x4 I' → Zr I (chQ I (nQ S.1) (nI κ) ow s) I' → LnP Bt sz (quayF Bt sz κ i S) I') → AW cx 0 76 [.ref 200, .int (nI κ), .int (nI (8 + nQ S.1))] [.int s, .int (nI (8 + nQ S.1)), .ref 307] T I4 R J := by
      intro x4 I4 ow s hs hz hk
      refine AW.iast X (j := 8 + nQ S.1) (by omega) (by first | assumption | exact hT _ _ rfl) (by repeat (first | with_reducible exact rfl | assumption | exact ix_l _ | apply ix_add | apply ix_mul)) (by omega) dX5_readQuay_76 ?_
      first | refine AW.aload_n X dX5_readQuay_77 rfl rfl ?_ | refine AW.aloadN_n X dX5_readQuay_77 rfl rfl ?_
      refine AW.getR X f_X5_58_18 (by first | assumption | exact hT _ _ rfl) (by first | assumption | exact hR _ _ _ rfl) dX5_readQuay_78 ?_
      refine AW.iload_n X dX5_readQuay_81 rfl rfl ?_
      refine AW.iconst X (v := 0) dX5_readQuay_82 rfl ?_
      refine AW.iast X (j := 8 + nQ S.1) (by omega) (by first | assumption | exact hT _ _ rfl) (by repeat (first | with_reducible exact rfl | assumption | exact ix_l _ | apply ix_add | apply ix_mul)) (by omega) dX5_readQuay_83 ?_
      have z2 := ((hz.w (b := 307) (k := 8 + nQ S.1) (v := s) (by omega)).w (b := 308) (k := 8 + nQ S.1) (v := 0) (by omega))
      first | refine AW.aload_n X dX5_readQuay_84 rfl rfl ?_ | refine AW.aloadN_n X dX5_readQuay_84 rfl rfl ?_
      refine AW.getR X f_X5_45_18 (by first | assumption | exact hT _ _ rfl) (by first | assumption | exact hR _ _ _ rfl) dX5_readQuay_85 ?_
      refine AW.bipush X (v := 6) dX5_readQuay_88 rfl ?_
      refine AW.dup2 X dX5_readQuay_90 rfl rfl ?_
      refine AW.iald X (j := 6) (by first | assumption | exact hT _ _ rfl) rfl (by omega) dX5_readQuay_91 ?_
      rw [z2.1 304 (by omega), w2_n1 (by omega), w2_n1 (by omega), w2_n1 (by omega), w2_n1 (by omega), show I 304 6 = nI (nQ S.1) from mT]
      refine AW.iconst X (v := 1) dX5_readQuay_92 rfl ?_
      refine AW.iadd X dX5_readQuay_93 ?_
      rw [nI_1]
      refine AW.iast X (j := 6) (by omega) (by first | assumption | exact hT _ _ rfl) rfl (by omega) dX5_readQuay_94 ?_
      refine AW.vreturn X E ?_ dX5_readQuay_95
      have z3 := z2.w (b := 304) (k := 6) (v := nI (nQ S.1 + 1)) (by omega)
      exact ⟨rfl, rfl, rfl, rfl, z3.tf (((((TFr.rf.w (by omega) (by omega) (by show 8 ≤ _; omega)).w (by omega) (by omega) (by show 8 ≤ _; omega)).w (by omega) (by omega) (by show 8 ≤ _; omega)).w (by omega) (by omega) (by show 8 ≤ _; omega)).w (by omega) (by omega) (by show 6 ≤ 6; omega)), hk _ (((hs.w (by omega)).w (by omega)).w (by omega)) z3⟩
    have rest : ∀ (x2 : Except Er Nat) (I2 : KI) (on : Nat) (ow : Int32), StM Bt sz x2 I2 → TxM Bt sz I2 → SC I2 → Zr I (w2 I 305 (8 + nQ S.1) (nI κ)) I2 → ow = (if κ = 3 then nI on else -1) → (∀ e, x2 = .error e → quayF Bt sz κ i S = .error e) → (∀ j, x2 = .ok j → on ≤ 1 ∧ quayF Bt sz κ i S = Except.bind (if cls Bt sz j = 39 then numF Bt sz 0 100 (en Bt sz j) else .ok (0, j)) fun s => .ok (s.2, addQ S.1 κ (if κ = 3 then nI on else -1) s.1, S.2)) → AW cx 0 49 [.ref 200, .int (nI κ), .int (nI (8 + nQ S.1))] [.int ow, .int (nI (8 + nQ S.1)), .ref 306] T I2 R J := by
      intro x2 I2 on ow hs hx' hc' hz how he hk
      have z1 := hz.w (b := 306) (k := 8 + nQ S.1) (v := ow) (by omega)
      have s1 := hs.w (b := 306) (k := 8 + nQ S.1) (v := ow) (by omega)
      have X1 := hx'.w (b := 306) (k := 8 + nQ S.1) (v := ow) (by omega) (by omega)
      have C1 := hc'.w (b := 306) (k := 8 + nQ S.1) (v := ow) (by omega)
      have okc : ∀ on' s j, on' = on → on ≤ 1 → s ≤ 100 → quayF Bt sz κ i S = .ok (j, addQ S.1 κ (if κ = 3 then nI on else -1) s, S.2) → ∀ I', StM Bt sz (.ok j) I' → Zr I (chQ I (nQ S.1) (nI κ) ow (nI s)) I' → LnP Bt sz (quayF Bt sz κ i S) I' := by
        intro on' s j _ hon hs100 hq I' hsj hzj
        have gg := hg.inQ (κ := κ) (s := s) (o := if κ = 3 then nI on else -1) (by omega) hκ (by
          by_cases h3 : κ = 3
          · rw [if_pos h3, if_pos h3]
            rcases (show on = 0 ∨ on = 1 by omega) with z | z
            · rw [z]; exact Or.inl rfl
            · rw [z]; exact Or.inr rfl
          · rw [if_neg h3, if_neg h3]) hs100
        rw [hq]
        exact ⟨hsj, hH.inQ gg (how ▸ hzj), gg.1⟩
      rcases x2 with e | j
      · have hps : psX Bt sz (.error e) 39 = .error e := rfl
        refine AW.iast X (j := 8 + nQ S.1) (by omega) (by first | assumption | exact hT _ _ rfl) (by repeat (first | with_reducible exact rfl | assumption | exact ix_l _ | apply ix_add | apply ix_mul)) (by omega) dX5_readQuay_49 ?_
        first | refine AW.aload_n X dX5_readQuay_50 rfl rfl ?_ | refine AW.aloadN_n X dX5_readQuay_50 rfl rfl ?_
        refine AW.getR X f_X5_55_18 (by first | assumption | exact hT _ _ rfl) (by first | assumption | exact hR _ _ _ rfl) dX5_readQuay_51 ?_
        refine AW.iload_n X dX5_readQuay_54 rfl rfl ?_
        first | refine AW.aload_n X dX5_readQuay_55 rfl rfl ?_ | refine AW.aloadN_n X dX5_readQuay_55 rfl rfl ?_
        refine AW.ldcwS X 33 rfl rfl dX5_readQuay_56 ?_
        refine AW.callV_i X (c_X5_passes (c := 39) hT hR C1 X1 s1 (by omega) (by omega)) (ci := 18) (q := (RX5, TX5, 74)) (by first | assumption | exact hT _ _ rfl) rfl s_X5_277_18 (by omega) (Nat.le_of_ble_eq_true rfl) rfl rfl (Nat.le_of_ble_eq_true rfl) dX5_readQuay_59 ?_
        intro r59 I59 h59
        obtain ⟨rfl, y1, y2⟩ := h59
        refine AW.if_eq X (tgt := 75) dX5_readQuay_62 rfl ?_ ?_
        · intro t62
          refine AW.iconst X (v := 0) dX5_readQuay_75 rfl ?_
          exact fin (.error e) _ ow 0 y2 (z1.sf y1) (fun I' h1 _ => by rw [he e rfl]; exact h1)
        · intro f62
          exact absurd rfl f62
      · obtain ⟨hon, hq⟩ := hk j rfl
        by_cases hc : cls Bt sz j = 39
        · rw [if_pos hc] at hq
          have hps : psX Bt sz (.ok j) 39 = .ok (en Bt sz j) := by show Except.ok (if cls Bt sz j = 39 then en Bt sz j else j) = _; rw [if_pos hc]
          refine AW.iast X (j := 8 + nQ S.1) (by omega) (by first | assumption | exact hT _ _ rfl) (by repeat (first | with_reducible exact rfl | assumption | exact ix_l _ | apply ix_add | apply ix_mul)) (by omega) dX5_readQuay_49 ?_
          first | refine AW.aload_n X dX5_readQuay_50 rfl rfl ?_ | refine AW.aloadN_n X dX5_readQuay_50 rfl rfl ?_
          refine AW.getR X f_X5_55_18 (by first | assumption | exact hT _ _ rfl) (by first | assumption | exact hR _ _ _ rfl) dX5_readQuay_51 ?_
          refine AW.iload_n X dX5_readQuay_54 rfl rfl ?_
          first | refine AW.aload_n X dX5_readQuay_55 rfl rfl ?_ | refine AW.aloadN_n X dX5_readQuay_55 rfl rfl ?_
          refine AW.ldcwS X 33 rfl rfl dX5_readQuay_56 ?_
          refine AW.callV_i X (c_X5_passes (c := 39) hT hR C1 X1 s1 (by omega) (by omega)) (ci := 18) (q := (RX5, TX5, 74)) (by first | assumption | exact hT _ _ rfl) rfl s_X5_277_18 (by omega) (Nat.le_of_ble_eq_true rfl) rfl rfl (Nat.le_of_ble_eq_true rfl) dX5_readQuay_59 ?_
          intro r59 I59 h59
          obtain ⟨rfl, y1, y2⟩ := h59
          rw [hps] at y2
          refine AW.if_eq X (tgt := 75) dX5_readQuay_62 rfl ?_ ?_
          · intro t62
            exact absurd hc (isB_z.mp t62)
          · intro f62
            first | refine AW.aload_n X dX5_readQuay_65 rfl rfl ?_ | refine AW.aloadN_n X dX5_readQuay_65 rfl rfl ?_
            refine AW.iconst X (v := 0) dX5_readQuay_66 rfl ?_
            refine AW.bipush X (v := 100) dX5_readQuay_67 rfl ?_
            refine AW.callV_i X (c_X5_readNumber (lo := 0) (hi := 100) hT hR (X1.sf y1) y2 (by omega) (by omega)) (ci := 18) (q := (RX5, TX5, 74)) (by first | assumption | exact hT _ _ rfl) rfl s_X5_273_18 (by omega) (Nat.le_of_ble_eq_true rfl) rfl rfl (Nat.le_of_ble_eq_true rfl) dX5_readQuay_69 ?_
            intro r69 I69 h69
            obtain ⟨rfl, u1, u2⟩ := h69
            refine AW.goto X (tgt := 76) dX5_readQuay_72 rfl ?_
            rcases e1 : numF Bt sz 0 100 (en Bt sz j) with er | v
            · rw [show gsX (.ok (en Bt sz j)) (numF Bt sz 0 100) = .error er from gsX_er rfl e1] at u2
              exact fin (.error er) _ ow _ u2 ((z1.sf y1).sf u1) (fun I' h1 _ => by rw [hq, e1]; exact h1)
            · rw [show gsX (.ok (en Bt sz j)) (numF Bt sz 0 100) = .ok v.2 from gsX_ok rfl e1] at u2
              rw [vOf_ok (x := .ok (en Bt sz j)) rfl e1]
              exact fin (.ok v.2) _ ow _ u2 ((z1.sf y1).sf u1) (okc on v.1 v.2 rfl hon (numF_en e1).2.2 (by rw [hq, e1]; rfl))
        · rw [if_neg hc] at hq
          have hps : psX Bt sz (.ok j) 39 = .ok j := by show Except.ok (if cls Bt sz j = 39 then en Bt sz j else j) = _; rw [if_neg hc]
          refine AW.iast X (j := 8 + nQ S.1) (by omega) (by first | assumption | exact hT _ _ rfl) (by repeat (first | with_reducible exact rfl | assumption | exact ix_l _ | apply ix_add | apply ix_mul)) (by omega) dX5_readQuay_49 ?_
          first | refine AW.aload_n X dX5_readQuay_50 rfl rfl ?_ | refine AW.aloadN_n X dX5_readQuay_50 rfl rfl ?_
          refine AW.getR X f_X5_55_18 (by first | assumption | exact hT _ _ rfl) (by first | assumption | exact hR _ _ _ rfl) dX5_readQuay_51 ?_
          refine AW.iload_n X dX5_readQuay_54 rfl rfl ?_
          first | refine AW.aload_n X dX5_readQuay_55 rfl rfl ?_ | refine AW.aloadN_n X dX5_readQuay_55 rfl rfl ?_
          refine AW.ldcwS X 33 rfl rfl dX5_readQuay_56 ?_
          refine AW.callV_i X (c_X5_passes (c := 39) hT hR C1 X1 s1 (by omega) (by omega)) (ci := 18) (q := (RX5, TX5, 74)) (by first | assumption | exact hT _ _ rfl) rfl s_X5_277_18 (by omega) (Nat.le_of_ble_eq_true rfl) rfl rfl (Nat.le_of_ble_eq_true rfl) dX5_readQuay_59 ?_
          intro r59 I59 h59
          obtain ⟨rfl, y1, y2⟩ := h59
          rw [hps] at y2
          refine AW.if_eq X (tgt := 75) dX5_readQuay_62 rfl ?_ ?_
          · intro t62
            refine AW.iconst X (v := 0) dX5_readQuay_75 rfl ?_
            exact fin (.ok j) _ ow _ y2 (z1.sf y1) (okc on 0 j rfl hon (by omega) hq)
          · intro f62
            exact absurd (isB_z.mpr hc) f62
    by_cases h3 : κ = 3
    · rw [if_pos h3] at hl
      first | refine AW.aload_n X dX5_readQuay_0 rfl rfl ?_ | refine AW.aloadN_n X dX5_readQuay_0 rfl rfl ?_
      refine AW.iconst X (v := 0) dX5_readQuay_1 rfl ?_
      refine AW.bipush X (v := 8) dX5_readQuay_2 rfl ?_
      refine AW.callV_i X (c_X5_open (w := 0) (m := nQ S.1) (most := 8) hT hR hX hx (by omega) mT (by omega) (by omega)) (ci := 18) (q := (RX5, TX5, 74)) (by first | assumption | exact hT _ _ rfl) rfl s_X5_270_18 (by omega) (Nat.le_of_ble_eq_true rfl) rfl rfl (Nat.le_of_ble_eq_true rfl) dX5_readQuay_4 ?_
      intro r4 I4 h4
      rw [ho] at h4
      obtain ⟨rfl, q1, q2⟩ := h4
      refine AW.if_ne X (tgt := 11) dX5_readQuay_7 rfl ?_ ?_
      · intro t7
        refine AW.bipush X (v := 8) dX5_readQuay_11 rfl ?_
        first | refine AW.aload_n X dX5_readQuay_13 rfl rfl ?_ | refine AW.aloadN_n X dX5_readQuay_13 rfl rfl ?_
        refine AW.getR X f_X5_45_18 (by first | assumption | exact hT _ _ rfl) (by first | assumption | exact hR _ _ _ rfl) dX5_readQuay_14 ?_
        refine AW.bipush X (v := 6) dX5_readQuay_17 rfl ?_
        refine AW.iald X (j := 6) (by first | assumption | exact hT _ _ rfl) rfl (by omega) dX5_readQuay_19 ?_
        rw [q1.1 304 (by omega), show I 304 6 = nI (nQ S.1) from mT]
        refine AW.iadd X dX5_readQuay_20 ?_
        rw [show (8 : Int32) + nI (nQ S.1) = nI (8 + nQ S.1) from nI_add 8 _]
        refine AW.istore2 X dX5_readQuay_21 ?_
        first | refine AW.aload_n X dX5_readQuay_22 rfl rfl ?_ | refine AW.aloadN_n X dX5_readQuay_22 rfl rfl ?_
        refine AW.getR X f_X5_49_18 (by first | assumption | exact hT _ _ rfl) (by first | assumption | exact hR _ _ _ rfl) dX5_readQuay_23 ?_
        refine AW.iload_n X dX5_readQuay_26 rfl rfl ?_
        refine AW.iload_n X dX5_readQuay_27 rfl rfl ?_
        refine AW.iast X (j := 8 + nQ S.1) (by omega) (by first | assumption | exact hT _ _ rfl) (by repeat (first | with_reducible exact rfl | assumption | exact ix_l _ | apply ix_add | apply ix_mul)) (by omega) dX5_readQuay_28 ?_
        have z0 := (Zr.rf.sf q1).w (b := 305) (k := 8 + nQ S.1) (v := nI κ) (by omega)
        have X0 := (hX.sf q1).w (b := 305) (k := 8 + nQ S.1) (v := nI κ) (by omega) (by omega)
        have s0 := q2.w (b := 305) (k := 8 + nQ S.1) (v := nI κ) (by omega)
        have C0 := (hC.sf q1).w (b := 305) (k := 8 + nQ S.1) (v := nI κ) (by omega)
        first | refine AW.aload_n X dX5_readQuay_29 rfl rfl ?_ | refine AW.aloadN_n X dX5_readQuay_29 rfl rfl ?_
        refine AW.getR X f_X5_52_18 (by first | assumption | exact hT _ _ rfl) (by first | assumption | exact hR _ _ _ rfl) dX5_readQuay_30 ?_
        refine AW.iload_n X dX5_readQuay_33 rfl rfl ?_
        refine AW.iload_n X dX5_readQuay_34 rfl rfl ?_
        refine AW.iconst X (v := 3) dX5_readQuay_35 rfl ?_
        refine AW.icmp_ne X (tgt := 48) dX5_readQuay_36 rfl ?_ ?_
        · intro t36
          exact absurd (by rw [h3]; rfl) t36
        · intro f36
          first | refine AW.aload_n X dX5_readQuay_39 rfl rfl ?_ | refine AW.aloadN_n X dX5_readQuay_39 rfl rfl ?_
          refine AW.iconst X (v := 0) dX5_readQuay_40 rfl ?_
          refine AW.iconst X (v := 1) dX5_readQuay_41 rfl ?_
          refine AW.callV_i X (c_X5_readNumber (lo := 0) (hi := 1) hT hR X0 s0 (by omega) (by omega)) (ci := 18) (q := (RX5, TX5, 74)) (by first | assumption | exact hT _ _ rfl) rfl s_X5_273_18 (by omega) (Nat.le_of_ble_eq_true rfl) rfl rfl (Nat.le_of_ble_eq_true rfl) dX5_readQuay_42 ?_
          intro r42 I42 h42
          obtain ⟨rfl, u1, u2⟩ := h42
          refine AW.goto X (tgt := 49) dX5_readQuay_45 rfl ?_
          rcases e1 : numF Bt sz 0 1 (en Bt sz i) with er | v
          · rw [show gsX (.ok (en Bt sz i)) (numF Bt sz 0 1) = .error er from gsX_er rfl e1] at u2
            rw [e1] at hl
            refine rest (.error er) _ 0 _ u2 (X0.sf u1) (C0.sf u1) (z0.sf u1) ?_ (fun e he => by cases he; exact hl) (fun j hj => by cases hj)
            rw [if_pos h3]; show vOf (numF Bt sz 0 1 (en Bt sz i)) = nI 0; rw [e1]; rfl
          · rw [show gsX (.ok (en Bt sz i)) (numF Bt sz 0 1) = .ok v.2 from gsX_ok rfl e1] at u2
            rw [e1] at hl
            refine rest (.ok v.2) _ v.1 _ u2 (X0.sf u1) (C0.sf u1) (z0.sf u1) ?_ (fun e he => by cases he) (fun j hj => by cases hj; exact ⟨(numF_en e1).2.2, hl⟩)
            rw [if_pos h3]; exact vOf_ok (x := .ok (en Bt sz i)) rfl e1
      · intro f7
        exact absurd f7 (by decide)
    · rw [if_neg h3] at hl
      first | refine AW.aload_n X dX5_readQuay_0 rfl rfl ?_ | refine AW.aloadN_n X dX5_readQuay_0 rfl rfl ?_
      refine AW.iconst X (v := 0) dX5_readQuay_1 rfl ?_
      refine AW.bipush X (v := 8) dX5_readQuay_2 rfl ?_
      refine AW.callV_i X (c_X5_open (w := 0) (m := nQ S.1) (most := 8) hT hR hX hx (by omega) mT (by omega) (by omega)) (ci := 18) (q := (RX5, TX5, 74)) (by first | assumption | exact hT _ _ rfl) rfl s_X5_270_18 (by omega) (Nat.le_of_ble_eq_true rfl) rfl rfl (Nat.le_of_ble_eq_true rfl) dX5_readQuay_4 ?_
      intro r4 I4 h4
      rw [ho] at h4
      obtain ⟨rfl, q1, q2⟩ := h4
      refine AW.if_ne X (tgt := 11) dX5_readQuay_7 rfl ?_ ?_
      · intro t7
        refine AW.bipush X (v := 8) dX5_readQuay_11 rfl ?_
        first | refine AW.aload_n X dX5_readQuay_13 rfl rfl ?_ | refine AW.aloadN_n X dX5_readQuay_13 rfl rfl ?_
        refine AW.getR X f_X5_45_18 (by first | assumption | exact hT _ _ rfl) (by first | assumption | exact hR _ _ _ rfl) dX5_readQuay_14 ?_
        refine AW.bipush X (v := 6) dX5_readQuay_17 rfl ?_
        refine AW.iald X (j := 6) (by first | assumption | exact hT _ _ rfl) rfl (by omega) dX5_readQuay_19 ?_
        rw [q1.1 304 (by omega), show I 304 6 = nI (nQ S.1) from mT]
        refine AW.iadd X dX5_readQuay_20 ?_
        rw [show (8 : Int32) + nI (nQ S.1) = nI (8 + nQ S.1) from nI_add 8 _]
        refine AW.istore2 X dX5_readQuay_21 ?_
        first | refine AW.aload_n X dX5_readQuay_22 rfl rfl ?_ | refine AW.aloadN_n X dX5_readQuay_22 rfl rfl ?_
        refine AW.getR X f_X5_49_18 (by first | assumption | exact hT _ _ rfl) (by first | assumption | exact hR _ _ _ rfl) dX5_readQuay_23 ?_
        refine AW.iload_n X dX5_readQuay_26 rfl rfl ?_
        refine AW.iload_n X dX5_readQuay_27 rfl rfl ?_
        refine AW.iast X (j := 8 + nQ S.1) (by omega) (by first | assumption | exact hT _ _ rfl) (by repeat (first | with_reducible exact rfl | assumption | exact ix_l _ | apply ix_add | apply ix_mul)) (by omega) dX5_readQuay_28 ?_
        have z0 := (Zr.rf.sf q1).w (b := 305) (k := 8 + nQ S.1) (v := nI κ) (by omega)
        have X0 := (hX.sf q1).w (b := 305) (k := 8 + nQ S.1) (v := nI κ) (by omega) (by omega)
        have s0 := q2.w (b := 305) (k := 8 + nQ S.1) (v := nI κ) (by omega)
        have C0 := (hC.sf q1).w (b := 305) (k := 8 + nQ S.1) (v := nI κ) (by omega)
        first | refine AW.aload_n X dX5_readQuay_29 rfl rfl ?_ | refine AW.aloadN_n X dX5_readQuay_29 rfl rfl ?_
        refine AW.getR X f_X5_52_18 (by first | assumption | exact hT _ _ rfl) (by first | assumption | exact hR _ _ _ rfl) dX5_readQuay_30 ?_
        refine AW.iload_n X dX5_readQuay_33 rfl rfl ?_
        refine AW.iload_n X dX5_readQuay_34 rfl rfl ?_
        refine AW.iconst X (v := 3) dX5_readQuay_35 rfl ?_
        refine AW.icmp_ne X (tgt := 48) dX5_readQuay_36 rfl ?_ ?_
        · intro t36
          refine AW.iconst X (v := -1) dX5_readQuay_48 rfl ?_
          exact rest (.ok (en Bt sz i)) _ 0 _ s0 X0 C0 z0 (if_neg h3).symm (fun e he => by cases he) (fun j hj => by cases hj; exact ⟨by omega, hl⟩)
        · intro f36
          exact absurd ((nI_eq (b := 3) (by omega) (by omega)).mp f36) h3
      · intro f7
        exact absurd f7 (by decide)
end MLI
