/-! 08e: the model's reads (written by src/gen08e.py and src/walk.py) -/
set_option maxRecDepth 100000
set_option maxHeartbeats 4000000
/-- what a call of the model's leaves as it was: all but its scratch -/
def FM (n : Nat) (I I' : KI) : Prop := (∀ a, a ≠ 200 → (a < 337 ∨ 343 < a) → (a < 347 ∨ 351 < a) → a ≠ 356 → a ≠ 360 → a ≠ 361 → I' a = I a) ∧ (∀ m, m < n → I' 337 m = I 337 m ∧ I' 338 m = I 338 m ∧ I' 339 m = I 339 m) ∧ ∀ k, k ≠ 3 → k ≠ 54 → k ≠ 55 → k ≠ 62 → I' 200 k = I 200 k
theorem FM.rf {n : Nat} {I : KI} : FM n I I := ⟨fun _ _ _ _ _ _ _ => rfl, fun _ _ => ⟨rfl, rfl, rfl⟩, fun _ _ _ _ _ => rfl⟩
theorem FM.tr {n : Nat} {I I1 I2 : KI} (h : FM n I I1) (h2 : FM n I1 I2) : FM n I I2 :=
  ⟨fun a a1 a2 a3 a4 a5 a6 => (h2.1 a a1 a2 a3 a4 a5 a6).trans (h.1 a a1 a2 a3 a4 a5 a6), fun m hm => ⟨(h2.2.1 m hm).1.trans (h.2.1 m hm).1, (h2.2.1 m hm).2.1.trans (h.2.1 m hm).2.1, (h2.2.1 m hm).2.2.trans (h.2.1 m hm).2.2⟩, fun k k1 k2 k3 k4 => (h2.2.2 k k1 k2 k3 k4).trans (h.2.2 k k1 k2 k3 k4)⟩
theorem FM.cod {n : Nat} {I : KI} {v : Int32} : FM n I (w2 I 200 3 v) :=
  ⟨fun a a1 _ _ _ _ _ => w2_r a1, fun m _ => by rw [w2_r (by omega), w2_r (by omega), w2_r (by omega)]; exact ⟨rfl, rfl, rfl⟩, fun k k1 _ _ _ => w2_n2 k1⟩
theorem FE.fm {n : Nat} {I I' : KI} (h : FE I I') : FM n I I' :=
  ⟨fun a a1 a2 a3 a4 a5 a6 => h a (by omega) (by omega) (by omega) (by omega) (by omega) (by omega), fun m _ => by rw [h 337 (by omega) (by omega) (by omega) (by omega) (by omega) (by omega), h 338 (by omega) (by omega) (by omega) (by omega) (by omega) (by omega), h 339 (by omega) (by omega) (by omega) (by omega) (by omega) (by omega)]; exact ⟨rfl, rfl, rfl⟩, fun k _ _ _ _ => congrFun (h 200 (by omega) (by omega) (by omega) (by omega) (by omega) (by omega)) k⟩
theorem FE.s {I I' : KI} (h : FE I I') : I' 200 = I 200 := h 200 (by omega) (by omega) (by omega) (by omega) (by omega) (by omega)
theorem FM.w349 {n : Nat} {I I' : KI} (h : ∀ a, a ≠ 349 → I' a = I a) : FM n I I' :=
  ⟨fun a a1 a2 a3 a4 a5 a6 => h a (by omega), fun m _ => by rw [h 337 (by omega), h 338 (by omega), h 339 (by omega)]; exact ⟨rfl, rfl, rfl⟩, fun k _ _ _ _ => congrFun (h 200 (by omega)) k⟩
theorem MS.fm {T : KT} {I I' : KI} {R : KR} {N : KI} (h : MS T I R N) (hf : FM (nM N) I I') : MS T I' R N := by
  obtain ⟨hT, hR, ⟨v1, v2, v3, v4⟩, hN, hM⟩ := h
  exact ⟨hT, hR, ⟨fun a a1 a2 => (hf.1 a (by omega) (by omega) (by omega) (by omega) (by omega) (by omega)).trans (v1 a a1 a2), fun m hm => ⟨(hf.2.1 m hm).1.trans (v2 m hm).1, (hf.2.1 m hm).2.1.trans (v2 m hm).2.1, (hf.2.1 m hm).2.2.trans (v2 m hm).2.2⟩, (hf.2.2 44 (by omega) (by omega) (by omega) (by omega)).trans v3, (hf.2.2 45 (by omega) (by omega) (by omega) (by omega)).trans v4⟩, hN, hM⟩
theorem bI_cg {P Q : Prop} [Decidable P] [Decidable Q] (h : P ↔ Q) : bI P = bI Q := by
  unfold bI
  by_cases hp : P
  · rw [if_pos hp, if_pos (h.mp hp)]
  · rw [if_neg hp, if_neg (fun q => hp (h.mpr q))]
theorem le_lt {v : Int32} {n : Nat} (hn : n < 2 ^ 30) : (0 ≤ v ∧ v ≤ nI n - 1) ↔ (0 ≤ v ∧ v < nI n) := by
  have h1 := sub_toInt (a := n) (c := 1) hn (by omega)
  have h2 := nI_toInt (n := n) (by omega)
  have h3 : (nI n - 1).toInt = (n : Int) - 1 := h1
  constructor
  · intro ⟨a, b⟩
    refine ⟨a, Int32.lt_iff_toInt_lt.mpr ?_⟩
    have := Int32.le_iff_toInt_le.mp b
    omega
  · intro ⟨a, b⟩
    refine ⟨a, Int32.le_iff_toInt_le.mpr ?_⟩
    have := Int32.lt_iff_toInt_lt.mp b
    omega
/-- answers v (of code 0), and changes scratch alone -/
def qM (v : Option Value) (n : Nat) (T : KT) (I : KI) (R : KR) (J : KJ) : PQt := qI (fun r I' => r = v ∧ I' 200 3 = 0 ∧ FM n I I') T R J
/-- fails by code c -/
def qF (c : Int32) (n : Nat) (T : KT) (I : KI) (R : KR) (J : KJ) : PQt := qI (fun r I' => (∃ v, r = some (.int v)) ∧ I' 200 3 = c ∧ FM n I I') T R J
def prS (N : KI) (f : Nat) : Nat → Int32
  | 0 => 0
  | j + 1 => prS N f j + prc N (N 339 (f + j))
theorem prS_0 {N : KI} : ∀ m, prS N 0 m = priceS N m
  | 0 => rfl
  | m + 1 => by
    show prS N 0 m + prc N (N 339 (0 + m)) = priceS N m + prc N (N 339 m)
    rw [prS_0 m, Nat.zero_add]
theorem in01 {w : Int32} (h0 : 0 ≤ w) (h1 : w ≤ 1) : w = 0 ∨ w = 1 := by
  obtain ⟨k, hk, rfl⟩ := isN (n := 1) h0 h1 (by omega)
  rcases (show k = 0 ∨ k = 1 by omega) with rfl | rfl
  · exact Or.inl rfl
  · exact Or.inr rfl
theorem four_4 {w : Int32} (h : 0 ≤ w ∧ w ≤ 4) (a : ¬ w = 0) (b : ¬ w = 1) (c : ¬ w = 2) (d : ¬ w = 3) : w = 4 := by
  obtain ⟨k, hk, rfl⟩ := isN (n := 4) h.1 h.2 (by omega)
  rcases (show k = 0 ∨ k = 1 ∨ k = 2 ∨ k = 3 ∨ k = 4 by omega) with rfl | rfl | rfl | rfl | rfl
  · exact absurd rfl a
  · exact absurd rfl b
  · exact absurd rfl c
  · exact absurd rfl d
  · rfl
theorem four_3 {w : Int32} (h : 0 ≤ w ∧ w ≤ 3) (a : ¬ w = 0) (b : ¬ w = 1) (c : ¬ w = 2) : w = 3 := by
  obtain ⟨k, hk, rfl⟩ := isN (n := 3) h.1 h.2 (by omega)
  rcases (show k = 0 ∨ k = 1 ∨ k = 2 ∨ k = 3 by omega) with rfl | rfl | rfl | rfl
  · exact absurd rfl a
  · exact absurd rfl b
  · exact absurd rfl c
  · rfl
section MR
variable {T : KT} {I : KI} {R : KR} {J : KJ} {N : KI}
theorem MS.cod (h : MS T I R N) {v : Int32} : MS T (w2 I 200 3 v) R N := ⟨h.1, h.2.1, h.2.2.1.w200 (by omega), h.2.2.2⟩
theorem c_X5_thrown (hT : XT T) : MX5_thrown 0 0 [.ref 200] T I R J (qR (some (.int (I 200 3))) T I R J) noX := by
  refine AMet.of (by decide) (Nat.le_of_ble_eq_true rfl) (cats1 rfl) fun cx X E => ?_
  show AW _ _ _ (_ :: []) _ _ _ _ _
  first | refine AW.aload_n X dX5_thrown_0 rfl rfl ?_ | refine AW.aloadN_n X dX5_thrown_0 rfl rfl ?_
  refine AW.getI X f_X5_194_18 (by first | assumption | exact hT _ _ rfl) dX5_thrown_1 ?_
  exact AW.ireturn X E ⟨rfl, rfl, rfl, rfl, rfl⟩ dX5_thrown_4 
theorem c_X5_fail (hT : XT T) (v : Int32) : MX5_fail 0 0 [.ref 200, .int v] T I R J (qI (fun r I' => r = some (.int 0) ∧ I' = w2 I 200 3 v) T R J) noX := by
  refine AMet.of (by decide) (Nat.le_of_ble_eq_true rfl) (cats1 rfl) fun cx X E => ?_
  show AW _ _ _ (_ :: _ :: []) _ _ _ _ _
  first | refine AW.aload_n X dX5_fail_0 rfl rfl ?_ | refine AW.aloadN_n X dX5_fail_0 rfl rfl ?_
  refine AW.iload_n X dX5_fail_1 rfl rfl ?_
  refine AW.putI X g_X5_fail_194_18 (by omega) (by first | assumption | exact hT _ _ rfl) dX5_fail_2 ?_ 
  refine AW.iconst X (v := 0) dX5_fail_5 rfl ?_
  refine AW.ireturn X E ?_ dX5_fail_6 
  exact ⟨rfl, rfl, rfl, rfl, rfl⟩
theorem c_X5_isQuay (v : Int32) (hS : MS T I R N) : MX5_isQuay 1 0 [.ref 200, .int v] T I R J (qR (some (.int (bI (0 ≤ v ∧ v < nI (nQ N))))) T I R J) noX := by
  obtain ⟨hT, hR, hV, hN, hM⟩ := hS
  have hn := hN.1.1
  have hb := hN.1.2.2.2.2.1
  have v304 := hV.1 304 (by omega) (by omega)
  rw [← bI_cg (le_lt (v := v) (show nQ N < 2 ^ 30 by omega))]
  refine AMet.of (by decide) (Nat.le_of_ble_eq_true rfl) (cats1 rfl) fun cx X E => ?_
  show AW _ _ _ (_ :: _ :: []) _ _ _ _ _
  refine AW.iload_n X dX5_isQuay_0 rfl rfl ?_
  refine AW.iconst X (v := 0) dX5_isQuay_1 rfl ?_
  first | refine AW.aload_n X dX5_isQuay_2 rfl rfl ?_ | refine AW.aloadN_n X dX5_isQuay_2 rfl rfl ?_
  refine AW.getR X f_X5_45_18 (by first | assumption | exact hT _ _ rfl) (by first | assumption | exact hR _ _ _ rfl) dX5_isQuay_3 ?_
  refine AW.iconst X (v := 0) dX5_isQuay_6 rfl ?_
  refine AW.iald X (j := 0) (by first | assumption | exact hT _ _ rfl) (by repeat (first | with_reducible exact rfl | assumption | exact ix_l _ | apply ix_add | apply ix_mul)) (by omega) dX5_isQuay_7 ?_
  rw [v304, hn]
  refine AW.iconst X (v := 1) dX5_isQuay_8 rfl ?_
  refine AW.isub X dX5_isQuay_9 ?_
  refine AW.callS_r X (c_X5_isIn v 0 (nI (nQ N) - 1)) s_X5_197 (by omega) (Nat.le_of_ble_eq_true rfl) rfl rfl (Nat.le_of_ble_eq_true rfl) dX5_isQuay_10 ?_
  exact AW.ireturn X E ⟨rfl, rfl, rfl, rfl, rfl⟩ dX5_isQuay_13 (hnar := by first | rfl | (unfold bI; split <;> rfl))
theorem c_X5_isEel (v : Int32) (hS : MS T I R N) : MX5_isEel 1 0 [.ref 200, .int v] T I R J (qR (some (.int (bI (0 ≤ v ∧ v < nI (nE N))))) T I R J) noX := by
  obtain ⟨hT, hR, hV, hN, hM⟩ := hS
  have hn := hN.1.2.1
  have hb := hN.1.2.2.2.2.2.1
  have v304 := hV.1 304 (by omega) (by omega)
  rw [← bI_cg (le_lt (v := v) (show nE N < 2 ^ 30 by omega))]
  refine AMet.of (by decide) (Nat.le_of_ble_eq_true rfl) (cats1 rfl) fun cx X E => ?_
  show AW _ _ _ (_ :: _ :: []) _ _ _ _ _
  refine AW.iload_n X dX5_isEel_0 rfl rfl ?_
  refine AW.iconst X (v := 0) dX5_isEel_1 rfl ?_
  first | refine AW.aload_n X dX5_isEel_2 rfl rfl ?_ | refine AW.aloadN_n X dX5_isEel_2 rfl rfl ?_
  refine AW.getR X f_X5_45_18 (by first | assumption | exact hT _ _ rfl) (by first | assumption | exact hR _ _ _ rfl) dX5_isEel_3 ?_
  refine AW.iconst X (v := 1) dX5_isEel_6 rfl ?_
  refine AW.iald X (j := 1) (by first | assumption | exact hT _ _ rfl) (by repeat (first | with_reducible exact rfl | assumption | exact ix_l _ | apply ix_add | apply ix_mul)) (by omega) dX5_isEel_7 ?_
  rw [v304, hn]
  refine AW.iconst X (v := 1) dX5_isEel_8 rfl ?_
  refine AW.isub X dX5_isEel_9 ?_
  refine AW.callS_r X (c_X5_isIn v 0 (nI (nE N) - 1)) s_X5_197 (by omega) (Nat.le_of_ble_eq_true rfl) rfl rfl (Nat.le_of_ble_eq_true rfl) dX5_isEel_10 ?_
  exact AW.ireturn X E ⟨rfl, rfl, rfl, rfl, rfl⟩ dX5_isEel_13 (hnar := by first | rfl | (unfold bI; split <;> rfl))
theorem c_X5_isShip (v : Int32) (hS : MS T I R N) : MX5_isShip 1 0 [.ref 200, .int v] T I R J (qR (some (.int (bI (0 ≤ v ∧ v < nI (nS N))))) T I R J) noX := by
  obtain ⟨hT, hR, hV, hN, hM⟩ := hS
  have hn := hN.1.2.2.1
  have hb := hN.1.2.2.2.2.2.2.1
  have v304 := hV.1 304 (by omega) (by omega)
  rw [← bI_cg (le_lt (v := v) (show nS N < 2 ^ 30 by omega))]
  refine AMet.of (by decide) (Nat.le_of_ble_eq_true rfl) (cats1 rfl) fun cx X E => ?_
  show AW _ _ _ (_ :: _ :: []) _ _ _ _ _
  refine AW.iload_n X dX5_isShip_0 rfl rfl ?_
  refine AW.iconst X (v := 0) dX5_isShip_1 rfl ?_
  first | refine AW.aload_n X dX5_isShip_2 rfl rfl ?_ | refine AW.aloadN_n X dX5_isShip_2 rfl rfl ?_
  refine AW.getR X f_X5_45_18 (by first | assumption | exact hT _ _ rfl) (by first | assumption | exact hR _ _ _ rfl) dX5_isShip_3 ?_
  refine AW.iconst X (v := 2) dX5_isShip_6 rfl ?_
  refine AW.iald X (j := 2) (by first | assumption | exact hT _ _ rfl) (by repeat (first | with_reducible exact rfl | assumption | exact ix_l _ | apply ix_add | apply ix_mul)) (by omega) dX5_isShip_7 ?_
  rw [v304, hn]
  refine AW.iconst X (v := 1) dX5_isShip_8 rfl ?_
  refine AW.isub X dX5_isShip_9 ?_
  refine AW.callS_r X (c_X5_isIn v 0 (nI (nS N) - 1)) s_X5_197 (by omega) (Nat.le_of_ble_eq_true rfl) rfl rfl (Nat.le_of_ble_eq_true rfl) dX5_isShip_10 ?_
  exact AW.ireturn X E ⟨rfl, rfl, rfl, rfl, rfl⟩ dX5_isShip_13 (hnar := by first | rfl | (unfold bI; split <;> rfl))
theorem c_X5_isHour (v : Int32) : MX5_isHour 1 0 [.int v] T I R J (qR (some (.int (bI (0 ≤ v ∧ v ≤ 23)))) T I R J) noX := by
  refine AMet.of (by decide) (Nat.le_of_ble_eq_true rfl) (cats1 rfl) fun cx X E => ?_
  show AW _ _ _ (_ :: []) _ _ _ _ _
  refine AW.iload_n X dX5_isHour_0 rfl rfl ?_
  refine AW.iconst X (v := 0) dX5_isHour_1 rfl ?_
  refine AW.bipush X (v := 23) dX5_isHour_2 rfl ?_
  refine AW.callS_r X (c_X5_isIn v 0 23) s_X5_197 (by omega) (Nat.le_of_ble_eq_true rfl) rfl rfl (Nat.le_of_ble_eq_true rfl) dX5_isHour_4 ?_
  exact AW.ireturn X E ⟨rfl, rfl, rfl, rfl, rfl⟩ dX5_isHour_7 (hnar := by first | rfl | (unfold bI; split <;> rfl))
theorem c_X5_priceOf {f : Nat} (hS : MS T I R N) (hf : f ≤ nM N) : MX5_priceOf 0 0 [.ref 200, .int (nI f)] T I R J (qR (some (.int (prS N f (nM N - f)))) T I R J) noX := by
  obtain ⟨hT, hR, hV, hN, hM⟩ := hS
  have hm26 := hM.2.1
  have v304 := hV.1 304 (by omega) (by omega)
  have vm := hV.2.1
  have v44 := hV.2.2.1
  refine AMet.of (by decide) (Nat.le_of_ble_eq_true rfl) (cats1 rfl) fun cx X E => ?_
  show AW _ _ _ (_ :: _ :: _ :: _ :: []) _ _ _ _ _
  have lp : ∀ j k, f + k + j = nM N → AW cx 0 4 [.ref 200, .int (nI f), .int (prS N f k), .int (nI (f + k))] [] T I R J := by
    intro j
    induction j with
    | zero =>
      intro k hk
      obtain rfl : k = nM N - f := by omega
      refine AW.iload_n X dX5_priceOf_4 rfl rfl ?_
      first | refine AW.aload_n X dX5_priceOf_5 rfl rfl ?_ | refine AW.aloadN_n X dX5_priceOf_5 rfl rfl ?_
      refine AW.getI X f_X5_337_18 (by first | assumption | exact hT _ _ rfl) dX5_priceOf_6 ?_
      rw [v44, hM.1]
      refine AW.icmp_ge X (tgt := 34) dX5_priceOf_9 rfl ?_ ?_
      · intro t9
        refine AW.iload_n X dX5_priceOf_34 rfl rfl ?_
        exact AW.ireturn X E ⟨rfl, rfl, rfl, rfl, rfl⟩ dX5_priceOf_35 
      · intro f9
        exact absurd (nI_le (by omega) (by omega)) f9
    | succ j ih =>
      intro k hk
      have hE := ih (k + 1) (by omega)
      obtain ⟨m1, m2, m3, m4, m5⟩ := hM.2.2.2.2 (f + k) (by omega)
      have w339 := (vm (f + k) (by omega)).2.2
      obtain ⟨σ, hσ, hσ2, hσ3⟩ : ∃ σ, σ < 2 ∧ N 339 (f + k) = nI σ ∧ N 304 (4 + σ) = prc N (N 339 (f + k)) := by
        rcases m5 with h | h
        · exact ⟨0, by omega, h, by unfold prc; rw [if_pos h]⟩
        · exact ⟨1, by omega, h, by unfold prc; rw [h, if_neg (by decide)]⟩
      refine AW.iload_n X dX5_priceOf_4 rfl rfl ?_
      first | refine AW.aload_n X dX5_priceOf_5 rfl rfl ?_ | refine AW.aloadN_n X dX5_priceOf_5 rfl rfl ?_
      refine AW.getI X f_X5_337_18 (by first | assumption | exact hT _ _ rfl) dX5_priceOf_6 ?_
      rw [v44, hM.1]
      refine AW.icmp_ge X (tgt := 34) dX5_priceOf_9 rfl ?_ ?_
      · intro t9
        exact absurd t9 (nI_ge (by omega) (by omega))
      · intro f9
        refine AW.iload_n X dX5_priceOf_12 rfl rfl ?_
        first | refine AW.aload_n X dX5_priceOf_13 rfl rfl ?_ | refine AW.aloadN_n X dX5_priceOf_13 rfl rfl ?_
        refine AW.getR X f_X5_45_18 (by first | assumption | exact hT _ _ rfl) (by first | assumption | exact hR _ _ _ rfl) dX5_priceOf_14 ?_
        refine AW.iconst X (v := 4) dX5_priceOf_17 rfl ?_
        first | refine AW.aload_n X dX5_priceOf_18 rfl rfl ?_ | refine AW.aloadN_n X dX5_priceOf_18 rfl rfl ?_
        refine AW.getR X f_X5_119_18 (by first | assumption | exact hT _ _ rfl) (by first | assumption | exact hR _ _ _ rfl) dX5_priceOf_19 ?_
        refine AW.iload_n X dX5_priceOf_22 rfl rfl ?_
        refine AW.iald X (j := f + k) (by first | assumption | exact hT _ _ rfl) (by repeat (first | with_reducible exact rfl | assumption | exact ix_l _ | apply ix_add | apply ix_mul)) (by omega) dX5_priceOf_23 ?_
        rw [w339, hσ2]
        refine AW.iadd X dX5_priceOf_24 ?_
        refine AW.iald X (j := 4 + σ) (by first | assumption | exact hT _ _ rfl) (by repeat (first | with_reducible exact rfl | assumption | exact ix_l _ | apply ix_add | apply ix_mul)) (by omega) dX5_priceOf_25 ?_
        rw [v304, hσ3]
        refine AW.iadd X dX5_priceOf_26 ?_
        refine AW.istore2 X dX5_priceOf_27 ?_
        refine AW.iinc3 X (v := _ + 1) dX5_priceOf_28 rfl ?_
        refine AW.goto X (tgt := 4) dX5_priceOf_31 rfl ?_
        rw [nI_1]; exact hE
  refine AW.iconst X (v := 0) dX5_priceOf_0 rfl ?_
  refine AW.istore2 X dX5_priceOf_1 ?_
  refine AW.iload_n X dX5_priceOf_2 rfl rfl ?_
  refine AW.istore3 X dX5_priceOf_3 ?_
  exact lp (nM N - f) 0 (by omega)
theorem c_X5_hunger {e h : Nat} (hS : MS T I R N) (he : e < nE N) (hh : h < 24) : MX5_hunger 9 0 [.ref 200, .int (nI e), .int (nI h)] T I R J (qM (some (.int (hun N e h))) (nM N) T I R J) noX := by
  have hS0 := hS
  have hS1 : MS T (w2 I 200 3 0) R N := hS.cod
  obtain ⟨hT, hR, hV, hN, hM⟩ := hS
  obtain ⟨⟨n1, n2, n3, n4, hnq, hne, hns, hnh⟩, -⟩ := id hN
  refine AMet.of (by decide) (Nat.le_of_ble_eq_true rfl) (cats1 rfl) fun cx X E => ?_
  show AW _ _ _ (_ :: _ :: _ :: []) _ _ _ _ _
  first | refine AW.aload_n X dX5_hunger_0 rfl rfl ?_ | refine AW.aloadN_n X dX5_hunger_0 rfl rfl ?_
  refine AW.iconst X (v := 0) dX5_hunger_1 rfl ?_
  refine AW.putI X g_X5_hunger_194_18 (by omega) (by first | assumption | exact hT _ _ rfl) dX5_hunger_2 ?_ 
  first | refine AW.aload_n X dX5_hunger_5 rfl rfl ?_ | refine AW.aloadN_n X dX5_hunger_5 rfl rfl ?_
  refine AW.iload_n X dX5_hunger_6 rfl rfl ?_
  refine AW.callV_r X (c_X5_isEel (nI e) hS1) (ci := 18) (q := (RX5, TX5, 74)) (by first | assumption | exact hT _ _ rfl) rfl s_X5_379_18 (by omega) (Nat.le_of_ble_eq_true rfl) rfl rfl (Nat.le_of_ble_eq_true rfl) dX5_hunger_7 ?_
  rw [bI_t ⟨nI_pos' (by omega), nI_lt he (by omega)⟩]
  refine AW.if_eq X (tgt := 20) dX5_hunger_10 rfl ?_ ?_
  · intro t10
    exact absurd t10 (by decide)
  · intro f10
    refine AW.iload_n X dX5_hunger_13 rfl rfl ?_
    refine AW.callS_r X (c_X5_isHour (nI h)) s_X5_385 (by omega) (Nat.le_of_ble_eq_true rfl) rfl rfl (Nat.le_of_ble_eq_true rfl) dX5_hunger_14 ?_
    rw [bI_t ⟨nI_pos' (by omega), nI_le (b := 23) (by omega) (by omega)⟩]
    refine AW.if_ne X (tgt := 26) dX5_hunger_17 rfl ?_ ?_
    · intro t17
      first | refine AW.aload_n X dX5_hunger_26 rfl rfl ?_ | refine AW.aloadN_n X dX5_hunger_26 rfl rfl ?_
      refine AW.callV_i X (c_X5_tellNight hS1) (ci := 18) (q := (RX5, TX5, 74)) (by first | assumption | exact hT _ _ rfl) rfl s_X5_392_18 (by omega) (Nat.le_of_ble_eq_true rfl) rfl rfl (Nat.le_of_ble_eq_true rfl) dX5_hunger_27 ?_
      intro r27 I27 h27
      obtain ⟨rfl, hf, hn⟩ := h27
      first | refine AW.aload_n X dX5_hunger_30 rfl rfl ?_ | refine AW.aloadN_n X dX5_hunger_30 rfl rfl ?_
      refine AW.getR X f_X5_122_18 (by first | assumption | exact hT _ _ rfl) (by first | assumption | exact hR _ _ _ rfl) dX5_hunger_31 ?_
      refine AW.bipush X (v := 24) dX5_hunger_34 rfl ?_
      refine AW.iload_n X dX5_hunger_36 rfl rfl ?_
      refine AW.imul X dX5_hunger_37 ?_
      refine AW.iload_n X dX5_hunger_38 rfl rfl ?_
      refine AW.iadd X dX5_hunger_39 ?_
      refine AW.iald X (j := 24 * e + h) (by first | assumption | exact hT _ _ rfl) (by repeat (first | with_reducible exact rfl | assumption | exact ix_l _ | apply ix_add | apply ix_mul)) (by omega) dX5_hunger_40 ?_
      rw [(hn.1 e h he hh).1]
      refine AW.ireturn X E ?_ dX5_hunger_41 
      exact ⟨rfl, rfl, rfl, rfl, (congrFun hf.s 3).trans (w2_s _ _ _ _), FM.cod.tr hf.fm⟩
    · intro f17
      exact absurd f17 (by decide)
theorem c_X5_hunger_bad {e h : Int32} (hS : MS T I R N) (hb : ¬ ((0 ≤ e ∧ e < nI (nE N)) ∧ (0 ≤ h ∧ h ≤ 23))) : MX5_hunger 9 0 [.ref 200, .int e, .int h] T I R J (qF 1 (nM N) T I R J) noX := by
  have hS0 := hS
  have hS1 : MS T (w2 I 200 3 0) R N := hS.cod
  obtain ⟨hT, hR, hV, hN, hM⟩ := hS
  obtain ⟨⟨n1, n2, n3, n4, hnq, hne, hns, hnh⟩, -⟩ := id hN
  refine AMet.of (by decide) (Nat.le_of_ble_eq_true rfl) (cats1 rfl) fun cx X E => ?_
  show AW _ _ _ (_ :: _ :: _ :: []) _ _ _ _ _
  by_cases hi : 0 ≤ e ∧ e < nI (nE N)
  · skip
    first | refine AW.aload_n X dX5_hunger_0 rfl rfl ?_ | refine AW.aloadN_n X dX5_hunger_0 rfl rfl ?_
    refine AW.iconst X (v := 0) dX5_hunger_1 rfl ?_
    refine AW.putI X g_X5_hunger_194_18 (by omega) (by first | assumption | exact hT _ _ rfl) dX5_hunger_2 ?_ 
    first | refine AW.aload_n X dX5_hunger_5 rfl rfl ?_ | refine AW.aloadN_n X dX5_hunger_5 rfl rfl ?_
    refine AW.iload_n X dX5_hunger_6 rfl rfl ?_
    refine AW.callV_r X (c_X5_isEel e hS1) (ci := 18) (q := (RX5, TX5, 74)) (by first | assumption | exact hT _ _ rfl) rfl s_X5_379_18 (by omega) (Nat.le_of_ble_eq_true rfl) rfl rfl (Nat.le_of_ble_eq_true rfl) dX5_hunger_7 ?_
    rw [bI_t hi]
    refine AW.if_eq X (tgt := 20) dX5_hunger_10 rfl ?_ ?_
    · intro t10
      exact absurd t10 (by decide)
    · intro f10
      refine AW.iload_n X dX5_hunger_13 rfl rfl ?_
      refine AW.callS_r X (c_X5_isHour h) s_X5_385 (by omega) (Nat.le_of_ble_eq_true rfl) rfl rfl (Nat.le_of_ble_eq_true rfl) dX5_hunger_14 ?_
      rw [bI_f (fun hh => hb ⟨hi, hh⟩)]
      refine AW.if_ne X (tgt := 26) dX5_hunger_17 rfl ?_ ?_
      · intro t17
        exact absurd rfl t17
      · intro f17
        first | refine AW.aload_n X dX5_hunger_20 rfl rfl ?_ | refine AW.aloadN_n X dX5_hunger_20 rfl rfl ?_
        refine AW.iconst X (v := 1) dX5_hunger_21 rfl ?_
        refine AW.callV_i X (c_X5_fail hT 1) (ci := 18) (q := (RX5, TX5, 74)) (by first | assumption | exact hT _ _ rfl) rfl s_X5_323_18 (by omega) (Nat.le_of_ble_eq_true rfl) rfl rfl (Nat.le_of_ble_eq_true rfl) dX5_hunger_22 ?_
        intro r22 I22 h22
        obtain ⟨rfl, rfl⟩ := h22
        refine AW.ireturn X E ?_ dX5_hunger_25 
        exact ⟨rfl, rfl, rfl, ⟨_, rfl⟩, w2_s _ _ _ _, FM.cod.tr FM.cod⟩
  · skip
    first | refine AW.aload_n X dX5_hunger_0 rfl rfl ?_ | refine AW.aloadN_n X dX5_hunger_0 rfl rfl ?_
    refine AW.iconst X (v := 0) dX5_hunger_1 rfl ?_
    refine AW.putI X g_X5_hunger_194_18 (by omega) (by first | assumption | exact hT _ _ rfl) dX5_hunger_2 ?_ 
    first | refine AW.aload_n X dX5_hunger_5 rfl rfl ?_ | refine AW.aloadN_n X dX5_hunger_5 rfl rfl ?_
    refine AW.iload_n X dX5_hunger_6 rfl rfl ?_
    refine AW.callV_r X (c_X5_isEel e hS1) (ci := 18) (q := (RX5, TX5, 74)) (by first | assumption | exact hT _ _ rfl) rfl s_X5_379_18 (by omega) (Nat.le_of_ble_eq_true rfl) rfl rfl (Nat.le_of_ble_eq_true rfl) dX5_hunger_7 ?_
    rw [bI_f hi]
    refine AW.if_eq X (tgt := 20) dX5_hunger_10 rfl ?_ ?_
    · intro t10
      first | refine AW.aload_n X dX5_hunger_20 rfl rfl ?_ | refine AW.aloadN_n X dX5_hunger_20 rfl rfl ?_
      refine AW.iconst X (v := 1) dX5_hunger_21 rfl ?_
      refine AW.callV_i X (c_X5_fail hT 1) (ci := 18) (q := (RX5, TX5, 74)) (by first | assumption | exact hT _ _ rfl) rfl s_X5_323_18 (by omega) (Nat.le_of_ble_eq_true rfl) rfl rfl (Nat.le_of_ble_eq_true rfl) dX5_hunger_22 ?_
      intro r22 I22 h22
      obtain ⟨rfl, rfl⟩ := h22
      refine AW.ireturn X E ?_ dX5_hunger_25 
      exact ⟨rfl, rfl, rfl, ⟨_, rfl⟩, w2_s _ _ _ _, FM.cod.tr FM.cod⟩
    · intro f10
      exact absurd rfl f10
theorem c_X5_glow {e h : Nat} (hS : MS T I R N) (he : e < nE N) (hh : h < 24) : MX5_glow 9 0 [.ref 200, .int (nI e), .int (nI h)] T I R J (qM (some (.int (glo N e h))) (nM N) T I R J) noX := by
  have hS0 := hS
  have hS1 : MS T (w2 I 200 3 0) R N := hS.cod
  obtain ⟨hT, hR, hV, hN, hM⟩ := hS
  obtain ⟨⟨n1, n2, n3, n4, hnq, hne, hns, hnh⟩, -⟩ := id hN
  refine AMet.of (by decide) (Nat.le_of_ble_eq_true rfl) (cats1 rfl) fun cx X E => ?_
  show AW _ _ _ (_ :: _ :: _ :: []) _ _ _ _ _
  first | refine AW.aload_n X dX5_glow_0 rfl rfl ?_ | refine AW.aloadN_n X dX5_glow_0 rfl rfl ?_
  refine AW.iconst X (v := 0) dX5_glow_1 rfl ?_
  refine AW.putI X g_X5_glow_194_18 (by omega) (by first | assumption | exact hT _ _ rfl) dX5_glow_2 ?_ 
  first | refine AW.aload_n X dX5_glow_5 rfl rfl ?_ | refine AW.aloadN_n X dX5_glow_5 rfl rfl ?_
  refine AW.iload_n X dX5_glow_6 rfl rfl ?_
  refine AW.callV_r X (c_X5_isEel (nI e) hS1) (ci := 18) (q := (RX5, TX5, 74)) (by first | assumption | exact hT _ _ rfl) rfl s_X5_379_18 (by omega) (Nat.le_of_ble_eq_true rfl) rfl rfl (Nat.le_of_ble_eq_true rfl) dX5_glow_7 ?_
  rw [bI_t ⟨nI_pos' (by omega), nI_lt he (by omega)⟩]
  refine AW.if_eq X (tgt := 20) dX5_glow_10 rfl ?_ ?_
  · intro t10
    exact absurd t10 (by decide)
  · intro f10
    refine AW.iload_n X dX5_glow_13 rfl rfl ?_
    refine AW.callS_r X (c_X5_isHour (nI h)) s_X5_385 (by omega) (Nat.le_of_ble_eq_true rfl) rfl rfl (Nat.le_of_ble_eq_true rfl) dX5_glow_14 ?_
    rw [bI_t ⟨nI_pos' (by omega), nI_le (b := 23) (by omega) (by omega)⟩]
    refine AW.if_ne X (tgt := 26) dX5_glow_17 rfl ?_ ?_
    · intro t17
      first | refine AW.aload_n X dX5_glow_26 rfl rfl ?_ | refine AW.aloadN_n X dX5_glow_26 rfl rfl ?_
      refine AW.callV_i X (c_X5_tellNight hS1) (ci := 18) (q := (RX5, TX5, 74)) (by first | assumption | exact hT _ _ rfl) rfl s_X5_392_18 (by omega) (Nat.le_of_ble_eq_true rfl) rfl rfl (Nat.le_of_ble_eq_true rfl) dX5_glow_27 ?_
      intro r27 I27 h27
      obtain ⟨rfl, hf, hn⟩ := h27
      first | refine AW.aload_n X dX5_glow_30 rfl rfl ?_ | refine AW.aloadN_n X dX5_glow_30 rfl rfl ?_
      refine AW.getR X f_X5_125_18 (by first | assumption | exact hT _ _ rfl) (by first | assumption | exact hR _ _ _ rfl) dX5_glow_31 ?_
      refine AW.bipush X (v := 24) dX5_glow_34 rfl ?_
      refine AW.iload_n X dX5_glow_36 rfl rfl ?_
      refine AW.imul X dX5_glow_37 ?_
      refine AW.iload_n X dX5_glow_38 rfl rfl ?_
      refine AW.iadd X dX5_glow_39 ?_
      refine AW.iald X (j := 24 * e + h) (by first | assumption | exact hT _ _ rfl) (by repeat (first | with_reducible exact rfl | assumption | exact ix_l _ | apply ix_add | apply ix_mul)) (by omega) dX5_glow_40 ?_
      rw [(hn.1 e h he hh).2.1]
      refine AW.ireturn X E ?_ dX5_glow_41 
      exact ⟨rfl, rfl, rfl, rfl, (congrFun hf.s 3).trans (w2_s _ _ _ _), FM.cod.tr hf.fm⟩
    · intro f17
      exact absurd f17 (by decide)
theorem c_X5_glow_bad {e h : Int32} (hS : MS T I R N) (hb : ¬ ((0 ≤ e ∧ e < nI (nE N)) ∧ (0 ≤ h ∧ h ≤ 23))) : MX5_glow 9 0 [.ref 200, .int e, .int h] T I R J (qF 1 (nM N) T I R J) noX := by
  have hS0 := hS
  have hS1 : MS T (w2 I 200 3 0) R N := hS.cod
  obtain ⟨hT, hR, hV, hN, hM⟩ := hS
  obtain ⟨⟨n1, n2, n3, n4, hnq, hne, hns, hnh⟩, -⟩ := id hN
  refine AMet.of (by decide) (Nat.le_of_ble_eq_true rfl) (cats1 rfl) fun cx X E => ?_
  show AW _ _ _ (_ :: _ :: _ :: []) _ _ _ _ _
  by_cases hi : 0 ≤ e ∧ e < nI (nE N)
  · skip
    first | refine AW.aload_n X dX5_glow_0 rfl rfl ?_ | refine AW.aloadN_n X dX5_glow_0 rfl rfl ?_
    refine AW.iconst X (v := 0) dX5_glow_1 rfl ?_
    refine AW.putI X g_X5_glow_194_18 (by omega) (by first | assumption | exact hT _ _ rfl) dX5_glow_2 ?_ 
    first | refine AW.aload_n X dX5_glow_5 rfl rfl ?_ | refine AW.aloadN_n X dX5_glow_5 rfl rfl ?_
    refine AW.iload_n X dX5_glow_6 rfl rfl ?_
    refine AW.callV_r X (c_X5_isEel e hS1) (ci := 18) (q := (RX5, TX5, 74)) (by first | assumption | exact hT _ _ rfl) rfl s_X5_379_18 (by omega) (Nat.le_of_ble_eq_true rfl) rfl rfl (Nat.le_of_ble_eq_true rfl) dX5_glow_7 ?_
    rw [bI_t hi]
    refine AW.if_eq X (tgt := 20) dX5_glow_10 rfl ?_ ?_
    · intro t10
      exact absurd t10 (by decide)
    · intro f10
      refine AW.iload_n X dX5_glow_13 rfl rfl ?_
      refine AW.callS_r X (c_X5_isHour h) s_X5_385 (by omega) (Nat.le_of_ble_eq_true rfl) rfl rfl (Nat.le_of_ble_eq_true rfl) dX5_glow_14 ?_
      rw [bI_f (fun hh => hb ⟨hi, hh⟩)]
      refine AW.if_ne X (tgt := 26) dX5_glow_17 rfl ?_ ?_
      · intro t17
        exact absurd rfl t17
      · intro f17
        first | refine AW.aload_n X dX5_glow_20 rfl rfl ?_ | refine AW.aloadN_n X dX5_glow_20 rfl rfl ?_
        refine AW.iconst X (v := 1) dX5_glow_21 rfl ?_
        refine AW.callV_i X (c_X5_fail hT 1) (ci := 18) (q := (RX5, TX5, 74)) (by first | assumption | exact hT _ _ rfl) rfl s_X5_323_18 (by omega) (Nat.le_of_ble_eq_true rfl) rfl rfl (Nat.le_of_ble_eq_true rfl) dX5_glow_22 ?_
        intro r22 I22 h22
        obtain ⟨rfl, rfl⟩ := h22
        refine AW.ireturn X E ?_ dX5_glow_25 
        exact ⟨rfl, rfl, rfl, ⟨_, rfl⟩, w2_s _ _ _ _, FM.cod.tr FM.cod⟩
  · skip
    first | refine AW.aload_n X dX5_glow_0 rfl rfl ?_ | refine AW.aloadN_n X dX5_glow_0 rfl rfl ?_
    refine AW.iconst X (v := 0) dX5_glow_1 rfl ?_
    refine AW.putI X g_X5_glow_194_18 (by omega) (by first | assumption | exact hT _ _ rfl) dX5_glow_2 ?_ 
    first | refine AW.aload_n X dX5_glow_5 rfl rfl ?_ | refine AW.aloadN_n X dX5_glow_5 rfl rfl ?_
    refine AW.iload_n X dX5_glow_6 rfl rfl ?_
    refine AW.callV_r X (c_X5_isEel e hS1) (ci := 18) (q := (RX5, TX5, 74)) (by first | assumption | exact hT _ _ rfl) rfl s_X5_379_18 (by omega) (Nat.le_of_ble_eq_true rfl) rfl rfl (Nat.le_of_ble_eq_true rfl) dX5_glow_7 ?_
    rw [bI_f hi]
    refine AW.if_eq X (tgt := 20) dX5_glow_10 rfl ?_ ?_
    · intro t10
      first | refine AW.aload_n X dX5_glow_20 rfl rfl ?_ | refine AW.aloadN_n X dX5_glow_20 rfl rfl ?_
      refine AW.iconst X (v := 1) dX5_glow_21 rfl ?_
      refine AW.callV_i X (c_X5_fail hT 1) (ci := 18) (q := (RX5, TX5, 74)) (by first | assumption | exact hT _ _ rfl) rfl s_X5_323_18 (by omega) (Nat.le_of_ble_eq_true rfl) rfl rfl (Nat.le_of_ble_eq_true rfl) dX5_glow_22 ?_
      intro r22 I22 h22
      obtain ⟨rfl, rfl⟩ := h22
      refine AW.ireturn X E ?_ dX5_glow_25 
      exact ⟨rfl, rfl, rfl, ⟨_, rfl⟩, w2_s _ _ _ _, FM.cod.tr FM.cod⟩
    · intro f10
      exact absurd rfl f10
theorem c_X5_led {e h : Nat} (hS : MS T I R N) (he : e < nE N) (hh : h < 24) : MX5_led 9 0 [.ref 200, .int (nI e), .int (nI h)] T I R J (qM (some (.int (ledV N e h))) (nM N) T I R J) noX := by
  have hS0 := hS
  have hS1 : MS T (w2 I 200 3 0) R N := hS.cod
  obtain ⟨hT, hR, hV, hN, hM⟩ := hS
  obtain ⟨⟨n1, n2, n3, n4, hnq, hne, hns, hnh⟩, -⟩ := id hN
  refine AMet.of (by decide) (Nat.le_of_ble_eq_true rfl) (cats1 rfl) fun cx X E => ?_
  show AW _ _ _ (_ :: _ :: _ :: []) _ _ _ _ _
  first | refine AW.aload_n X dX5_led_0 rfl rfl ?_ | refine AW.aloadN_n X dX5_led_0 rfl rfl ?_
  refine AW.iconst X (v := 0) dX5_led_1 rfl ?_
  refine AW.putI X g_X5_led_194_18 (by omega) (by first | assumption | exact hT _ _ rfl) dX5_led_2 ?_ 
  first | refine AW.aload_n X dX5_led_5 rfl rfl ?_ | refine AW.aloadN_n X dX5_led_5 rfl rfl ?_
  refine AW.iload_n X dX5_led_6 rfl rfl ?_
  refine AW.callV_r X (c_X5_isEel (nI e) hS1) (ci := 18) (q := (RX5, TX5, 74)) (by first | assumption | exact hT _ _ rfl) rfl s_X5_379_18 (by omega) (Nat.le_of_ble_eq_true rfl) rfl rfl (Nat.le_of_ble_eq_true rfl) dX5_led_7 ?_
  rw [bI_t ⟨nI_pos' (by omega), nI_lt he (by omega)⟩]
  refine AW.if_eq X (tgt := 20) dX5_led_10 rfl ?_ ?_
  · intro t10
    exact absurd t10 (by decide)
  · intro f10
    refine AW.iload_n X dX5_led_13 rfl rfl ?_
    refine AW.callS_r X (c_X5_isHour (nI h)) s_X5_385 (by omega) (Nat.le_of_ble_eq_true rfl) rfl rfl (Nat.le_of_ble_eq_true rfl) dX5_led_14 ?_
    rw [bI_t ⟨nI_pos' (by omega), nI_le (b := 23) (by omega) (by omega)⟩]
    refine AW.if_ne X (tgt := 26) dX5_led_17 rfl ?_ ?_
    · intro t17
      first | refine AW.aload_n X dX5_led_26 rfl rfl ?_ | refine AW.aloadN_n X dX5_led_26 rfl rfl ?_
      refine AW.callV_i X (c_X5_tellNight hS1) (ci := 18) (q := (RX5, TX5, 74)) (by first | assumption | exact hT _ _ rfl) rfl s_X5_392_18 (by omega) (Nat.le_of_ble_eq_true rfl) rfl rfl (Nat.le_of_ble_eq_true rfl) dX5_led_27 ?_
      intro r27 I27 h27
      obtain ⟨rfl, hf, hn⟩ := h27
      first | refine AW.aload_n X dX5_led_30 rfl rfl ?_ | refine AW.aloadN_n X dX5_led_30 rfl rfl ?_
      refine AW.getR X f_X5_128_18 (by first | assumption | exact hT _ _ rfl) (by first | assumption | exact hR _ _ _ rfl) dX5_led_31 ?_
      refine AW.bipush X (v := 24) dX5_led_34 rfl ?_
      refine AW.iload_n X dX5_led_36 rfl rfl ?_
      refine AW.imul X dX5_led_37 ?_
      refine AW.iload_n X dX5_led_38 rfl rfl ?_
      refine AW.iadd X dX5_led_39 ?_
      refine AW.iald X (j := 24 * e + h) (by first | assumption | exact hT _ _ rfl) (by repeat (first | with_reducible exact rfl | assumption | exact ix_l _ | apply ix_add | apply ix_mul)) (by omega) dX5_led_40 ?_
      rw [(hn.1 e h he hh).2.2]
      refine AW.ireturn X E ?_ dX5_led_41 
      exact ⟨rfl, rfl, rfl, rfl, (congrFun hf.s 3).trans (w2_s _ _ _ _), FM.cod.tr hf.fm⟩
    · intro f17
      exact absurd f17 (by decide)
theorem c_X5_led_bad {e h : Int32} (hS : MS T I R N) (hb : ¬ ((0 ≤ e ∧ e < nI (nE N)) ∧ (0 ≤ h ∧ h ≤ 23))) : MX5_led 9 0 [.ref 200, .int e, .int h] T I R J (qF 1 (nM N) T I R J) noX := by
  have hS0 := hS
  have hS1 : MS T (w2 I 200 3 0) R N := hS.cod
  obtain ⟨hT, hR, hV, hN, hM⟩ := hS
  obtain ⟨⟨n1, n2, n3, n4, hnq, hne, hns, hnh⟩, -⟩ := id hN
  refine AMet.of (by decide) (Nat.le_of_ble_eq_true rfl) (cats1 rfl) fun cx X E => ?_
  show AW _ _ _ (_ :: _ :: _ :: []) _ _ _ _ _
  by_cases hi : 0 ≤ e ∧ e < nI (nE N)
  · skip
    first | refine AW.aload_n X dX5_led_0 rfl rfl ?_ | refine AW.aloadN_n X dX5_led_0 rfl rfl ?_
    refine AW.iconst X (v := 0) dX5_led_1 rfl ?_
    refine AW.putI X g_X5_led_194_18 (by omega) (by first | assumption | exact hT _ _ rfl) dX5_led_2 ?_ 
    first | refine AW.aload_n X dX5_led_5 rfl rfl ?_ | refine AW.aloadN_n X dX5_led_5 rfl rfl ?_
    refine AW.iload_n X dX5_led_6 rfl rfl ?_
    refine AW.callV_r X (c_X5_isEel e hS1) (ci := 18) (q := (RX5, TX5, 74)) (by first | assumption | exact hT _ _ rfl) rfl s_X5_379_18 (by omega) (Nat.le_of_ble_eq_true rfl) rfl rfl (Nat.le_of_ble_eq_true rfl) dX5_led_7 ?_
    rw [bI_t hi]
    refine AW.if_eq X (tgt := 20) dX5_led_10 rfl ?_ ?_
    · intro t10
      exact absurd t10 (by decide)
    · intro f10
      refine AW.iload_n X dX5_led_13 rfl rfl ?_
      refine AW.callS_r X (c_X5_isHour h) s_X5_385 (by omega) (Nat.le_of_ble_eq_true rfl) rfl rfl (Nat.le_of_ble_eq_true rfl) dX5_led_14 ?_
      rw [bI_f (fun hh => hb ⟨hi, hh⟩)]
      refine AW.if_ne X (tgt := 26) dX5_led_17 rfl ?_ ?_
      · intro t17
        exact absurd rfl t17
      · intro f17
        first | refine AW.aload_n X dX5_led_20 rfl rfl ?_ | refine AW.aloadN_n X dX5_led_20 rfl rfl ?_
        refine AW.iconst X (v := 1) dX5_led_21 rfl ?_
        refine AW.callV_i X (c_X5_fail hT 1) (ci := 18) (q := (RX5, TX5, 74)) (by first | assumption | exact hT _ _ rfl) rfl s_X5_323_18 (by omega) (Nat.le_of_ble_eq_true rfl) rfl rfl (Nat.le_of_ble_eq_true rfl) dX5_led_22 ?_
        intro r22 I22 h22
        obtain ⟨rfl, rfl⟩ := h22
        refine AW.ireturn X E ?_ dX5_led_25 
        exact ⟨rfl, rfl, rfl, ⟨_, rfl⟩, w2_s _ _ _ _, FM.cod.tr FM.cod⟩
  · skip
    first | refine AW.aload_n X dX5_led_0 rfl rfl ?_ | refine AW.aloadN_n X dX5_led_0 rfl rfl ?_
    refine AW.iconst X (v := 0) dX5_led_1 rfl ?_
    refine AW.putI X g_X5_led_194_18 (by omega) (by first | assumption | exact hT _ _ rfl) dX5_led_2 ?_ 
    first | refine AW.aload_n X dX5_led_5 rfl rfl ?_ | refine AW.aloadN_n X dX5_led_5 rfl rfl ?_
    refine AW.iload_n X dX5_led_6 rfl rfl ?_
    refine AW.callV_r X (c_X5_isEel e hS1) (ci := 18) (q := (RX5, TX5, 74)) (by first | assumption | exact hT _ _ rfl) rfl s_X5_379_18 (by omega) (Nat.le_of_ble_eq_true rfl) rfl rfl (Nat.le_of_ble_eq_true rfl) dX5_led_7 ?_
    rw [bI_f hi]
    refine AW.if_eq X (tgt := 20) dX5_led_10 rfl ?_ ?_
    · intro t10
      first | refine AW.aload_n X dX5_led_20 rfl rfl ?_ | refine AW.aloadN_n X dX5_led_20 rfl rfl ?_
      refine AW.iconst X (v := 1) dX5_led_21 rfl ?_
      refine AW.callV_i X (c_X5_fail hT 1) (ci := 18) (q := (RX5, TX5, 74)) (by first | assumption | exact hT _ _ rfl) rfl s_X5_323_18 (by omega) (Nat.le_of_ble_eq_true rfl) rfl rfl (Nat.le_of_ble_eq_true rfl) dX5_led_22 ?_
      intro r22 I22 h22
      obtain ⟨rfl, rfl⟩ := h22
      refine AW.ireturn X E ?_ dX5_led_25 
      exact ⟨rfl, rfl, rfl, ⟨_, rfl⟩, w2_s _ _ _ _, FM.cod.tr FM.cod⟩
    · intro f10
      exact absurd rfl f10
theorem c_X5_light {e h : Nat} (hS : MS T I R N) (he : e < nQ N) (hh : h < 24) : MX5_light 9 0 [.ref 200, .int (nI e), .int (nI h)] T I R J (qM (some (.int (Lig N e h))) (nM N) T I R J) noX := by
  have hS0 := hS
  have hS1 : MS T (w2 I 200 3 0) R N := hS.cod
  obtain ⟨hT, hR, hV, hN, hM⟩ := hS
  obtain ⟨⟨n1, n2, n3, n4, hnq, hne, hns, hnh⟩, -⟩ := id hN
  refine AMet.of (by decide) (Nat.le_of_ble_eq_true rfl) (cats1 rfl) fun cx X E => ?_
  show AW _ _ _ (_ :: _ :: _ :: []) _ _ _ _ _
  first | refine AW.aload_n X dX5_light_0 rfl rfl ?_ | refine AW.aloadN_n X dX5_light_0 rfl rfl ?_
  refine AW.iconst X (v := 0) dX5_light_1 rfl ?_
  refine AW.putI X g_X5_light_194_18 (by omega) (by first | assumption | exact hT _ _ rfl) dX5_light_2 ?_ 
  first | refine AW.aload_n X dX5_light_5 rfl rfl ?_ | refine AW.aloadN_n X dX5_light_5 rfl rfl ?_
  refine AW.iload_n X dX5_light_6 rfl rfl ?_
  refine AW.callV_r X (c_X5_isQuay (nI e) hS1) (ci := 18) (q := (RX5, TX5, 74)) (by first | assumption | exact hT _ _ rfl) rfl s_X5_376_18 (by omega) (Nat.le_of_ble_eq_true rfl) rfl rfl (Nat.le_of_ble_eq_true rfl) dX5_light_7 ?_
  rw [bI_t ⟨nI_pos' (by omega), nI_lt he (by omega)⟩]
  refine AW.if_eq X (tgt := 20) dX5_light_10 rfl ?_ ?_
  · intro t10
    exact absurd t10 (by decide)
  · intro f10
    refine AW.iload_n X dX5_light_13 rfl rfl ?_
    refine AW.callS_r X (c_X5_isHour (nI h)) s_X5_385 (by omega) (Nat.le_of_ble_eq_true rfl) rfl rfl (Nat.le_of_ble_eq_true rfl) dX5_light_14 ?_
    rw [bI_t ⟨nI_pos' (by omega), nI_le (b := 23) (by omega) (by omega)⟩]
    refine AW.if_ne X (tgt := 26) dX5_light_17 rfl ?_ ?_
    · intro t17
      first | refine AW.aload_n X dX5_light_26 rfl rfl ?_ | refine AW.aloadN_n X dX5_light_26 rfl rfl ?_
      refine AW.callV_i X (c_X5_tellNight hS1) (ci := 18) (q := (RX5, TX5, 74)) (by first | assumption | exact hT _ _ rfl) rfl s_X5_392_18 (by omega) (Nat.le_of_ble_eq_true rfl) rfl rfl (Nat.le_of_ble_eq_true rfl) dX5_light_27 ?_
      intro r27 I27 h27
      obtain ⟨rfl, hf, hn⟩ := h27
      first | refine AW.aload_n X dX5_light_30 rfl rfl ?_ | refine AW.aloadN_n X dX5_light_30 rfl rfl ?_
      refine AW.getR X f_X5_131_18 (by first | assumption | exact hT _ _ rfl) (by first | assumption | exact hR _ _ _ rfl) dX5_light_31 ?_
      refine AW.bipush X (v := 24) dX5_light_34 rfl ?_
      refine AW.iload_n X dX5_light_36 rfl rfl ?_
      refine AW.imul X dX5_light_37 ?_
      refine AW.iload_n X dX5_light_38 rfl rfl ?_
      refine AW.iadd X dX5_light_39 ?_
      refine AW.iald X (j := 24 * e + h) (by first | assumption | exact hT _ _ rfl) (by repeat (first | with_reducible exact rfl | assumption | exact ix_l _ | apply ix_add | apply ix_mul)) (by omega) dX5_light_40 ?_
      rw [hn.2 e h he hh]
      refine AW.ireturn X E ?_ dX5_light_41 
      exact ⟨rfl, rfl, rfl, rfl, (congrFun hf.s 3).trans (w2_s _ _ _ _), FM.cod.tr hf.fm⟩
    · intro f17
      exact absurd f17 (by decide)
theorem c_X5_light_bad {e h : Int32} (hS : MS T I R N) (hb : ¬ ((0 ≤ e ∧ e < nI (nQ N)) ∧ (0 ≤ h ∧ h ≤ 23))) : MX5_light 9 0 [.ref 200, .int e, .int h] T I R J (qF 1 (nM N) T I R J) noX := by
  have hS0 := hS
  have hS1 : MS T (w2 I 200 3 0) R N := hS.cod
  obtain ⟨hT, hR, hV, hN, hM⟩ := hS
  obtain ⟨⟨n1, n2, n3, n4, hnq, hne, hns, hnh⟩, -⟩ := id hN
  refine AMet.of (by decide) (Nat.le_of_ble_eq_true rfl) (cats1 rfl) fun cx X E => ?_
  show AW _ _ _ (_ :: _ :: _ :: []) _ _ _ _ _
  by_cases hi : 0 ≤ e ∧ e < nI (nQ N)
  · skip
    first | refine AW.aload_n X dX5_light_0 rfl rfl ?_ | refine AW.aloadN_n X dX5_light_0 rfl rfl ?_
    refine AW.iconst X (v := 0) dX5_light_1 rfl ?_
    refine AW.putI X g_X5_light_194_18 (by omega) (by first | assumption | exact hT _ _ rfl) dX5_light_2 ?_ 
    first | refine AW.aload_n X dX5_light_5 rfl rfl ?_ | refine AW.aloadN_n X dX5_light_5 rfl rfl ?_
    refine AW.iload_n X dX5_light_6 rfl rfl ?_
    refine AW.callV_r X (c_X5_isQuay e hS1) (ci := 18) (q := (RX5, TX5, 74)) (by first | assumption | exact hT _ _ rfl) rfl s_X5_376_18 (by omega) (Nat.le_of_ble_eq_true rfl) rfl rfl (Nat.le_of_ble_eq_true rfl) dX5_light_7 ?_
    rw [bI_t hi]
    refine AW.if_eq X (tgt := 20) dX5_light_10 rfl ?_ ?_
    · intro t10
      exact absurd t10 (by decide)
    · intro f10
      refine AW.iload_n X dX5_light_13 rfl rfl ?_
      refine AW.callS_r X (c_X5_isHour h) s_X5_385 (by omega) (Nat.le_of_ble_eq_true rfl) rfl rfl (Nat.le_of_ble_eq_true rfl) dX5_light_14 ?_
      rw [bI_f (fun hh => hb ⟨hi, hh⟩)]
      refine AW.if_ne X (tgt := 26) dX5_light_17 rfl ?_ ?_
      · intro t17
        exact absurd rfl t17
      · intro f17
        first | refine AW.aload_n X dX5_light_20 rfl rfl ?_ | refine AW.aloadN_n X dX5_light_20 rfl rfl ?_
        refine AW.iconst X (v := 1) dX5_light_21 rfl ?_
        refine AW.callV_i X (c_X5_fail hT 1) (ci := 18) (q := (RX5, TX5, 74)) (by first | assumption | exact hT _ _ rfl) rfl s_X5_323_18 (by omega) (Nat.le_of_ble_eq_true rfl) rfl rfl (Nat.le_of_ble_eq_true rfl) dX5_light_22 ?_
        intro r22 I22 h22
        obtain ⟨rfl, rfl⟩ := h22
        refine AW.ireturn X E ?_ dX5_light_25 
        exact ⟨rfl, rfl, rfl, ⟨_, rfl⟩, w2_s _ _ _ _, FM.cod.tr FM.cod⟩
  · skip
    first | refine AW.aload_n X dX5_light_0 rfl rfl ?_ | refine AW.aloadN_n X dX5_light_0 rfl rfl ?_
    refine AW.iconst X (v := 0) dX5_light_1 rfl ?_
    refine AW.putI X g_X5_light_194_18 (by omega) (by first | assumption | exact hT _ _ rfl) dX5_light_2 ?_ 
    first | refine AW.aload_n X dX5_light_5 rfl rfl ?_ | refine AW.aloadN_n X dX5_light_5 rfl rfl ?_
    refine AW.iload_n X dX5_light_6 rfl rfl ?_
    refine AW.callV_r X (c_X5_isQuay e hS1) (ci := 18) (q := (RX5, TX5, 74)) (by first | assumption | exact hT _ _ rfl) rfl s_X5_376_18 (by omega) (Nat.le_of_ble_eq_true rfl) rfl rfl (Nat.le_of_ble_eq_true rfl) dX5_light_7 ?_
    rw [bI_f hi]
    refine AW.if_eq X (tgt := 20) dX5_light_10 rfl ?_ ?_
    · intro t10
      first | refine AW.aload_n X dX5_light_20 rfl rfl ?_ | refine AW.aloadN_n X dX5_light_20 rfl rfl ?_
      refine AW.iconst X (v := 1) dX5_light_21 rfl ?_
      refine AW.callV_i X (c_X5_fail hT 1) (ci := 18) (q := (RX5, TX5, 74)) (by first | assumption | exact hT _ _ rfl) rfl s_X5_323_18 (by omega) (Nat.le_of_ble_eq_true rfl) rfl rfl (Nat.le_of_ble_eq_true rfl) dX5_light_22 ?_
      intro r22 I22 h22
      obtain ⟨rfl, rfl⟩ := h22
      refine AW.ireturn X E ?_ dX5_light_25 
      exact ⟨rfl, rfl, rfl, ⟨_, rfl⟩, w2_s _ _ _ _, FM.cod.tr FM.cod⟩
    · intro f10
      exact absurd rfl f10
theorem c_X5_at {s h : Nat} (hS : MS T I R N) (hs : s < nS N) (hh : h ≤ 24) : MX5_at 9 0 [.ref 200, .int (nI s), .int (nI h)] T I R J (qM (some (.int (atV N s h))) (nM N) T I R J) noX := by
  have hS0 := hS
  have hS1 : MS T (w2 I 200 3 0) R N := hS.cod
  obtain ⟨hT, hR, hV, hN, hM⟩ := hS
  obtain ⟨⟨n1, n2, n3, n4, hnq, hne, hns, hnh⟩, -⟩ := id hN
  refine AMet.of (by decide) (Nat.le_of_ble_eq_true rfl) (cats1 rfl) fun cx X E => ?_
  show AW _ _ _ (_ :: _ :: _ :: []) _ _ _ _ _
  first | refine AW.aload_n X dX5_at_0 rfl rfl ?_ | refine AW.aloadN_n X dX5_at_0 rfl rfl ?_
  refine AW.iconst X (v := 0) dX5_at_1 rfl ?_
  refine AW.putI X g_X5_at_194_18 (by omega) (by first | assumption | exact hT _ _ rfl) dX5_at_2 ?_ 
  first | refine AW.aload_n X dX5_at_5 rfl rfl ?_ | refine AW.aloadN_n X dX5_at_5 rfl rfl ?_
  refine AW.iload_n X dX5_at_6 rfl rfl ?_
  refine AW.callV_r X (c_X5_isShip (nI s) hS1) (ci := 18) (q := (RX5, TX5, 74)) (by first | assumption | exact hT _ _ rfl) rfl s_X5_382_18 (by omega) (Nat.le_of_ble_eq_true rfl) rfl rfl (Nat.le_of_ble_eq_true rfl) dX5_at_7 ?_
  rw [bI_t ⟨nI_pos' (by omega), nI_lt hs (by omega)⟩]
  refine AW.if_eq X (tgt := 23) dX5_at_10 rfl ?_ ?_
  · intro t10
    exact absurd t10 (by decide)
  · intro f10
    refine AW.iload_n X dX5_at_13 rfl rfl ?_
    refine AW.iconst X (v := 0) dX5_at_14 rfl ?_
    refine AW.bipush X (v := 24) dX5_at_15 rfl ?_
    refine AW.callS_r X (c_X5_isIn (nI h) 0 24) s_X5_197 (by omega) (Nat.le_of_ble_eq_true rfl) rfl rfl (Nat.le_of_ble_eq_true rfl) dX5_at_17 ?_
    rw [bI_t ⟨nI_pos' (by omega), nI_le (b := 24) (by omega) (by omega)⟩]
    refine AW.if_ne X (tgt := 29) dX5_at_20 rfl ?_ ?_
    · intro t20
      first | refine AW.aload_n X dX5_at_29 rfl rfl ?_ | refine AW.aloadN_n X dX5_at_29 rfl rfl ?_
      refine AW.callV_i X (c_X5_tellNight hS1) (ci := 18) (q := (RX5, TX5, 74)) (by first | assumption | exact hT _ _ rfl) rfl s_X5_392_18 (by omega) (Nat.le_of_ble_eq_true rfl) rfl rfl (Nat.le_of_ble_eq_true rfl) dX5_at_30 ?_
      intro r30 I30 h30
      obtain ⟨rfl, hf, hn⟩ := h30
      first | refine AW.aload_n X dX5_at_33 rfl rfl ?_ | refine AW.aloadN_n X dX5_at_33 rfl rfl ?_
      refine AW.iload_n X dX5_at_34 rfl rfl ?_
      refine AW.callV_i X (c_X5_sail (hS1.fe hf) hn hs) (ci := 18) (q := (RX5, TX5, 74)) (by first | assumption | exact hT _ _ rfl) rfl s_X5_411_18 (by omega) (Nat.le_of_ble_eq_true rfl) rfl rfl (Nat.le_of_ble_eq_true rfl) dX5_at_35 ?_
      intro r35 I35 h35
      obtain ⟨rfl, hf2, hl⟩ := h35
      first | refine AW.aload_n X dX5_at_38 rfl rfl ?_ | refine AW.aloadN_n X dX5_at_38 rfl rfl ?_
      refine AW.getR X f_X5_140_18 (by first | assumption | exact hT _ _ rfl) (by first | assumption | exact hR _ _ _ rfl) dX5_at_39 ?_
      refine AW.iload_n X dX5_at_42 rfl rfl ?_
      refine AW.iald X (j := h) (by first | assumption | exact hT _ _ rfl) (by repeat (first | with_reducible exact rfl | assumption | exact ix_l _ | apply ix_add | apply ix_mul)) (by omega) dX5_at_43 ?_
      rw [hl h hh]
      refine AW.ireturn X E ?_ dX5_at_44 
      exact ⟨rfl, rfl, rfl, rfl, (congrFun (hf2 200 (by omega)) 3).trans ((congrFun hf.s 3).trans (w2_s _ _ _ _)), (FM.cod.tr hf.fm).tr (FM.w349 hf2)⟩
    · intro f20
      exact absurd f20 (by decide)
theorem c_X5_at_bad {e h : Int32} (hS : MS T I R N) (hb : ¬ ((0 ≤ e ∧ e < nI (nS N)) ∧ (0 ≤ h ∧ h ≤ 24))) : MX5_at 9 0 [.ref 200, .int e, .int h] T I R J (qF 1 (nM N) T I R J) noX := by
  have hS0 := hS
  have hS1 : MS T (w2 I 200 3 0) R N := hS.cod
  obtain ⟨hT, hR, hV, hN, hM⟩ := hS
  obtain ⟨⟨n1, n2, n3, n4, hnq, hne, hns, hnh⟩, -⟩ := id hN
  refine AMet.of (by decide) (Nat.le_of_ble_eq_true rfl) (cats1 rfl) fun cx X E => ?_
  show AW _ _ _ (_ :: _ :: _ :: []) _ _ _ _ _
  by_cases hi : 0 ≤ e ∧ e < nI (nS N)
  · skip
    first | refine AW.aload_n X dX5_at_0 rfl rfl ?_ | refine AW.aloadN_n X dX5_at_0 rfl rfl ?_
    refine AW.iconst X (v := 0) dX5_at_1 rfl ?_
    refine AW.putI X g_X5_at_194_18 (by omega) (by first | assumption | exact hT _ _ rfl) dX5_at_2 ?_ 
    first | refine AW.aload_n X dX5_at_5 rfl rfl ?_ | refine AW.aloadN_n X dX5_at_5 rfl rfl ?_
    refine AW.iload_n X dX5_at_6 rfl rfl ?_
    refine AW.callV_r X (c_X5_isShip e hS1) (ci := 18) (q := (RX5, TX5, 74)) (by first | assumption | exact hT _ _ rfl) rfl s_X5_382_18 (by omega) (Nat.le_of_ble_eq_true rfl) rfl rfl (Nat.le_of_ble_eq_true rfl) dX5_at_7 ?_
    rw [bI_t hi]
    refine AW.if_eq X (tgt := 23) dX5_at_10 rfl ?_ ?_
    · intro t10
      exact absurd t10 (by decide)
    · intro f10
      refine AW.iload_n X dX5_at_13 rfl rfl ?_
      refine AW.iconst X (v := 0) dX5_at_14 rfl ?_
      refine AW.bipush X (v := 24) dX5_at_15 rfl ?_
      refine AW.callS_r X (c_X5_isIn h 0 24) s_X5_197 (by omega) (Nat.le_of_ble_eq_true rfl) rfl rfl (Nat.le_of_ble_eq_true rfl) dX5_at_17 ?_
      rw [bI_f (fun hh => hb ⟨hi, hh⟩)]
      refine AW.if_ne X (tgt := 29) dX5_at_20 rfl ?_ ?_
      · intro t20
        exact absurd rfl t20
      · intro f20
        first | refine AW.aload_n X dX5_at_23 rfl rfl ?_ | refine AW.aloadN_n X dX5_at_23 rfl rfl ?_
        refine AW.iconst X (v := 1) dX5_at_24 rfl ?_
        refine AW.callV_i X (c_X5_fail hT 1) (ci := 18) (q := (RX5, TX5, 74)) (by first | assumption | exact hT _ _ rfl) rfl s_X5_323_18 (by omega) (Nat.le_of_ble_eq_true rfl) rfl rfl (Nat.le_of_ble_eq_true rfl) dX5_at_25 ?_
        intro r25 I25 h25
        obtain ⟨rfl, rfl⟩ := h25
        refine AW.ireturn X E ?_ dX5_at_28 
        exact ⟨rfl, rfl, rfl, ⟨_, rfl⟩, w2_s _ _ _ _, FM.cod.tr FM.cod⟩
  · skip
    first | refine AW.aload_n X dX5_at_0 rfl rfl ?_ | refine AW.aloadN_n X dX5_at_0 rfl rfl ?_
    refine AW.iconst X (v := 0) dX5_at_1 rfl ?_
    refine AW.putI X g_X5_at_194_18 (by omega) (by first | assumption | exact hT _ _ rfl) dX5_at_2 ?_ 
    first | refine AW.aload_n X dX5_at_5 rfl rfl ?_ | refine AW.aloadN_n X dX5_at_5 rfl rfl ?_
    refine AW.iload_n X dX5_at_6 rfl rfl ?_
    refine AW.callV_r X (c_X5_isShip e hS1) (ci := 18) (q := (RX5, TX5, 74)) (by first | assumption | exact hT _ _ rfl) rfl s_X5_382_18 (by omega) (Nat.le_of_ble_eq_true rfl) rfl rfl (Nat.le_of_ble_eq_true rfl) dX5_at_7 ?_
    rw [bI_f hi]
    refine AW.if_eq X (tgt := 23) dX5_at_10 rfl ?_ ?_
    · intro t10
      first | refine AW.aload_n X dX5_at_23 rfl rfl ?_ | refine AW.aloadN_n X dX5_at_23 rfl rfl ?_
      refine AW.iconst X (v := 1) dX5_at_24 rfl ?_
      refine AW.callV_i X (c_X5_fail hT 1) (ci := 18) (q := (RX5, TX5, 74)) (by first | assumption | exact hT _ _ rfl) rfl s_X5_323_18 (by omega) (Nat.le_of_ble_eq_true rfl) rfl rfl (Nat.le_of_ble_eq_true rfl) dX5_at_25 ?_
      intro r25 I25 h25
      obtain ⟨rfl, rfl⟩ := h25
      refine AW.ireturn X E ?_ dX5_at_28 
      exact ⟨rfl, rfl, rfl, ⟨_, rfl⟩, w2_s _ _ _ _, FM.cod.tr FM.cod⟩
    · intro f10
      exact absurd rfl f10
theorem c_X5_end {s : Nat} {w : Int32} (hS : MS T I R N) (hs : s < nS N) (hw : w = 0 ∨ w = 1) : MX5_end 10 0 [.ref 200, .int (nI s), .int w] T I R J (qM (some (.int (endV N s w))) (nM N) T I R J) noX := by
  have hS0 := hS
  have hS1 : MS T (w2 I 200 3 0) R N := hS.cod
  obtain ⟨hT, hR, hV, hN, hM⟩ := hS
  obtain ⟨⟨n1, n2, n3, n4, hnq, hne, hns, hnh⟩, -⟩ := id hN
  obtain ⟨k1, k2, k3, k4, k5, k6, k7⟩ := hN.2.2.2.1 s hs
  have hp24 : ∀ k, pos N (Lig N) (hRow N) s k < 8 := fun k => Nat.lt_of_lt_of_le (pos_lt hN hs k) hnq
  have at1 : ∀ h, h ≤ 24 → nat N 316 s ≤ h → atV N s h = nI (posAt N (Lig N) (hRow N) s h) := fun h h24 hh => by
    unfold atV; rw [k5, if_neg (nI_nlt hh (by omega))]
  have v316 := hV.1 316 (by omega) (by omega)
  unfold endV
  refine AMet.of (by decide) (Nat.le_of_ble_eq_true rfl) (cats1 rfl) fun cx X E => ?_
  show AW _ _ _ (_ :: _ :: _ :: _ :: _ :: []) _ _ _ _ _
  have lp : ∀ (I1 I2 : KI) (r3 : Nat), r3 = nEnd N s → FE (w2 I 200 3 0) I1 → (∀ a, a ≠ 349 → I2 a = I1 a) → SaP N s I2 → ∀ h, h ≤ 24 → eH N s 24 = eH N s h → nat N 316 s ≤ h → AW cx 0 42 [.ref 200, .int (nI s), .int w, .int (nI r3), .int (nI h)] [] T I2 R J := by
    intro I1 I2 r3 hr3 hf hf2 hl h
    have w316 : I2 316 s = N 316 s := (congrFun (hf2 316 (by omega)) s).trans ((congrFun (hf 316 (by omega) (by omega) (by omega) (by omega) (by omega) (by omega)) s).trans ((congrFun (w2_r (by omega)) s).trans (congrFun v316 s)))
    have fin : ∀ h', eH N s 24 = h' → AW cx 0 78 [.ref 200, .int (nI s), .int w, .int (nI r3), .int (nI h')] [] T I2 R J := by
      intro h' hh'
      rw [← hh', hr3]
      refine AW.iload_n X dX5_end_78 rfl rfl ?_
      refine AW.if_ne X (tgt := 86) dX5_end_79 rfl ?_ ?_
      · intro t79
        rw [if_neg t79] at E
        refine AW.iload X dX5_end_86 rfl ?_
        refine AW.ireturn X E ?_ dX5_end_88 
        exact ⟨rfl, rfl, rfl, rfl, (congrFun (hf2 200 (by omega)) 3).trans ((congrFun hf.s 3).trans (w2_s _ _ _ _)), (FM.cod.tr hf.fm).tr (FM.w349 hf2)⟩
      · intro f79
        rw [if_pos f79] at E
        refine AW.iload_n X dX5_end_82 rfl rfl ?_
        refine AW.goto X (tgt := 88) dX5_end_83 rfl ?_
        refine AW.ireturn X E ?_ dX5_end_88 
        exact ⟨rfl, rfl, rfl, rfl, (congrFun (hf2 200 (by omega)) 3).trans ((congrFun hf.s 3).trans (w2_s _ _ _ _)), (FM.cod.tr hf.fm).tr (FM.w349 hf2)⟩
    induction h with
    | zero =>
      intro hh he hle
      refine AW.iload X dX5_end_42 rfl ?_
      first | refine AW.aload_n X dX5_end_44 rfl rfl ?_ | refine AW.aloadN_n X dX5_end_44 rfl rfl ?_
      refine AW.getR X f_X5_82_18 (by first | assumption | exact hT _ _ rfl) (by first | assumption | exact hR _ _ _ rfl) dX5_end_45 ?_
      refine AW.iload_n X dX5_end_48 rfl rfl ?_
      refine AW.iald X (j := s) (by first | assumption | exact hT _ _ rfl) (by repeat (first | with_reducible exact rfl | assumption | exact ix_l _ | apply ix_add | apply ix_mul)) (by omega) dX5_end_49 ?_
      rw [w316, k5]
      refine AW.icmp_le X (tgt := 78) dX5_end_50 rfl ?_ ?_
      · intro t50
        exact fin 0 he
      · intro f50
        exact absurd (nI_le (by omega) (by omega)) f50
    | succ h ih =>
      intro hh he hle
      have hstep : eH N s (h + 1) = if nat N 316 s < h + 1 ∧ posAt N (Lig N) (hRow N) s h = posAt N (Lig N) (hRow N) s 24 then eH N s h else h + 1 := rfl
      refine AW.iload X dX5_end_42 rfl ?_
      first | refine AW.aload_n X dX5_end_44 rfl rfl ?_ | refine AW.aloadN_n X dX5_end_44 rfl rfl ?_
      refine AW.getR X f_X5_82_18 (by first | assumption | exact hT _ _ rfl) (by first | assumption | exact hR _ _ _ rfl) dX5_end_45 ?_
      refine AW.iload_n X dX5_end_48 rfl rfl ?_
      refine AW.iald X (j := s) (by first | assumption | exact hT _ _ rfl) (by repeat (first | with_reducible exact rfl | assumption | exact ix_l _ | apply ix_add | apply ix_mul)) (by omega) dX5_end_49 ?_
      rw [w316, k5]
      refine AW.icmp_le X (tgt := 78) dX5_end_50 rfl ?_ ?_
      · intro t50
        rw [if_neg (fun hc => nI_ge hc.1 (by omega) t50)] at hstep
        exact fin _ (he.trans hstep)
      · intro f50
        have hlt : nat N 316 s < h + 1 := (nI_ltI (by omega) (by omega)).mp (Int32.not_le.mp f50)
        first | refine AW.aload_n X dX5_end_53 rfl rfl ?_ | refine AW.aloadN_n X dX5_end_53 rfl rfl ?_
        refine AW.getR X f_X5_140_18 (by first | assumption | exact hT _ _ rfl) (by first | assumption | exact hR _ _ _ rfl) dX5_end_54 ?_
        refine AW.iload X dX5_end_57 rfl ?_
        refine AW.iconst X (v := 1) dX5_end_59 rfl ?_
        refine AW.isub X dX5_end_60 ?_
        rw [show nI (h + 1) - 1 = nI h from nI_pred h]
        refine AW.iald X (j := h) (by first | assumption | exact hT _ _ rfl) rfl (by omega) dX5_end_61 ?_
        rw [hl h (by omega), at1 h (by omega) (by omega)]
        first | refine AW.aload_n X dX5_end_62 rfl rfl ?_ | refine AW.aloadN_n X dX5_end_62 rfl rfl ?_
        refine AW.getR X f_X5_140_18 (by first | assumption | exact hT _ _ rfl) (by first | assumption | exact hR _ _ _ rfl) dX5_end_63 ?_
        refine AW.bipush X (v := 24) dX5_end_66 rfl ?_
        refine AW.iald X (j := 24) (by first | assumption | exact hT _ _ rfl) (by repeat (first | with_reducible exact rfl | assumption | exact ix_l _ | apply ix_add | apply ix_mul)) (by omega) dX5_end_68 ?_
        rw [hl 24 (by omega), at1 24 (by omega) (by omega)]
        refine AW.icmp_ne X (tgt := 78) dX5_end_69 rfl ?_ ?_
        · intro t69
          rw [if_neg (fun hc => t69 (congrArg nI hc.2))] at hstep
          exact fin _ (he.trans hstep)
        · intro f69
          have hpe := (nI_eq (by have := hp24 (h - nat N 316 s); unfold posAt; omega) (by have := hp24 (24 - nat N 316 s); unfold posAt; omega)).mp f69
          rw [if_pos ⟨hlt, hpe⟩] at hstep
          refine AW.iinc4 X (v := _ + -1) dX5_end_72 rfl ?_
          refine AW.goto X (tgt := 42) dX5_end_75 rfl ?_
          rw [show nI (h + 1) + -1 = nI h from by rw [← nI_pred h, Int32.sub_eq_add_neg]]
          exact ih (by omega) (he.trans hstep) (by omega)
  first | refine AW.aload_n X dX5_end_0 rfl rfl ?_ | refine AW.aloadN_n X dX5_end_0 rfl rfl ?_
  refine AW.iconst X (v := 0) dX5_end_1 rfl ?_
  refine AW.putI X g_X5_end_194_18 (by omega) (by first | assumption | exact hT _ _ rfl) dX5_end_2 ?_ 
  first | refine AW.aload_n X dX5_end_5 rfl rfl ?_ | refine AW.aloadN_n X dX5_end_5 rfl rfl ?_
  refine AW.iload_n X dX5_end_6 rfl rfl ?_
  refine AW.callV_r X (c_X5_isShip (nI s) hS1) (ci := 18) (q := (RX5, TX5, 74)) (by first | assumption | exact hT _ _ rfl) rfl s_X5_382_18 (by omega) (Nat.le_of_ble_eq_true rfl) rfl rfl (Nat.le_of_ble_eq_true rfl) dX5_end_7 ?_
  rw [bI_t ⟨nI_pos' (by omega), nI_lt hs (by omega)⟩]
  refine AW.if_eq X (tgt := 22) dX5_end_10 rfl ?_ ?_
  · intro t10
    exact absurd t10 (by decide)
  · intro f10
    refine AW.iload_n X dX5_end_13 rfl rfl ?_
    refine AW.if_lt X (tgt := 22) dX5_end_14 rfl ?_ ?_
    · intro t14
      exact absurd t14 (by rcases hw with rfl | rfl <;> decide)
    · intro f14
      refine AW.iload_n X dX5_end_17 rfl rfl ?_
      refine AW.iconst X (v := 1) dX5_end_18 rfl ?_
      refine AW.icmp_le X (tgt := 28) dX5_end_19 rfl ?_ ?_
      · intro t19
        first | refine AW.aload_n X dX5_end_28 rfl rfl ?_ | refine AW.aloadN_n X dX5_end_28 rfl rfl ?_
        refine AW.callV_i X (c_X5_tellNight hS1) (ci := 18) (q := (RX5, TX5, 74)) (by first | assumption | exact hT _ _ rfl) rfl s_X5_392_18 (by omega) (Nat.le_of_ble_eq_true rfl) rfl rfl (Nat.le_of_ble_eq_true rfl) dX5_end_29 ?_
        intro r29 I29 h29
        obtain ⟨rfl, hf, hn⟩ := h29
        first | refine AW.aload_n X dX5_end_32 rfl rfl ?_ | refine AW.aloadN_n X dX5_end_32 rfl rfl ?_
        refine AW.iload_n X dX5_end_33 rfl rfl ?_
        refine AW.callV_i X (c_X5_endOf (hS1.fe hf) hn hs) (ci := 18) (q := (RX5, TX5, 74)) (by first | assumption | exact hT _ _ rfl) rfl s_X5_414_18 (by omega) (Nat.le_of_ble_eq_true rfl) rfl rfl (Nat.le_of_ble_eq_true rfl) dX5_end_34 ?_
        intro r34 I34 h34
        obtain ⟨rfl, hf2, hl⟩ := h34
        refine AW.istore3 X dX5_end_37 ?_
        refine AW.bipush X (v := 24) dX5_end_38 rfl ?_
        refine AW.istore4 X dX5_end_40 ?_
        exact lp _ _ _ rfl hf hf2 hl 24 (by omega) rfl (by omega)
      · intro f19
        exact absurd (show w ≤ 1 by rcases hw with rfl | rfl <;> decide) f19
theorem c_X5_end_bad {e w : Int32} (hS : MS T I R N) (hb : ¬ ((0 ≤ e ∧ e < nI (nS N)) ∧ (w = 0 ∨ w = 1))) : MX5_end 10 0 [.ref 200, .int e, .int w] T I R J (qF 1 (nM N) T I R J) noX := by
  have hS0 := hS
  have hS1 : MS T (w2 I 200 3 0) R N := hS.cod
  obtain ⟨hT, hR, hV, hN, hM⟩ := hS
  obtain ⟨⟨n1, n2, n3, n4, hnq, hne, hns, hnh⟩, -⟩ := id hN
  refine AMet.of (by decide) (Nat.le_of_ble_eq_true rfl) (cats1 rfl) fun cx X E => ?_
  show AW _ _ _ (_ :: _ :: _ :: _ :: _ :: []) _ _ _ _ _
  by_cases hi : 0 ≤ e ∧ e < nI (nS N)
  · skip
    first | refine AW.aload_n X dX5_end_0 rfl rfl ?_ | refine AW.aloadN_n X dX5_end_0 rfl rfl ?_
    refine AW.iconst X (v := 0) dX5_end_1 rfl ?_
    refine AW.putI X g_X5_end_194_18 (by omega) (by first | assumption | exact hT _ _ rfl) dX5_end_2 ?_ 
    first | refine AW.aload_n X dX5_end_5 rfl rfl ?_ | refine AW.aloadN_n X dX5_end_5 rfl rfl ?_
    refine AW.iload_n X dX5_end_6 rfl rfl ?_
    refine AW.callV_r X (c_X5_isShip e hS1) (ci := 18) (q := (RX5, TX5, 74)) (by first | assumption | exact hT _ _ rfl) rfl s_X5_382_18 (by omega) (Nat.le_of_ble_eq_true rfl) rfl rfl (Nat.le_of_ble_eq_true rfl) dX5_end_7 ?_
    rw [bI_t hi]
    refine AW.if_eq X (tgt := 22) dX5_end_10 rfl ?_ ?_
    · intro t10
      exact absurd t10 (by decide)
    · intro f10
      refine AW.iload_n X dX5_end_13 rfl rfl ?_
      refine AW.if_lt X (tgt := 22) dX5_end_14 rfl ?_ ?_
      · intro t14
        first | refine AW.aload_n X dX5_end_22 rfl rfl ?_ | refine AW.aloadN_n X dX5_end_22 rfl rfl ?_
        refine AW.iconst X (v := 1) dX5_end_23 rfl ?_
        refine AW.callV_i X (c_X5_fail hT 1) (ci := 18) (q := (RX5, TX5, 74)) (by first | assumption | exact hT _ _ rfl) rfl s_X5_323_18 (by omega) (Nat.le_of_ble_eq_true rfl) rfl rfl (Nat.le_of_ble_eq_true rfl) dX5_end_24 ?_
        intro r24 I24 h24
        obtain ⟨rfl, rfl⟩ := h24
        refine AW.ireturn X E ?_ dX5_end_27 
        exact ⟨rfl, rfl, rfl, ⟨_, rfl⟩, w2_s _ _ _ _, FM.cod.tr FM.cod⟩
      · intro f14
        refine AW.iload_n X dX5_end_17 rfl rfl ?_
        refine AW.iconst X (v := 1) dX5_end_18 rfl ?_
        refine AW.icmp_le X (tgt := 28) dX5_end_19 rfl ?_ ?_
        · intro t19
          exact absurd ⟨hi, in01 (Int32.not_lt.mp f14) t19⟩ hb
        · intro f19
          first | refine AW.aload_n X dX5_end_22 rfl rfl ?_ | refine AW.aloadN_n X dX5_end_22 rfl rfl ?_
          refine AW.iconst X (v := 1) dX5_end_23 rfl ?_
          refine AW.callV_i X (c_X5_fail hT 1) (ci := 18) (q := (RX5, TX5, 74)) (by first | assumption | exact hT _ _ rfl) rfl s_X5_323_18 (by omega) (Nat.le_of_ble_eq_true rfl) rfl rfl (Nat.le_of_ble_eq_true rfl) dX5_end_24 ?_
          intro r24 I24 h24
          obtain ⟨rfl, rfl⟩ := h24
          refine AW.ireturn X E ?_ dX5_end_27 
          exact ⟨rfl, rfl, rfl, ⟨_, rfl⟩, w2_s _ _ _ _, FM.cod.tr FM.cod⟩
  · skip
    first | refine AW.aload_n X dX5_end_0 rfl rfl ?_ | refine AW.aloadN_n X dX5_end_0 rfl rfl ?_
    refine AW.iconst X (v := 0) dX5_end_1 rfl ?_
    refine AW.putI X g_X5_end_194_18 (by omega) (by first | assumption | exact hT _ _ rfl) dX5_end_2 ?_ 
    first | refine AW.aload_n X dX5_end_5 rfl rfl ?_ | refine AW.aloadN_n X dX5_end_5 rfl rfl ?_
    refine AW.iload_n X dX5_end_6 rfl rfl ?_
    refine AW.callV_r X (c_X5_isShip e hS1) (ci := 18) (q := (RX5, TX5, 74)) (by first | assumption | exact hT _ _ rfl) rfl s_X5_382_18 (by omega) (Nat.le_of_ble_eq_true rfl) rfl rfl (Nat.le_of_ble_eq_true rfl) dX5_end_7 ?_
    rw [bI_f hi]
    refine AW.if_eq X (tgt := 22) dX5_end_10 rfl ?_ ?_
    · intro t10
      first | refine AW.aload_n X dX5_end_22 rfl rfl ?_ | refine AW.aloadN_n X dX5_end_22 rfl rfl ?_
      refine AW.iconst X (v := 1) dX5_end_23 rfl ?_
      refine AW.callV_i X (c_X5_fail hT 1) (ci := 18) (q := (RX5, TX5, 74)) (by first | assumption | exact hT _ _ rfl) rfl s_X5_323_18 (by omega) (Nat.le_of_ble_eq_true rfl) rfl rfl (Nat.le_of_ble_eq_true rfl) dX5_end_24 ?_
      intro r24 I24 h24
      obtain ⟨rfl, rfl⟩ := h24
      refine AW.ireturn X E ?_ dX5_end_27 
      exact ⟨rfl, rfl, rfl, ⟨_, rfl⟩, w2_s _ _ _ _, FM.cod.tr FM.cod⟩
    · intro f10
      exact absurd rfl f10
theorem c_X5_quay {q : Nat} {w : Int32} (hS : MS T I R N) (hq : q < nQ N) (hw : 0 ≤ w ∧ w ≤ 4) : MX5_quay 9 0 [.ref 200, .int (nI q), .int w] T I R J (qM (some (.int (quayV N q w))) (nM N) T I R J) noX := by
  have hS0 := hS
  have hS1 : MS T (w2 I 200 3 0) R N := hS.cod
  obtain ⟨hT, hR, hV, hN, hM⟩ := hS
  obtain ⟨⟨n1, n2, n3, n4, hnq, hne, hns, hnh⟩, -⟩ := id hN
  have w304 : w2 I 200 3 0 304 = N 304 := (w2_r (by omega)).trans (hV.1 304 (by omega) (by omega))
  have w311 : w2 I 200 3 0 311 = N 311 := (w2_r (by omega)).trans (hV.1 311 (by omega) (by omega))
  have w305 : w2 I 200 3 0 305 = N 305 := (w2_r (by omega)).trans (hV.1 305 (by omega) (by omega))
  have w306 : w2 I 200 3 0 306 = N 306 := (w2_r (by omega)).trans (hV.1 306 (by omega) (by omega))
  have w307 : w2 I 200 3 0 307 = N 307 := (w2_r (by omega)).trans (hV.1 307 (by omega) (by omega))
  have w308 : w2 I 200 3 0 308 = N 308 := (w2_r (by omega)).trans (hV.1 308 (by omega) (by omega))
  unfold quayV
  refine AMet.of (by decide) (Nat.le_of_ble_eq_true rfl) (cats1 rfl) fun cx X E => ?_
  show AW _ _ _ (_ :: _ :: _ :: _ :: _ :: []) _ _ _ _ _
  have lp : ∀ j e, e + j = nE N → AW cx 0 33 [.ref 200, .int (nI q), .int w, .int (setE N q e), .int (nI e)] [] T (w2 I 200 3 0) R J := by
    intro j
    induction j with
    | zero =>
      intro e hj
      obtain rfl : e = nE N := by omega
      refine AW.iload X dX5_quay_33 rfl ?_
      first | refine AW.aload_n X dX5_quay_35 rfl rfl ?_ | refine AW.aloadN_n X dX5_quay_35 rfl rfl ?_
      refine AW.getR X f_X5_45_18 (by first | assumption | exact hT _ _ rfl) (by first | assumption | exact hR _ _ _ rfl) dX5_quay_36 ?_
      refine AW.iconst X (v := 1) dX5_quay_39 rfl ?_
      refine AW.iald X (j := 1) (by first | assumption | exact hT _ _ rfl) (by repeat (first | with_reducible exact rfl | assumption | exact ix_l _ | apply ix_add | apply ix_mul)) (by omega) dX5_quay_40 ?_
      rw [w304, n2]
      refine AW.icmp_ge X (tgt := 72) dX5_quay_41 rfl ?_ ?_
      · intro t41
        refine AW.iload_n X dX5_quay_72 rfl rfl ?_
        refine AW.if_ne X (tgt := 85) dX5_quay_73 rfl ?_ ?_
        · intro t73
          rw [if_neg t73] at E
          refine AW.iload_n X dX5_quay_85 rfl rfl ?_
          refine AW.iconst X (v := 1) dX5_quay_86 rfl ?_
          refine AW.icmp_ne X (tgt := 99) dX5_quay_87 rfl ?_ ?_
          · intro t87
            rw [if_neg t87] at E
            refine AW.iload_n X dX5_quay_99 rfl rfl ?_
            refine AW.iconst X (v := 2) dX5_quay_100 rfl ?_
            refine AW.icmp_ne X (tgt := 113) dX5_quay_101 rfl ?_ ?_
            · intro t101
              rw [if_neg t101] at E
              refine AW.iload_n X dX5_quay_113 rfl rfl ?_
              refine AW.iconst X (v := 3) dX5_quay_114 rfl ?_
              refine AW.icmp_ne X (tgt := 127) dX5_quay_115 rfl ?_ ?_
              · intro t115
                rw [if_neg t115] at E
                refine AW.iload_n X dX5_quay_127 rfl rfl ?_
                refine AW.ireturn X E ?_ dX5_quay_128 
                exact ⟨rfl, rfl, rfl, rfl, w2_s _ _ _ _, FM.cod⟩
              · intro f115
                rw [if_pos f115] at E
                first | refine AW.aload_n X dX5_quay_118 rfl rfl ?_ | refine AW.aloadN_n X dX5_quay_118 rfl rfl ?_
                refine AW.getR X f_X5_58_18 (by first | assumption | exact hT _ _ rfl) (by first | assumption | exact hR _ _ _ rfl) dX5_quay_119 ?_
                refine AW.iload_n X dX5_quay_122 rfl rfl ?_
                refine AW.iald X (j := q) (by first | assumption | exact hT _ _ rfl) (by repeat (first | with_reducible exact rfl | assumption | exact ix_l _ | apply ix_add | apply ix_mul)) (by omega) dX5_quay_123 ?_
                rw [w308]
                refine AW.goto X (tgt := 128) dX5_quay_124 rfl ?_
                refine AW.ireturn X E ?_ dX5_quay_128 
                exact ⟨rfl, rfl, rfl, rfl, w2_s _ _ _ _, FM.cod⟩
            · intro f101
              rw [if_pos f101] at E
              first | refine AW.aload_n X dX5_quay_104 rfl rfl ?_ | refine AW.aloadN_n X dX5_quay_104 rfl rfl ?_
              refine AW.getR X f_X5_55_18 (by first | assumption | exact hT _ _ rfl) (by first | assumption | exact hR _ _ _ rfl) dX5_quay_105 ?_
              refine AW.iload_n X dX5_quay_108 rfl rfl ?_
              refine AW.iald X (j := q) (by first | assumption | exact hT _ _ rfl) (by repeat (first | with_reducible exact rfl | assumption | exact ix_l _ | apply ix_add | apply ix_mul)) (by omega) dX5_quay_109 ?_
              rw [w307]
              refine AW.goto X (tgt := 128) dX5_quay_110 rfl ?_
              refine AW.ireturn X E ?_ dX5_quay_128 
              exact ⟨rfl, rfl, rfl, rfl, w2_s _ _ _ _, FM.cod⟩
          · intro f87
            rw [if_pos f87] at E
            first | refine AW.aload_n X dX5_quay_90 rfl rfl ?_ | refine AW.aloadN_n X dX5_quay_90 rfl rfl ?_
            refine AW.getR X f_X5_52_18 (by first | assumption | exact hT _ _ rfl) (by first | assumption | exact hR _ _ _ rfl) dX5_quay_91 ?_
            refine AW.iload_n X dX5_quay_94 rfl rfl ?_
            refine AW.iald X (j := q) (by first | assumption | exact hT _ _ rfl) (by repeat (first | with_reducible exact rfl | assumption | exact ix_l _ | apply ix_add | apply ix_mul)) (by omega) dX5_quay_95 ?_
            rw [w306]
            refine AW.goto X (tgt := 128) dX5_quay_96 rfl ?_
            refine AW.ireturn X E ?_ dX5_quay_128 
            exact ⟨rfl, rfl, rfl, rfl, w2_s _ _ _ _, FM.cod⟩
        · intro f73
          rw [if_pos f73] at E
          first | refine AW.aload_n X dX5_quay_76 rfl rfl ?_ | refine AW.aloadN_n X dX5_quay_76 rfl rfl ?_
          refine AW.getR X f_X5_49_18 (by first | assumption | exact hT _ _ rfl) (by first | assumption | exact hR _ _ _ rfl) dX5_quay_77 ?_
          refine AW.iload_n X dX5_quay_80 rfl rfl ?_
          refine AW.iald X (j := q) (by first | assumption | exact hT _ _ rfl) (by repeat (first | with_reducible exact rfl | assumption | exact ix_l _ | apply ix_add | apply ix_mul)) (by omega) dX5_quay_81 ?_
          rw [w305]
          refine AW.goto X (tgt := 128) dX5_quay_82 rfl ?_
          refine AW.ireturn X E ?_ dX5_quay_128 
          exact ⟨rfl, rfl, rfl, rfl, w2_s _ _ _ _, FM.cod⟩
      · intro f41
        exact absurd (Int32.le_refl _) f41
    | succ j ih =>
      intro e hj
      have hE := ih (e + 1) (by omega)
      unfold setE at hE
      refine AW.iload X dX5_quay_33 rfl ?_
      first | refine AW.aload_n X dX5_quay_35 rfl rfl ?_ | refine AW.aloadN_n X dX5_quay_35 rfl rfl ?_
      refine AW.getR X f_X5_45_18 (by first | assumption | exact hT _ _ rfl) (by first | assumption | exact hR _ _ _ rfl) dX5_quay_36 ?_
      refine AW.iconst X (v := 1) dX5_quay_39 rfl ?_
      refine AW.iald X (j := 1) (by first | assumption | exact hT _ _ rfl) (by repeat (first | with_reducible exact rfl | assumption | exact ix_l _ | apply ix_add | apply ix_mul)) (by omega) dX5_quay_40 ?_
      rw [w304, n2]
      refine AW.icmp_ge X (tgt := 72) dX5_quay_41 rfl ?_ ?_
      · intro t41
        exact absurd t41 (nI_ge (by omega) (by omega))
      · intro f41
        refine AW.iload_n X dX5_quay_44 rfl rfl ?_
        first | refine AW.aload_n X dX5_quay_45 rfl rfl ?_ | refine AW.aloadN_n X dX5_quay_45 rfl rfl ?_
        refine AW.getR X f_X5_67_18 (by first | assumption | exact hT _ _ rfl) (by first | assumption | exact hR _ _ _ rfl) dX5_quay_46 ?_
        refine AW.iload X dX5_quay_49 rfl ?_
        refine AW.iald X (j := e) (by first | assumption | exact hT _ _ rfl) (by repeat (first | with_reducible exact rfl | assumption | exact ix_l _ | apply ix_add | apply ix_mul)) (by omega) dX5_quay_51 ?_
        rw [w311]
        refine AW.iload_n X dX5_quay_52 rfl rfl ?_
        refine AW.icmp_ne X (tgt := 63) dX5_quay_53 rfl ?_ ?_
        · intro t53
          rw [if_neg t53] at hE
          refine AW.iconst X (v := 0) dX5_quay_63 rfl ?_
          refine AW.ior X dX5_quay_64 ?_
          refine AW.istore3 X dX5_quay_65 ?_
          refine AW.iinc4 X (v := _ + 1) dX5_quay_66 rfl ?_
          refine AW.goto X (tgt := 33) dX5_quay_69 rfl ?_
          rw [nI_1]; first | exact hE | (rw [Int32.or_zero]; exact hE)
        · intro f53
          rw [if_pos f53] at hE
          refine AW.iconst X (v := 1) dX5_quay_56 rfl ?_
          refine AW.iload X dX5_quay_57 rfl ?_
          refine AW.ishl X dX5_quay_59 ?_
          refine AW.goto X (tgt := 64) dX5_quay_60 rfl ?_
          refine AW.ior X dX5_quay_64 ?_
          refine AW.istore3 X dX5_quay_65 ?_
          refine AW.iinc4 X (v := _ + 1) dX5_quay_66 rfl ?_
          refine AW.goto X (tgt := 33) dX5_quay_69 rfl ?_
          rw [nI_1]; first | exact hE | (rw [Int32.or_zero]; exact hE)
  first | refine AW.aload_n X dX5_quay_0 rfl rfl ?_ | refine AW.aloadN_n X dX5_quay_0 rfl rfl ?_
  refine AW.iconst X (v := 0) dX5_quay_1 rfl ?_
  refine AW.putI X g_X5_quay_194_18 (by omega) (by first | assumption | exact hT _ _ rfl) dX5_quay_2 ?_ 
  first | refine AW.aload_n X dX5_quay_5 rfl rfl ?_ | refine AW.aloadN_n X dX5_quay_5 rfl rfl ?_
  refine AW.iload_n X dX5_quay_6 rfl rfl ?_
  refine AW.callV_r X (c_X5_isQuay (nI q) hS1) (ci := 18) (q := (RX5, TX5, 74)) (by first | assumption | exact hT _ _ rfl) rfl s_X5_376_18 (by omega) (Nat.le_of_ble_eq_true rfl) rfl rfl (Nat.le_of_ble_eq_true rfl) dX5_quay_7 ?_
  rw [bI_t ⟨nI_pos' (by omega), nI_lt hq (by omega)⟩]
  refine AW.if_eq X (tgt := 22) dX5_quay_10 rfl ?_ ?_
  · intro t10
    exact absurd t10 (by decide)
  · intro f10
    refine AW.iload_n X dX5_quay_13 rfl rfl ?_
    refine AW.iconst X (v := 0) dX5_quay_14 rfl ?_
    refine AW.iconst X (v := 4) dX5_quay_15 rfl ?_
    refine AW.callS_r X (c_X5_isIn w 0 4) s_X5_197 (by omega) (Nat.le_of_ble_eq_true rfl) rfl rfl (Nat.le_of_ble_eq_true rfl) dX5_quay_16 ?_
    rw [bI_t hw]
    refine AW.if_ne X (tgt := 28) dX5_quay_19 rfl ?_ ?_
    · intro t19
      refine AW.iconst X (v := 0) dX5_quay_28 rfl ?_
      refine AW.istore3 X dX5_quay_29 ?_
      refine AW.iconst X (v := 0) dX5_quay_30 rfl ?_
      refine AW.istore4 X dX5_quay_31 ?_
      exact lp (nE N) 0 (by omega)
    · intro f19
      exact absurd f19 (by decide)
theorem c_X5_quay_bad {e w : Int32} (hS : MS T I R N) (hb : ¬ ((0 ≤ e ∧ e < nI (nQ N)) ∧ (0 ≤ w ∧ w ≤ 4))) : MX5_quay 9 0 [.ref 200, .int e, .int w] T I R J (qF 1 (nM N) T I R J) noX := by
  have hS0 := hS
  have hS1 : MS T (w2 I 200 3 0) R N := hS.cod
  obtain ⟨hT, hR, hV, hN, hM⟩ := hS
  obtain ⟨⟨n1, n2, n3, n4, hnq, hne, hns, hnh⟩, -⟩ := id hN
  refine AMet.of (by decide) (Nat.le_of_ble_eq_true rfl) (cats1 rfl) fun cx X E => ?_
  show AW _ _ _ (_ :: _ :: _ :: _ :: _ :: []) _ _ _ _ _
  by_cases hi : 0 ≤ e ∧ e < nI (nQ N)
  · skip
    first | refine AW.aload_n X dX5_quay_0 rfl rfl ?_ | refine AW.aloadN_n X dX5_quay_0 rfl rfl ?_
    refine AW.iconst X (v := 0) dX5_quay_1 rfl ?_
    refine AW.putI X g_X5_quay_194_18 (by omega) (by first | assumption | exact hT _ _ rfl) dX5_quay_2 ?_ 
    first | refine AW.aload_n X dX5_quay_5 rfl rfl ?_ | refine AW.aloadN_n X dX5_quay_5 rfl rfl ?_
    refine AW.iload_n X dX5_quay_6 rfl rfl ?_
    refine AW.callV_r X (c_X5_isQuay e hS1) (ci := 18) (q := (RX5, TX5, 74)) (by first | assumption | exact hT _ _ rfl) rfl s_X5_376_18 (by omega) (Nat.le_of_ble_eq_true rfl) rfl rfl (Nat.le_of_ble_eq_true rfl) dX5_quay_7 ?_
    rw [bI_t hi]
    refine AW.if_eq X (tgt := 22) dX5_quay_10 rfl ?_ ?_
    · intro t10
      exact absurd t10 (by decide)
    · intro f10
      refine AW.iload_n X dX5_quay_13 rfl rfl ?_
      refine AW.iconst X (v := 0) dX5_quay_14 rfl ?_
      refine AW.iconst X (v := 4) dX5_quay_15 rfl ?_
      refine AW.callS_r X (c_X5_isIn w 0 4) s_X5_197 (by omega) (Nat.le_of_ble_eq_true rfl) rfl rfl (Nat.le_of_ble_eq_true rfl) dX5_quay_16 ?_
      rw [bI_f (fun hh => hb ⟨hi, hh⟩)]
      refine AW.if_ne X (tgt := 28) dX5_quay_19 rfl ?_ ?_
      · intro t19
        exact absurd rfl t19
      · intro f19
        first | refine AW.aload_n X dX5_quay_22 rfl rfl ?_ | refine AW.aloadN_n X dX5_quay_22 rfl rfl ?_
        refine AW.iconst X (v := 1) dX5_quay_23 rfl ?_
        refine AW.callV_i X (c_X5_fail hT 1) (ci := 18) (q := (RX5, TX5, 74)) (by first | assumption | exact hT _ _ rfl) rfl s_X5_323_18 (by omega) (Nat.le_of_ble_eq_true rfl) rfl rfl (Nat.le_of_ble_eq_true rfl) dX5_quay_24 ?_
        intro r24 I24 h24
        obtain ⟨rfl, rfl⟩ := h24
        refine AW.ireturn X E ?_ dX5_quay_27 
        exact ⟨rfl, rfl, rfl, ⟨_, rfl⟩, w2_s _ _ _ _, FM.cod.tr FM.cod⟩
  · skip
    first | refine AW.aload_n X dX5_quay_0 rfl rfl ?_ | refine AW.aloadN_n X dX5_quay_0 rfl rfl ?_
    refine AW.iconst X (v := 0) dX5_quay_1 rfl ?_
    refine AW.putI X g_X5_quay_194_18 (by omega) (by first | assumption | exact hT _ _ rfl) dX5_quay_2 ?_ 
    first | refine AW.aload_n X dX5_quay_5 rfl rfl ?_ | refine AW.aloadN_n X dX5_quay_5 rfl rfl ?_
    refine AW.iload_n X dX5_quay_6 rfl rfl ?_
    refine AW.callV_r X (c_X5_isQuay e hS1) (ci := 18) (q := (RX5, TX5, 74)) (by first | assumption | exact hT _ _ rfl) rfl s_X5_376_18 (by omega) (Nat.le_of_ble_eq_true rfl) rfl rfl (Nat.le_of_ble_eq_true rfl) dX5_quay_7 ?_
    rw [bI_f hi]
    refine AW.if_eq X (tgt := 22) dX5_quay_10 rfl ?_ ?_
    · intro t10
      first | refine AW.aload_n X dX5_quay_22 rfl rfl ?_ | refine AW.aloadN_n X dX5_quay_22 rfl rfl ?_
      refine AW.iconst X (v := 1) dX5_quay_23 rfl ?_
      refine AW.callV_i X (c_X5_fail hT 1) (ci := 18) (q := (RX5, TX5, 74)) (by first | assumption | exact hT _ _ rfl) rfl s_X5_323_18 (by omega) (Nat.le_of_ble_eq_true rfl) rfl rfl (Nat.le_of_ble_eq_true rfl) dX5_quay_24 ?_
      intro r24 I24 h24
      obtain ⟨rfl, rfl⟩ := h24
      refine AW.ireturn X E ?_ dX5_quay_27 
      exact ⟨rfl, rfl, rfl, ⟨_, rfl⟩, w2_s _ _ _ _, FM.cod.tr FM.cod⟩
    · intro f10
      exact absurd rfl f10
theorem c_X5_eel {e : Nat} {w : Int32} (hS : MS T I R N) (he : e < nE N) (hw : 0 ≤ w ∧ w ≤ 4) : MX5_eel 9 0 [.ref 200, .int (nI e), .int w] T I R J (qM (some (.int (eelV N e w))) (nM N) T I R J) noX := by
  have hS0 := hS
  have hS1 : MS T (w2 I 200 3 0) R N := hS.cod
  obtain ⟨hT, hR, hV, hN, hM⟩ := hS
  obtain ⟨⟨n1, n2, n3, n4, hnq, hne, hns, hnh⟩, -⟩ := id hN
  have w309 : w2 I 200 3 0 309 = N 309 := (w2_r (by omega)).trans (hV.1 309 (by omega) (by omega))
  have w310 : w2 I 200 3 0 310 = N 310 := (w2_r (by omega)).trans (hV.1 310 (by omega) (by omega))
  have w311 : w2 I 200 3 0 311 = N 311 := (w2_r (by omega)).trans (hV.1 311 (by omega) (by omega))
  have w312 : w2 I 200 3 0 312 = N 312 := (w2_r (by omega)).trans (hV.1 312 (by omega) (by omega))
  have w313 : w2 I 200 3 0 313 = N 313 := (w2_r (by omega)).trans (hV.1 313 (by omega) (by omega))
  unfold eelV
  refine AMet.of (by decide) (Nat.le_of_ble_eq_true rfl) (cats1 rfl) fun cx X E => ?_
  show AW _ _ _ (_ :: _ :: _ :: []) _ _ _ _ _
  first | refine AW.aload_n X dX5_eel_0 rfl rfl ?_ | refine AW.aloadN_n X dX5_eel_0 rfl rfl ?_
  refine AW.iconst X (v := 0) dX5_eel_1 rfl ?_
  refine AW.putI X g_X5_eel_194_18 (by omega) (by first | assumption | exact hT _ _ rfl) dX5_eel_2 ?_ 
  first | refine AW.aload_n X dX5_eel_5 rfl rfl ?_ | refine AW.aloadN_n X dX5_eel_5 rfl rfl ?_
  refine AW.iload_n X dX5_eel_6 rfl rfl ?_
  refine AW.callV_r X (c_X5_isEel (nI e) hS1) (ci := 18) (q := (RX5, TX5, 74)) (by first | assumption | exact hT _ _ rfl) rfl s_X5_379_18 (by omega) (Nat.le_of_ble_eq_true rfl) rfl rfl (Nat.le_of_ble_eq_true rfl) dX5_eel_7 ?_
  rw [bI_t ⟨nI_pos' (by omega), nI_lt he (by omega)⟩]
  refine AW.if_ne X (tgt := 19) dX5_eel_10 rfl ?_ ?_
  · intro t10
    refine AW.iload_n X dX5_eel_19 rfl rfl ?_
    refine AW.if_ne X (tgt := 32) dX5_eel_20 rfl ?_ ?_
    · intro t20
      rw [if_neg t20] at E
      refine AW.iload_n X dX5_eel_32 rfl rfl ?_
      refine AW.iconst X (v := 1) dX5_eel_33 rfl ?_
      refine AW.icmp_ne X (tgt := 46) dX5_eel_34 rfl ?_ ?_
      · intro t34
        rw [if_neg t34] at E
        refine AW.iload_n X dX5_eel_46 rfl rfl ?_
        refine AW.iconst X (v := 2) dX5_eel_47 rfl ?_
        refine AW.icmp_ne X (tgt := 60) dX5_eel_48 rfl ?_ ?_
        · intro t48
          rw [if_neg t48] at E
          refine AW.iload_n X dX5_eel_60 rfl rfl ?_
          refine AW.iconst X (v := 3) dX5_eel_61 rfl ?_
          refine AW.icmp_ne X (tgt := 74) dX5_eel_62 rfl ?_ ?_
          · intro t62
            rw [if_neg t62] at E
            refine AW.iload_n X dX5_eel_74 rfl rfl ?_
            refine AW.iconst X (v := 4) dX5_eel_75 rfl ?_
            refine AW.icmp_ne X (tgt := 88) dX5_eel_76 rfl ?_ ?_
            · intro t76
              exact absurd (four_4 hw t20 t34 t48 t62) t76
            · intro f76
              first | refine AW.aload_n X dX5_eel_79 rfl rfl ?_ | refine AW.aloadN_n X dX5_eel_79 rfl rfl ?_
              refine AW.getR X f_X5_73_18 (by first | assumption | exact hT _ _ rfl) (by first | assumption | exact hR _ _ _ rfl) dX5_eel_80 ?_
              refine AW.iload_n X dX5_eel_83 rfl rfl ?_
              refine AW.iald X (j := e) (by first | assumption | exact hT _ _ rfl) (by repeat (first | with_reducible exact rfl | assumption | exact ix_l _ | apply ix_add | apply ix_mul)) (by omega) dX5_eel_84 ?_
              rw [w313]
              refine AW.goto X (tgt := 93) dX5_eel_85 rfl ?_
              refine AW.ireturn X E ?_ dX5_eel_93 
              exact ⟨rfl, rfl, rfl, rfl, w2_s _ _ _ _, FM.cod⟩
          · intro f62
            rw [if_pos f62] at E
            first | refine AW.aload_n X dX5_eel_65 rfl rfl ?_ | refine AW.aloadN_n X dX5_eel_65 rfl rfl ?_
            refine AW.getR X f_X5_70_18 (by first | assumption | exact hT _ _ rfl) (by first | assumption | exact hR _ _ _ rfl) dX5_eel_66 ?_
            refine AW.iload_n X dX5_eel_69 rfl rfl ?_
            refine AW.iald X (j := e) (by first | assumption | exact hT _ _ rfl) (by repeat (first | with_reducible exact rfl | assumption | exact ix_l _ | apply ix_add | apply ix_mul)) (by omega) dX5_eel_70 ?_
            rw [w312]
            refine AW.goto X (tgt := 93) dX5_eel_71 rfl ?_
            refine AW.ireturn X E ?_ dX5_eel_93 
            exact ⟨rfl, rfl, rfl, rfl, w2_s _ _ _ _, FM.cod⟩
        · intro f48
          rw [if_pos f48] at E
          first | refine AW.aload_n X dX5_eel_51 rfl rfl ?_ | refine AW.aloadN_n X dX5_eel_51 rfl rfl ?_
          refine AW.getR X f_X5_67_18 (by first | assumption | exact hT _ _ rfl) (by first | assumption | exact hR _ _ _ rfl) dX5_eel_52 ?_
          refine AW.iload_n X dX5_eel_55 rfl rfl ?_
          refine AW.iald X (j := e) (by first | assumption | exact hT _ _ rfl) (by repeat (first | with_reducible exact rfl | assumption | exact ix_l _ | apply ix_add | apply ix_mul)) (by omega) dX5_eel_56 ?_
          rw [w311]
          refine AW.goto X (tgt := 93) dX5_eel_57 rfl ?_
          refine AW.ireturn X E ?_ dX5_eel_93 
          exact ⟨rfl, rfl, rfl, rfl, w2_s _ _ _ _, FM.cod⟩
      · intro f34
        rw [if_pos f34] at E
        first | refine AW.aload_n X dX5_eel_37 rfl rfl ?_ | refine AW.aloadN_n X dX5_eel_37 rfl rfl ?_
        refine AW.getR X f_X5_64_18 (by first | assumption | exact hT _ _ rfl) (by first | assumption | exact hR _ _ _ rfl) dX5_eel_38 ?_
        refine AW.iload_n X dX5_eel_41 rfl rfl ?_
        refine AW.iald X (j := e) (by first | assumption | exact hT _ _ rfl) (by repeat (first | with_reducible exact rfl | assumption | exact ix_l _ | apply ix_add | apply ix_mul)) (by omega) dX5_eel_42 ?_
        rw [w310]
        refine AW.goto X (tgt := 93) dX5_eel_43 rfl ?_
        refine AW.ireturn X E ?_ dX5_eel_93 
        exact ⟨rfl, rfl, rfl, rfl, w2_s _ _ _ _, FM.cod⟩
    · intro f20
      rw [if_pos f20] at E
      first | refine AW.aload_n X dX5_eel_23 rfl rfl ?_ | refine AW.aloadN_n X dX5_eel_23 rfl rfl ?_
      refine AW.getR X f_X5_61_18 (by first | assumption | exact hT _ _ rfl) (by first | assumption | exact hR _ _ _ rfl) dX5_eel_24 ?_
      refine AW.iload_n X dX5_eel_27 rfl rfl ?_
      refine AW.iald X (j := e) (by first | assumption | exact hT _ _ rfl) (by repeat (first | with_reducible exact rfl | assumption | exact ix_l _ | apply ix_add | apply ix_mul)) (by omega) dX5_eel_28 ?_
      rw [w309]
      refine AW.goto X (tgt := 93) dX5_eel_29 rfl ?_
      refine AW.ireturn X E ?_ dX5_eel_93 
      exact ⟨rfl, rfl, rfl, rfl, w2_s _ _ _ _, FM.cod⟩
  · intro f10
    exact absurd f10 (by decide)
theorem c_X5_eel_bad {e w : Int32} (hS : MS T I R N) (hb : ¬ ((0 ≤ e ∧ e < nI (nE N)) ∧ (0 ≤ w ∧ w ≤ 4))) : MX5_eel 9 0 [.ref 200, .int e, .int w] T I R J (qF 1 (nM N) T I R J) noX := by
  have hS0 := hS
  have hS1 : MS T (w2 I 200 3 0) R N := hS.cod
  obtain ⟨hT, hR, hV, hN, hM⟩ := hS
  obtain ⟨⟨n1, n2, n3, n4, hnq, hne, hns, hnh⟩, -⟩ := id hN
  refine AMet.of (by decide) (Nat.le_of_ble_eq_true rfl) (cats1 rfl) fun cx X E => ?_
  show AW _ _ _ (_ :: _ :: _ :: []) _ _ _ _ _
  by_cases hi : 0 ≤ e ∧ e < nI (nE N)
  · skip
    first | refine AW.aload_n X dX5_eel_0 rfl rfl ?_ | refine AW.aloadN_n X dX5_eel_0 rfl rfl ?_
    refine AW.iconst X (v := 0) dX5_eel_1 rfl ?_
    refine AW.putI X g_X5_eel_194_18 (by omega) (by first | assumption | exact hT _ _ rfl) dX5_eel_2 ?_ 
    first | refine AW.aload_n X dX5_eel_5 rfl rfl ?_ | refine AW.aloadN_n X dX5_eel_5 rfl rfl ?_
    refine AW.iload_n X dX5_eel_6 rfl rfl ?_
    refine AW.callV_r X (c_X5_isEel e hS1) (ci := 18) (q := (RX5, TX5, 74)) (by first | assumption | exact hT _ _ rfl) rfl s_X5_379_18 (by omega) (Nat.le_of_ble_eq_true rfl) rfl rfl (Nat.le_of_ble_eq_true rfl) dX5_eel_7 ?_
    rw [bI_t hi]
    refine AW.if_ne X (tgt := 19) dX5_eel_10 rfl ?_ ?_
    · intro t10
      refine AW.iload_n X dX5_eel_19 rfl rfl ?_
      refine AW.if_ne X (tgt := 32) dX5_eel_20 rfl ?_ ?_
      · intro t20
        refine AW.iload_n X dX5_eel_32 rfl rfl ?_
        refine AW.iconst X (v := 1) dX5_eel_33 rfl ?_
        refine AW.icmp_ne X (tgt := 46) dX5_eel_34 rfl ?_ ?_
        · intro t34
          refine AW.iload_n X dX5_eel_46 rfl rfl ?_
          refine AW.iconst X (v := 2) dX5_eel_47 rfl ?_
          refine AW.icmp_ne X (tgt := 60) dX5_eel_48 rfl ?_ ?_
          · intro t48
            refine AW.iload_n X dX5_eel_60 rfl rfl ?_
            refine AW.iconst X (v := 3) dX5_eel_61 rfl ?_
            refine AW.icmp_ne X (tgt := 74) dX5_eel_62 rfl ?_ ?_
            · intro t62
              refine AW.iload_n X dX5_eel_74 rfl rfl ?_
              refine AW.iconst X (v := 4) dX5_eel_75 rfl ?_
              refine AW.icmp_ne X (tgt := 88) dX5_eel_76 rfl ?_ ?_
              · intro t76
                first | refine AW.aload_n X dX5_eel_88 rfl rfl ?_ | refine AW.aloadN_n X dX5_eel_88 rfl rfl ?_
                refine AW.iconst X (v := 1) dX5_eel_89 rfl ?_
                refine AW.callV_i X (c_X5_fail hT 1) (ci := 18) (q := (RX5, TX5, 74)) (by first | assumption | exact hT _ _ rfl) rfl s_X5_323_18 (by omega) (Nat.le_of_ble_eq_true rfl) rfl rfl (Nat.le_of_ble_eq_true rfl) dX5_eel_90 ?_
                intro r90 I90 h90
                obtain ⟨rfl, rfl⟩ := h90
                refine AW.ireturn X E ?_ dX5_eel_93 
                exact ⟨rfl, rfl, rfl, ⟨_, rfl⟩, w2_s _ _ _ _, FM.cod.tr FM.cod⟩
              · intro f76
                exact absurd ⟨hi, by rw [f76]; decide⟩ hb
            · intro f62
              exact absurd ⟨hi, by rw [f62]; decide⟩ hb
          · intro f48
            exact absurd ⟨hi, by rw [f48]; decide⟩ hb
        · intro f34
          exact absurd ⟨hi, by rw [f34]; decide⟩ hb
      · intro f20
        exact absurd ⟨hi, by rw [f20]; decide⟩ hb
    · intro f10
      exact absurd f10 (by decide)
  · skip
    first | refine AW.aload_n X dX5_eel_0 rfl rfl ?_ | refine AW.aloadN_n X dX5_eel_0 rfl rfl ?_
    refine AW.iconst X (v := 0) dX5_eel_1 rfl ?_
    refine AW.putI X g_X5_eel_194_18 (by omega) (by first | assumption | exact hT _ _ rfl) dX5_eel_2 ?_ 
    first | refine AW.aload_n X dX5_eel_5 rfl rfl ?_ | refine AW.aloadN_n X dX5_eel_5 rfl rfl ?_
    refine AW.iload_n X dX5_eel_6 rfl rfl ?_
    refine AW.callV_r X (c_X5_isEel e hS1) (ci := 18) (q := (RX5, TX5, 74)) (by first | assumption | exact hT _ _ rfl) rfl s_X5_379_18 (by omega) (Nat.le_of_ble_eq_true rfl) rfl rfl (Nat.le_of_ble_eq_true rfl) dX5_eel_7 ?_
    rw [bI_f hi]
    refine AW.if_ne X (tgt := 19) dX5_eel_10 rfl ?_ ?_
    · intro t10
      exact absurd rfl t10
    · intro f10
      first | refine AW.aload_n X dX5_eel_13 rfl rfl ?_ | refine AW.aloadN_n X dX5_eel_13 rfl rfl ?_
      refine AW.iconst X (v := 1) dX5_eel_14 rfl ?_
      refine AW.callV_i X (c_X5_fail hT 1) (ci := 18) (q := (RX5, TX5, 74)) (by first | assumption | exact hT _ _ rfl) rfl s_X5_323_18 (by omega) (Nat.le_of_ble_eq_true rfl) rfl rfl (Nat.le_of_ble_eq_true rfl) dX5_eel_15 ?_
      intro r15 I15 h15
      obtain ⟨rfl, rfl⟩ := h15
      refine AW.ireturn X E ?_ dX5_eel_18 
      exact ⟨rfl, rfl, rfl, ⟨_, rfl⟩, w2_s _ _ _ _, FM.cod.tr FM.cod⟩
theorem c_X5_ship {e : Nat} {w : Int32} (hS : MS T I R N) (he : e < nS N) (hw : 0 ≤ w ∧ w ≤ 3) : MX5_ship 9 0 [.ref 200, .int (nI e), .int w] T I R J (qM (some (.int (shipV N e w))) (nM N) T I R J) noX := by
  have hS0 := hS
  have hS1 : MS T (w2 I 200 3 0) R N := hS.cod
  obtain ⟨hT, hR, hV, hN, hM⟩ := hS
  obtain ⟨⟨n1, n2, n3, n4, hnq, hne, hns, hnh⟩, -⟩ := id hN
  have w314 : w2 I 200 3 0 314 = N 314 := (w2_r (by omega)).trans (hV.1 314 (by omega) (by omega))
  have w315 : w2 I 200 3 0 315 = N 315 := (w2_r (by omega)).trans (hV.1 315 (by omega) (by omega))
  have w316 : w2 I 200 3 0 316 = N 316 := (w2_r (by omega)).trans (hV.1 316 (by omega) (by omega))
  have w317 : w2 I 200 3 0 317 = N 317 := (w2_r (by omega)).trans (hV.1 317 (by omega) (by omega))
  unfold shipV
  refine AMet.of (by decide) (Nat.le_of_ble_eq_true rfl) (cats1 rfl) fun cx X E => ?_
  show AW _ _ _ (_ :: _ :: _ :: []) _ _ _ _ _
  first | refine AW.aload_n X dX5_ship_0 rfl rfl ?_ | refine AW.aloadN_n X dX5_ship_0 rfl rfl ?_
  refine AW.iconst X (v := 0) dX5_ship_1 rfl ?_
  refine AW.putI X g_X5_ship_194_18 (by omega) (by first | assumption | exact hT _ _ rfl) dX5_ship_2 ?_ 
  first | refine AW.aload_n X dX5_ship_5 rfl rfl ?_ | refine AW.aloadN_n X dX5_ship_5 rfl rfl ?_
  refine AW.iload_n X dX5_ship_6 rfl rfl ?_
  refine AW.callV_r X (c_X5_isShip (nI e) hS1) (ci := 18) (q := (RX5, TX5, 74)) (by first | assumption | exact hT _ _ rfl) rfl s_X5_382_18 (by omega) (Nat.le_of_ble_eq_true rfl) rfl rfl (Nat.le_of_ble_eq_true rfl) dX5_ship_7 ?_
  rw [bI_t ⟨nI_pos' (by omega), nI_lt he (by omega)⟩]
  refine AW.if_ne X (tgt := 19) dX5_ship_10 rfl ?_ ?_
  · intro t10
    refine AW.iload_n X dX5_ship_19 rfl rfl ?_
    refine AW.if_ne X (tgt := 32) dX5_ship_20 rfl ?_ ?_
    · intro t20
      rw [if_neg t20] at E
      refine AW.iload_n X dX5_ship_32 rfl rfl ?_
      refine AW.iconst X (v := 1) dX5_ship_33 rfl ?_
      refine AW.icmp_ne X (tgt := 46) dX5_ship_34 rfl ?_ ?_
      · intro t34
        rw [if_neg t34] at E
        refine AW.iload_n X dX5_ship_46 rfl rfl ?_
        refine AW.iconst X (v := 2) dX5_ship_47 rfl ?_
        refine AW.icmp_ne X (tgt := 60) dX5_ship_48 rfl ?_ ?_
        · intro t48
          rw [if_neg t48] at E
          refine AW.iload_n X dX5_ship_60 rfl rfl ?_
          refine AW.iconst X (v := 3) dX5_ship_61 rfl ?_
          refine AW.icmp_ne X (tgt := 74) dX5_ship_62 rfl ?_ ?_
          · intro t62
            exact absurd (four_3 hw t20 t34 t48) t62
          · intro f62
            first | refine AW.aload_n X dX5_ship_65 rfl rfl ?_ | refine AW.aloadN_n X dX5_ship_65 rfl rfl ?_
            refine AW.getR X f_X5_85_18 (by first | assumption | exact hT _ _ rfl) (by first | assumption | exact hR _ _ _ rfl) dX5_ship_66 ?_
            refine AW.iload_n X dX5_ship_69 rfl rfl ?_
            refine AW.iald X (j := e) (by first | assumption | exact hT _ _ rfl) (by repeat (first | with_reducible exact rfl | assumption | exact ix_l _ | apply ix_add | apply ix_mul)) (by omega) dX5_ship_70 ?_
            rw [w317]
            refine AW.goto X (tgt := 79) dX5_ship_71 rfl ?_
            refine AW.ireturn X E ?_ dX5_ship_79 
            exact ⟨rfl, rfl, rfl, rfl, w2_s _ _ _ _, FM.cod⟩
        · intro f48
          rw [if_pos f48] at E
          first | refine AW.aload_n X dX5_ship_51 rfl rfl ?_ | refine AW.aloadN_n X dX5_ship_51 rfl rfl ?_
          refine AW.getR X f_X5_82_18 (by first | assumption | exact hT _ _ rfl) (by first | assumption | exact hR _ _ _ rfl) dX5_ship_52 ?_
          refine AW.iload_n X dX5_ship_55 rfl rfl ?_
          refine AW.iald X (j := e) (by first | assumption | exact hT _ _ rfl) (by repeat (first | with_reducible exact rfl | assumption | exact ix_l _ | apply ix_add | apply ix_mul)) (by omega) dX5_ship_56 ?_
          rw [w316]
          refine AW.goto X (tgt := 79) dX5_ship_57 rfl ?_
          refine AW.ireturn X E ?_ dX5_ship_79 
          exact ⟨rfl, rfl, rfl, rfl, w2_s _ _ _ _, FM.cod⟩
      · intro f34
        rw [if_pos f34] at E
        first | refine AW.aload_n X dX5_ship_37 rfl rfl ?_ | refine AW.aloadN_n X dX5_ship_37 rfl rfl ?_
        refine AW.getR X f_X5_79_18 (by first | assumption | exact hT _ _ rfl) (by first | assumption | exact hR _ _ _ rfl) dX5_ship_38 ?_
        refine AW.iload_n X dX5_ship_41 rfl rfl ?_
        refine AW.iald X (j := e) (by first | assumption | exact hT _ _ rfl) (by repeat (first | with_reducible exact rfl | assumption | exact ix_l _ | apply ix_add | apply ix_mul)) (by omega) dX5_ship_42 ?_
        rw [w315]
        refine AW.goto X (tgt := 79) dX5_ship_43 rfl ?_
        refine AW.ireturn X E ?_ dX5_ship_79 
        exact ⟨rfl, rfl, rfl, rfl, w2_s _ _ _ _, FM.cod⟩
    · intro f20
      rw [if_pos f20] at E
      first | refine AW.aload_n X dX5_ship_23 rfl rfl ?_ | refine AW.aloadN_n X dX5_ship_23 rfl rfl ?_
      refine AW.getR X f_X5_76_18 (by first | assumption | exact hT _ _ rfl) (by first | assumption | exact hR _ _ _ rfl) dX5_ship_24 ?_
      refine AW.iload_n X dX5_ship_27 rfl rfl ?_
      refine AW.iald X (j := e) (by first | assumption | exact hT _ _ rfl) (by repeat (first | with_reducible exact rfl | assumption | exact ix_l _ | apply ix_add | apply ix_mul)) (by omega) dX5_ship_28 ?_
      rw [w314]
      refine AW.goto X (tgt := 79) dX5_ship_29 rfl ?_
      refine AW.ireturn X E ?_ dX5_ship_79 
      exact ⟨rfl, rfl, rfl, rfl, w2_s _ _ _ _, FM.cod⟩
  · intro f10
    exact absurd f10 (by decide)
theorem c_X5_ship_bad {e w : Int32} (hS : MS T I R N) (hb : ¬ ((0 ≤ e ∧ e < nI (nS N)) ∧ (0 ≤ w ∧ w ≤ 3))) : MX5_ship 9 0 [.ref 200, .int e, .int w] T I R J (qF 1 (nM N) T I R J) noX := by
  have hS0 := hS
  have hS1 : MS T (w2 I 200 3 0) R N := hS.cod
  obtain ⟨hT, hR, hV, hN, hM⟩ := hS
  obtain ⟨⟨n1, n2, n3, n4, hnq, hne, hns, hnh⟩, -⟩ := id hN
  refine AMet.of (by decide) (Nat.le_of_ble_eq_true rfl) (cats1 rfl) fun cx X E => ?_
  show AW _ _ _ (_ :: _ :: _ :: []) _ _ _ _ _
  by_cases hi : 0 ≤ e ∧ e < nI (nS N)
  · skip
    first | refine AW.aload_n X dX5_ship_0 rfl rfl ?_ | refine AW.aloadN_n X dX5_ship_0 rfl rfl ?_
    refine AW.iconst X (v := 0) dX5_ship_1 rfl ?_
    refine AW.putI X g_X5_ship_194_18 (by omega) (by first | assumption | exact hT _ _ rfl) dX5_ship_2 ?_ 
    first | refine AW.aload_n X dX5_ship_5 rfl rfl ?_ | refine AW.aloadN_n X dX5_ship_5 rfl rfl ?_
    refine AW.iload_n X dX5_ship_6 rfl rfl ?_
    refine AW.callV_r X (c_X5_isShip e hS1) (ci := 18) (q := (RX5, TX5, 74)) (by first | assumption | exact hT _ _ rfl) rfl s_X5_382_18 (by omega) (Nat.le_of_ble_eq_true rfl) rfl rfl (Nat.le_of_ble_eq_true rfl) dX5_ship_7 ?_
    rw [bI_t hi]
    refine AW.if_ne X (tgt := 19) dX5_ship_10 rfl ?_ ?_
    · intro t10
      refine AW.iload_n X dX5_ship_19 rfl rfl ?_
      refine AW.if_ne X (tgt := 32) dX5_ship_20 rfl ?_ ?_
      · intro t20
        refine AW.iload_n X dX5_ship_32 rfl rfl ?_
        refine AW.iconst X (v := 1) dX5_ship_33 rfl ?_
        refine AW.icmp_ne X (tgt := 46) dX5_ship_34 rfl ?_ ?_
        · intro t34
          refine AW.iload_n X dX5_ship_46 rfl rfl ?_
          refine AW.iconst X (v := 2) dX5_ship_47 rfl ?_
          refine AW.icmp_ne X (tgt := 60) dX5_ship_48 rfl ?_ ?_
          · intro t48
            refine AW.iload_n X dX5_ship_60 rfl rfl ?_
            refine AW.iconst X (v := 3) dX5_ship_61 rfl ?_
            refine AW.icmp_ne X (tgt := 74) dX5_ship_62 rfl ?_ ?_
            · intro t62
              first | refine AW.aload_n X dX5_ship_74 rfl rfl ?_ | refine AW.aloadN_n X dX5_ship_74 rfl rfl ?_
              refine AW.iconst X (v := 1) dX5_ship_75 rfl ?_
              refine AW.callV_i X (c_X5_fail hT 1) (ci := 18) (q := (RX5, TX5, 74)) (by first | assumption | exact hT _ _ rfl) rfl s_X5_323_18 (by omega) (Nat.le_of_ble_eq_true rfl) rfl rfl (Nat.le_of_ble_eq_true rfl) dX5_ship_76 ?_
              intro r76 I76 h76
              obtain ⟨rfl, rfl⟩ := h76
              refine AW.ireturn X E ?_ dX5_ship_79 
              exact ⟨rfl, rfl, rfl, ⟨_, rfl⟩, w2_s _ _ _ _, FM.cod.tr FM.cod⟩
            · intro f62
              exact absurd ⟨hi, by rw [f62]; decide⟩ hb
          · intro f48
            exact absurd ⟨hi, by rw [f48]; decide⟩ hb
        · intro f34
          exact absurd ⟨hi, by rw [f34]; decide⟩ hb
      · intro f20
        exact absurd ⟨hi, by rw [f20]; decide⟩ hb
    · intro f10
      exact absurd f10 (by decide)
  · skip
    first | refine AW.aload_n X dX5_ship_0 rfl rfl ?_ | refine AW.aloadN_n X dX5_ship_0 rfl rfl ?_
    refine AW.iconst X (v := 0) dX5_ship_1 rfl ?_
    refine AW.putI X g_X5_ship_194_18 (by omega) (by first | assumption | exact hT _ _ rfl) dX5_ship_2 ?_ 
    first | refine AW.aload_n X dX5_ship_5 rfl rfl ?_ | refine AW.aloadN_n X dX5_ship_5 rfl rfl ?_
    refine AW.iload_n X dX5_ship_6 rfl rfl ?_
    refine AW.callV_r X (c_X5_isShip e hS1) (ci := 18) (q := (RX5, TX5, 74)) (by first | assumption | exact hT _ _ rfl) rfl s_X5_382_18 (by omega) (Nat.le_of_ble_eq_true rfl) rfl rfl (Nat.le_of_ble_eq_true rfl) dX5_ship_7 ?_
    rw [bI_f hi]
    refine AW.if_ne X (tgt := 19) dX5_ship_10 rfl ?_ ?_
    · intro t10
      exact absurd rfl t10
    · intro f10
      first | refine AW.aload_n X dX5_ship_13 rfl rfl ?_ | refine AW.aloadN_n X dX5_ship_13 rfl rfl ?_
      refine AW.iconst X (v := 1) dX5_ship_14 rfl ?_
      refine AW.callV_i X (c_X5_fail hT 1) (ci := 18) (q := (RX5, TX5, 74)) (by first | assumption | exact hT _ _ rfl) rfl s_X5_323_18 (by omega) (Nat.le_of_ble_eq_true rfl) rfl rfl (Nat.le_of_ble_eq_true rfl) dX5_ship_15 ?_
      intro r15 I15 h15
      obtain ⟨rfl, rfl⟩ := h15
      refine AW.ireturn X E ?_ dX5_ship_18 
      exact ⟨rfl, rfl, rfl, ⟨_, rfl⟩, w2_s _ _ _ _, FM.cod.tr FM.cod⟩
theorem c_X5_count {k : Nat} (hS : MS T I R N) (hk : cntOK k) : MX5_count 8 0 [.ref 200, .int (nI k)] T I R J (qM (some (.int (countV N (I 200 46) (I 200 25) (I 323) k))) (nM N) T I R J) noX := by
  have hS0 := hS
  have hS1 : MS T (w2 I 200 3 0) R N := hS.cod
  obtain ⟨hT, hR, hV, hN, hM⟩ := hS
  obtain ⟨⟨n1, n2, n3, n4, hnq, hne, hns, hnh⟩, -⟩ := id hN
  have w304 : w2 I 200 3 0 304 = N 304 := (w2_r (by omega)).trans (hV.1 304 (by omega) (by omega))
  have w318 : w2 I 200 3 0 318 = N 318 := (w2_r (by omega)).trans (hV.1 318 (by omega) (by omega))
  have w319 : w2 I 200 3 0 319 = N 319 := (w2_r (by omega)).trans (hV.1 319 (by omega) (by omega))
  have w323 : w2 I 200 3 0 323 = I 323 := w2_r (by omega)
  have hk63 : k ≤ 63 := by unfold cntOK at hk; omega
  have wi : ∀ l m : Nat, l ≤ 63 → m ≤ 63 → ((nI l ≤ nI k ∧ nI k ≤ nI m) ↔ (l ≤ k ∧ k ≤ m)) := fun l m hl hm => by
    constructor
    · intro ⟨h1, h2⟩
      exact ⟨(nI_leI (by omega) (by omega)).mp h1, (nI_leI (by omega) (by omega)).mp h2⟩
    · intro ⟨h1, h2⟩
      exact ⟨nI_le h1 (by omega), nI_le h2 (by omega)⟩
  have m44 : w2 I 200 3 0 200 44 = N 200 44 := (w2_n2 (by omega)).trans hV.2.2.1
  have m45 : w2 I 200 3 0 200 45 = N 200 45 := (w2_n2 (by omega)).trans hV.2.2.2
  have m46 : w2 I 200 3 0 200 46 = I 200 46 := w2_n2 (by omega)
  have m25 : w2 I 200 3 0 200 25 = I 200 25 := w2_n2 (by omega)
  refine AMet.of (by decide) (Nat.le_of_ble_eq_true rfl) (cats1 rfl) fun cx X E => ?_
  show AW _ _ _ (_ :: _ :: []) _ _ _ _ _
  by_cases h3 : k ≤ 3
  · have hv : countV N (I 200 46) (I 200 25) (I 323) k = N 304 k := by
      rcases (show k = 0 ∨ k = 1 ∨ k = 2 ∨ k = 3 by omega) with rfl | rfl | rfl | rfl <;> rfl
    rw [hv] at E
    first | refine AW.aload_n X dX5_count_0 rfl rfl ?_ | refine AW.aloadN_n X dX5_count_0 rfl rfl ?_
    refine AW.iconst X (v := 0) dX5_count_1 rfl ?_
    refine AW.putI X g_X5_count_194_18 (by omega) (by first | assumption | exact hT _ _ rfl) dX5_count_2 ?_ 
    refine AW.iload_n X dX5_count_5 rfl rfl ?_
    refine AW.iconst X (v := 0) dX5_count_6 rfl ?_
    refine AW.iconst X (v := 3) dX5_count_7 rfl ?_
    refine AW.callS_r X (c_X5_isIn (nI k) (nI 0) (nI 3)) s_X5_197 (by omega) (Nat.le_of_ble_eq_true rfl) rfl rfl (Nat.le_of_ble_eq_true rfl) dX5_count_8 ?_
    rw [bI_t ((wi 0 3 (by omega) (by omega)).mpr ⟨by omega, h3⟩)]
    refine AW.if_eq X (tgt := 21) dX5_count_11 rfl ?_ ?_
    · intro t11
      exact absurd t11 (by decide)
    · intro f11
      first | refine AW.aload_n X dX5_count_14 rfl rfl ?_ | refine AW.aloadN_n X dX5_count_14 rfl rfl ?_
      refine AW.getR X f_X5_45_18 (by first | assumption | exact hT _ _ rfl) (by first | assumption | exact hR _ _ _ rfl) dX5_count_15 ?_
      refine AW.iload_n X dX5_count_18 rfl rfl ?_
      refine AW.iald X (j := k) (by first | assumption | exact hT _ _ rfl) (by repeat (first | with_reducible exact rfl | assumption | exact ix_l _ | apply ix_add | apply ix_mul)) (by omega) dX5_count_19 ?_
      rw [w304]
      refine AW.ireturn X E ?_ dX5_count_20 
      exact ⟨rfl, rfl, rfl, rfl, w2_s _ _ _ _, FM.cod⟩
  · by_cases h20 : 20 ≤ k ∧ k ≤ 29
    · have hv : countV N (I 200 46) (I 200 25) (I 323) k = N 319 (k - 20) := by
        unfold countV; rw [if_neg (by omega), if_pos h20.1]
      rw [hv] at E
      first | refine AW.aload_n X dX5_count_0 rfl rfl ?_ | refine AW.aloadN_n X dX5_count_0 rfl rfl ?_
      refine AW.iconst X (v := 0) dX5_count_1 rfl ?_
      refine AW.putI X g_X5_count_194_18 (by omega) (by first | assumption | exact hT _ _ rfl) dX5_count_2 ?_ 
      refine AW.iload_n X dX5_count_5 rfl rfl ?_
      refine AW.iconst X (v := 0) dX5_count_6 rfl ?_
      refine AW.iconst X (v := 3) dX5_count_7 rfl ?_
      refine AW.callS_r X (c_X5_isIn (nI k) (nI 0) (nI 3)) s_X5_197 (by omega) (Nat.le_of_ble_eq_true rfl) rfl rfl (Nat.le_of_ble_eq_true rfl) dX5_count_8 ?_
      rw [bI_f (fun z => h3 ((wi 0 3 (by omega) (by omega)).mp z).2)]
      refine AW.if_eq X (tgt := 21) dX5_count_11 rfl ?_ ?_
      · intro t11
        refine AW.iload_n X dX5_count_21 rfl rfl ?_
        refine AW.bipush X (v := 20) dX5_count_22 rfl ?_
        refine AW.bipush X (v := 29) dX5_count_24 rfl ?_
        refine AW.callS_r X (c_X5_isIn (nI k) (nI 20) (nI 29)) s_X5_197 (by omega) (Nat.le_of_ble_eq_true rfl) rfl rfl (Nat.le_of_ble_eq_true rfl) dX5_count_26 ?_
        rw [bI_t ((wi 20 29 (by omega) (by omega)).mpr h20)]
        refine AW.if_eq X (tgt := 42) dX5_count_29 rfl ?_ ?_
        · intro t29
          exact absurd t29 (by decide)
        · intro f29
          first | refine AW.aload_n X dX5_count_32 rfl rfl ?_ | refine AW.aloadN_n X dX5_count_32 rfl rfl ?_
          refine AW.getR X f_X5_91_18 (by first | assumption | exact hT _ _ rfl) (by first | assumption | exact hR _ _ _ rfl) dX5_count_33 ?_
          refine AW.iload_n X dX5_count_36 rfl rfl ?_
          refine AW.bipush X (v := 20) dX5_count_37 rfl ?_
          refine AW.isub X dX5_count_39 ?_
          rw [show nI k - 20 = nI (k - 20) from nI_sub (c := 20) h20.1]
          refine AW.iald X (j := k - 20) (by first | assumption | exact hT _ _ rfl) rfl (by omega) dX5_count_40 ?_
          rw [w319]
          refine AW.ireturn X E ?_ dX5_count_41 
          exact ⟨rfl, rfl, rfl, rfl, w2_s _ _ _ _, FM.cod⟩
      · intro f11
        exact absurd rfl f11
    · by_cases h40 : 40 ≤ k
      · have hv : countV N (I 200 46) (I 200 25) (I 323) k = N 318 (k - 40) := by
          unfold countV; rw [if_pos h40]
        rw [hv] at E
        first | refine AW.aload_n X dX5_count_0 rfl rfl ?_ | refine AW.aloadN_n X dX5_count_0 rfl rfl ?_
        refine AW.iconst X (v := 0) dX5_count_1 rfl ?_
        refine AW.putI X g_X5_count_194_18 (by omega) (by first | assumption | exact hT _ _ rfl) dX5_count_2 ?_ 
        refine AW.iload_n X dX5_count_5 rfl rfl ?_
        refine AW.iconst X (v := 0) dX5_count_6 rfl ?_
        refine AW.iconst X (v := 3) dX5_count_7 rfl ?_
        refine AW.callS_r X (c_X5_isIn (nI k) (nI 0) (nI 3)) s_X5_197 (by omega) (Nat.le_of_ble_eq_true rfl) rfl rfl (Nat.le_of_ble_eq_true rfl) dX5_count_8 ?_
        rw [bI_f (fun z => h3 ((wi 0 3 (by omega) (by omega)).mp z).2)]
        refine AW.if_eq X (tgt := 21) dX5_count_11 rfl ?_ ?_
        · intro t11
          refine AW.iload_n X dX5_count_21 rfl rfl ?_
          refine AW.bipush X (v := 20) dX5_count_22 rfl ?_
          refine AW.bipush X (v := 29) dX5_count_24 rfl ?_
          refine AW.callS_r X (c_X5_isIn (nI k) (nI 20) (nI 29)) s_X5_197 (by omega) (Nat.le_of_ble_eq_true rfl) rfl rfl (Nat.le_of_ble_eq_true rfl) dX5_count_26 ?_
          rw [bI_f (fun z => h20 ((wi 20 29 (by omega) (by omega)).mp z))]
          refine AW.if_eq X (tgt := 42) dX5_count_29 rfl ?_ ?_
          · intro t29
            refine AW.iload_n X dX5_count_42 rfl rfl ?_
            refine AW.bipush X (v := 40) dX5_count_43 rfl ?_
            refine AW.bipush X (v := 63) dX5_count_45 rfl ?_
            refine AW.callS_r X (c_X5_isIn (nI k) (nI 40) (nI 63)) s_X5_197 (by omega) (Nat.le_of_ble_eq_true rfl) rfl rfl (Nat.le_of_ble_eq_true rfl) dX5_count_47 ?_
            rw [bI_t ((wi 40 63 (by omega) (by omega)).mpr ⟨h40, hk63⟩)]
            refine AW.if_eq X (tgt := 63) dX5_count_50 rfl ?_ ?_
            · intro t50
              exact absurd t50 (by decide)
            · intro f50
              first | refine AW.aload_n X dX5_count_53 rfl rfl ?_ | refine AW.aloadN_n X dX5_count_53 rfl rfl ?_
              refine AW.getR X f_X5_88_18 (by first | assumption | exact hT _ _ rfl) (by first | assumption | exact hR _ _ _ rfl) dX5_count_54 ?_
              refine AW.iload_n X dX5_count_57 rfl rfl ?_
              refine AW.bipush X (v := 40) dX5_count_58 rfl ?_
              refine AW.isub X dX5_count_60 ?_
              rw [show nI k - 40 = nI (k - 40) from nI_sub (c := 40) h40]
              refine AW.iald X (j := k - 40) (by first | assumption | exact hT _ _ rfl) rfl (by omega) dX5_count_61 ?_
              rw [w318]
              refine AW.ireturn X E ?_ dX5_count_62 
              exact ⟨rfl, rfl, rfl, rfl, w2_s _ _ _ _, FM.cod⟩
          · intro f29
            exact absurd rfl f29
        · intro f11
          exact absurd rfl f11
      · have hs : k = 4 ∨ k = 5 ∨ k = 6 ∨ k = 7 ∨ k = 8 ∨ k = 9 ∨ k = 10 ∨ k = 11 := by unfold cntOK at hk; omega
        first | refine AW.aload_n X dX5_count_0 rfl rfl ?_ | refine AW.aloadN_n X dX5_count_0 rfl rfl ?_
        refine AW.iconst X (v := 0) dX5_count_1 rfl ?_
        refine AW.putI X g_X5_count_194_18 (by omega) (by first | assumption | exact hT _ _ rfl) dX5_count_2 ?_ 
        refine AW.iload_n X dX5_count_5 rfl rfl ?_
        refine AW.iconst X (v := 0) dX5_count_6 rfl ?_
        refine AW.iconst X (v := 3) dX5_count_7 rfl ?_
        refine AW.callS_r X (c_X5_isIn (nI k) (nI 0) (nI 3)) s_X5_197 (by omega) (Nat.le_of_ble_eq_true rfl) rfl rfl (Nat.le_of_ble_eq_true rfl) dX5_count_8 ?_
        rw [bI_f (fun z => h3 ((wi 0 3 (by omega) (by omega)).mp z).2)]
        refine AW.if_eq X (tgt := 21) dX5_count_11 rfl ?_ ?_
        · intro t11
          refine AW.iload_n X dX5_count_21 rfl rfl ?_
          refine AW.bipush X (v := 20) dX5_count_22 rfl ?_
          refine AW.bipush X (v := 29) dX5_count_24 rfl ?_
          refine AW.callS_r X (c_X5_isIn (nI k) (nI 20) (nI 29)) s_X5_197 (by omega) (Nat.le_of_ble_eq_true rfl) rfl rfl (Nat.le_of_ble_eq_true rfl) dX5_count_26 ?_
          rw [bI_f (fun z => h20 ((wi 20 29 (by omega) (by omega)).mp z))]
          refine AW.if_eq X (tgt := 42) dX5_count_29 rfl ?_ ?_
          · intro t29
            refine AW.iload_n X dX5_count_42 rfl rfl ?_
            refine AW.bipush X (v := 40) dX5_count_43 rfl ?_
            refine AW.bipush X (v := 63) dX5_count_45 rfl ?_
            refine AW.callS_r X (c_X5_isIn (nI k) (nI 40) (nI 63)) s_X5_197 (by omega) (Nat.le_of_ble_eq_true rfl) rfl rfl (Nat.le_of_ble_eq_true rfl) dX5_count_47 ?_
            rw [bI_f (fun z => h40 ((wi 40 63 (by omega) (by omega)).mp z).1)]
            refine AW.if_eq X (tgt := 63) dX5_count_50 rfl ?_ ?_
            · intro t50
              refine AW.iload_n X dX5_count_63 rfl rfl ?_
              rcases hs with rfl | rfl | rfl | rfl | rfl | rfl | rfl | rfl
              · refine AW.swIn X (tgt := 112) dX5_count_64 (by decide) (by decide) rfl rfl ?_
                first | refine AW.aload_n X dX5_count_112 rfl rfl ?_ | refine AW.aloadN_n X dX5_count_112 rfl rfl ?_
                refine AW.getI X f_X5_337_18 (by first | assumption | exact hT _ _ rfl) dX5_count_113 ?_
                rw [m44]
                refine AW.ireturn X E ?_ dX5_count_116 
                exact ⟨rfl, rfl, rfl, rfl, w2_s _ _ _ _, FM.cod⟩
              · refine AW.swIn X (tgt := 117) dX5_count_64 (by decide) (by decide) rfl rfl ?_
                first | refine AW.aload_n X dX5_count_117 rfl rfl ?_ | refine AW.aloadN_n X dX5_count_117 rfl rfl ?_
                refine AW.iconst X (v := 0) dX5_count_118 rfl ?_
                refine AW.callV_r X (c_X5_priceOf (f := 0) hS1 (by omega)) (ci := 18) (q := (RX5, TX5, 74)) (by first | assumption | exact hT _ _ rfl) rfl s_X5_373_18 (by omega) (Nat.le_of_ble_eq_true rfl) rfl rfl (Nat.le_of_ble_eq_true rfl) dX5_count_119 ?_
                rw [Nat.sub_zero, prS_0]
                refine AW.ireturn X E ?_ dX5_count_122 
                exact ⟨rfl, rfl, rfl, rfl, w2_s _ _ _ _, FM.cod⟩
              · refine AW.swIn X (tgt := 123) dX5_count_64 (by decide) (by decide) rfl rfl ?_
                first | refine AW.aload_n X dX5_count_123 rfl rfl ?_ | refine AW.aloadN_n X dX5_count_123 rfl rfl ?_
                refine AW.getI X f_X5_340_18 (by first | assumption | exact hT _ _ rfl) dX5_count_124 ?_
                rw [m45]
                refine AW.ireturn X E ?_ dX5_count_127 
                exact ⟨rfl, rfl, rfl, rfl, w2_s _ _ _ _, FM.cod⟩
              · refine AW.swIn X (tgt := 128) dX5_count_64 (by decide) (by decide) rfl rfl ?_
                first | refine AW.aload_n X dX5_count_128 rfl rfl ?_ | refine AW.aloadN_n X dX5_count_128 rfl rfl ?_
                refine AW.getI X f_X5_342_18 (by first | assumption | exact hT _ _ rfl) dX5_count_129 ?_
                rw [m46]
                refine AW.ireturn X E ?_ dX5_count_132 
                exact ⟨rfl, rfl, rfl, rfl, w2_s _ _ _ _, FM.cod⟩
              · refine AW.swIn X (tgt := 133) dX5_count_64 (by decide) (by decide) rfl rfl ?_
                first | refine AW.aload_n X dX5_count_133 rfl rfl ?_ | refine AW.aloadN_n X dX5_count_133 rfl rfl ?_
                refine AW.getI X f_X5_201_18 (by first | assumption | exact hT _ _ rfl) dX5_count_134 ?_
                rw [m25]
                refine AW.ireturn X E ?_ dX5_count_137 
                exact ⟨rfl, rfl, rfl, rfl, w2_s _ _ _ _, FM.cod⟩
              · refine AW.swIn X (tgt := 138) dX5_count_64 (by decide) (by decide) rfl rfl ?_
                first | refine AW.aload_n X dX5_count_138 rfl rfl ?_ | refine AW.aloadN_n X dX5_count_138 rfl rfl ?_
                refine AW.getR X f_X5_103_18 (by first | assumption | exact hT _ _ rfl) (by first | assumption | exact hR _ _ _ rfl) dX5_count_139 ?_
                refine AW.iload_n X dX5_count_142 rfl rfl ?_
                refine AW.bipush X (v := 9) dX5_count_143 rfl ?_
                refine AW.isub X dX5_count_145 ?_
                refine AW.iald X (j := 0) (by first | assumption | exact hT _ _ rfl) (by decide) (by omega) dX5_count_146 ?_
                rw [w323]
                refine AW.ireturn X E ?_ dX5_count_147 
                exact ⟨rfl, rfl, rfl, rfl, w2_s _ _ _ _, FM.cod⟩
              · refine AW.swIn X (tgt := 138) dX5_count_64 (by decide) (by decide) rfl rfl ?_
                first | refine AW.aload_n X dX5_count_138 rfl rfl ?_ | refine AW.aloadN_n X dX5_count_138 rfl rfl ?_
                refine AW.getR X f_X5_103_18 (by first | assumption | exact hT _ _ rfl) (by first | assumption | exact hR _ _ _ rfl) dX5_count_139 ?_
                refine AW.iload_n X dX5_count_142 rfl rfl ?_
                refine AW.bipush X (v := 9) dX5_count_143 rfl ?_
                refine AW.isub X dX5_count_145 ?_
                refine AW.iald X (j := 1) (by first | assumption | exact hT _ _ rfl) (by decide) (by omega) dX5_count_146 ?_
                rw [w323]
                refine AW.ireturn X E ?_ dX5_count_147 
                exact ⟨rfl, rfl, rfl, rfl, w2_s _ _ _ _, FM.cod⟩
              · refine AW.swIn X (tgt := 138) dX5_count_64 (by decide) (by decide) rfl rfl ?_
                first | refine AW.aload_n X dX5_count_138 rfl rfl ?_ | refine AW.aloadN_n X dX5_count_138 rfl rfl ?_
                refine AW.getR X f_X5_103_18 (by first | assumption | exact hT _ _ rfl) (by first | assumption | exact hR _ _ _ rfl) dX5_count_139 ?_
                refine AW.iload_n X dX5_count_142 rfl rfl ?_
                refine AW.bipush X (v := 9) dX5_count_143 rfl ?_
                refine AW.isub X dX5_count_145 ?_
                refine AW.iald X (j := 2) (by first | assumption | exact hT _ _ rfl) (by decide) (by omega) dX5_count_146 ?_
                rw [w323]
                refine AW.ireturn X E ?_ dX5_count_147 
                exact ⟨rfl, rfl, rfl, rfl, w2_s _ _ _ _, FM.cod⟩
            · intro f50
              exact absurd rfl f50
          · intro f29
            exact absurd rfl f29
        · intro f11
          exact absurd rfl f11
theorem c_X5_count_bad {w : Int32} (hS : MS T I R N) (hb : ¬ (0 ≤ w ∧ w ≤ 11) ∧ ¬ (20 ≤ w ∧ w ≤ 29) ∧ ¬ (40 ≤ w ∧ w ≤ 63)) : MX5_count 8 0 [.ref 200, .int w] T I R J (qF 1 (nM N) T I R J) noX := by
  have hS0 := hS
  have hS1 : MS T (w2 I 200 3 0) R N := hS.cod
  obtain ⟨hT, hR, hV, hN, hM⟩ := hS
  obtain ⟨⟨n1, n2, n3, n4, hnq, hne, hns, hnh⟩, -⟩ := id hN
  have hsw : w.toInt < 4 ∨ 11 < w.toInt := by
    rcases Classical.em (w.toInt < 4 ∨ 11 < w.toInt) with h | h
    · exact h
    · exact absurd ⟨Int32.le_iff_toInt_le.mpr (by show (0 : Int) ≤ _; omega), Int32.le_iff_toInt_le.mpr (by show _ ≤ (11 : Int); omega)⟩ hb.1
  have h03 : ¬ (0 ≤ w ∧ w ≤ 3) := fun z => hb.1 ⟨z.1, Int32.le_trans z.2 (by decide)⟩
  refine AMet.of (by decide) (Nat.le_of_ble_eq_true rfl) (cats1 rfl) fun cx X E => ?_
  show AW _ _ _ (_ :: _ :: []) _ _ _ _ _
  first | refine AW.aload_n X dX5_count_0 rfl rfl ?_ | refine AW.aloadN_n X dX5_count_0 rfl rfl ?_
  refine AW.iconst X (v := 0) dX5_count_1 rfl ?_
  refine AW.putI X g_X5_count_194_18 (by omega) (by first | assumption | exact hT _ _ rfl) dX5_count_2 ?_ 
  refine AW.iload_n X dX5_count_5 rfl rfl ?_
  refine AW.iconst X (v := 0) dX5_count_6 rfl ?_
  refine AW.iconst X (v := 3) dX5_count_7 rfl ?_
  refine AW.callS_r X (c_X5_isIn w 0 3) s_X5_197 (by omega) (Nat.le_of_ble_eq_true rfl) rfl rfl (Nat.le_of_ble_eq_true rfl) dX5_count_8 ?_
  rw [bI_f h03]
  refine AW.if_eq X (tgt := 21) dX5_count_11 rfl ?_ ?_
  · intro t11
    refine AW.iload_n X dX5_count_21 rfl rfl ?_
    refine AW.bipush X (v := 20) dX5_count_22 rfl ?_
    refine AW.bipush X (v := 29) dX5_count_24 rfl ?_
    refine AW.callS_r X (c_X5_isIn w 20 29) s_X5_197 (by omega) (Nat.le_of_ble_eq_true rfl) rfl rfl (Nat.le_of_ble_eq_true rfl) dX5_count_26 ?_
    rw [bI_f hb.2.1]
    refine AW.if_eq X (tgt := 42) dX5_count_29 rfl ?_ ?_
    · intro t29
      refine AW.iload_n X dX5_count_42 rfl rfl ?_
      refine AW.bipush X (v := 40) dX5_count_43 rfl ?_
      refine AW.bipush X (v := 63) dX5_count_45 rfl ?_
      refine AW.callS_r X (c_X5_isIn w 40 63) s_X5_197 (by omega) (Nat.le_of_ble_eq_true rfl) rfl rfl (Nat.le_of_ble_eq_true rfl) dX5_count_47 ?_
      rw [bI_f hb.2.2]
      refine AW.if_eq X (tgt := 63) dX5_count_50 rfl ?_ ?_
      · intro t50
        refine AW.iload_n X dX5_count_63 rfl rfl ?_
        refine AW.swOut X (tgt := 148) dX5_count_64 hsw rfl ?_
        first | refine AW.aload_n X dX5_count_148 rfl rfl ?_ | refine AW.aloadN_n X dX5_count_148 rfl rfl ?_
        refine AW.iconst X (v := 1) dX5_count_149 rfl ?_
        refine AW.callV_i X (c_X5_fail hT 1) (ci := 18) (q := (RX5, TX5, 74)) (by first | assumption | exact hT _ _ rfl) rfl s_X5_323_18 (by omega) (Nat.le_of_ble_eq_true rfl) rfl rfl (Nat.le_of_ble_eq_true rfl) dX5_count_150 ?_
        intro r150 I150 h150
        obtain ⟨rfl, rfl⟩ := h150
        refine AW.ireturn X E ?_ dX5_count_153 
        exact ⟨rfl, rfl, rfl, ⟨_, rfl⟩, w2_s _ _ _ _, FM.cod.tr FM.cod⟩
      · intro f50
        exact absurd rfl f50
    · intro f29
      exact absurd rfl f29
  · intro f11
    exact absurd rfl f11
end MR
