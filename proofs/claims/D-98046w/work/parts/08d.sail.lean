/-! 08d: the model sails (steps printed by src/walk.py) -/
set_option maxRecDepth 100000
set_option maxHeartbeats 4000000
/-- how much a quay draws that may be gone to -/
def drV (N : KI) (s q h : Nat) : Int32 := if N 314 s = 2 then 1000 - Lig N q h else if N 314 s = 3 then hunQ N (hRow N) q h (nE N) else if seen N (Lig N) s q h then Lig N q h else -1
theorem cnd_drV {N : KI} {s a q h : Nat} (hN : NOK N) (hM : MOKs N) (hq : q < nQ N) (hh : h < 24) (hw : isWy N a q) : (cnd N (Lig N) (hRow N) s a h q = true ∧ drV N s q h = drw N (Lig N) (hRow N) s h q ∧ ∃ v, v ≤ 1000 ∧ drV N s q h = nI v) ∨ (cnd N (Lig N) (hRow N) s a h q = false ∧ drV N s q h = -1) := by
  obtain ⟨l, hl, hl2⟩ := Lig_b hN hM hq hh
  have h6 := hN.1.2.2.2.2.2.1
  have hu := hunQ_b (q := q) (Hg := hRow N) (h := h) h6 (fun e he => by rw [hRow_at N e hh]; exact hun_b hN he h) (nE N) (Nat.le_refl _)
  unfold drV cnd drw
  rw [decide_eq_true hw, Bool.true_and]
  by_cases h2 : N 314 s = 2
  · rw [if_pos h2, if_pos h2, if_pos h2, hl2]; exact Or.inl ⟨rfl, rfl, 1000 - l, by omega, nI_sub (a := 1000) (by omega)⟩
  · rw [if_neg h2, if_neg h2, if_neg h2]
    by_cases h3 : N 314 s = 3
    · rw [if_pos h3, if_pos h3, if_pos h3]
      rcases hu with hu | ⟨v, hv, hu⟩
      · exact Or.inr ⟨decide_eq_false (fun z => z hu), hu⟩
      · exact Or.inl ⟨decide_eq_true (by rw [hu]; exact nI_m1 (by omega)), rfl, v, by omega, hu⟩
    · rw [if_neg h3, if_neg h3, if_neg h3]
      by_cases h4 : seen N (Lig N) s q h
      · rw [if_pos h4]; exact Or.inl ⟨decide_eq_true h4, rfl, l, by omega, hl2⟩
      · rw [if_neg h4]; exact Or.inr ⟨decide_eq_false h4, rfl⟩
def nx1 (N : KI) (s a h : Nat) : Nat := if endK N a = 0 then leg N (Lig N) (hRow N) s a h else a
theorem nx1_lt {N : KI} {s a h : Nat} (ha : a < nQ N) : nx1 N s a h < nQ N := by
  unfold nx1
  by_cases hc : endK N a = 0
  · rw [if_pos hc]; exact leg_lt ha
  · rw [if_neg hc]; exact ha
theorem nxt_nx1 {N : KI} {s a h : Nat} : nxt N (Lig N) (hRow N) s a h = if N 314 s = 1 then nx1 N s (nx1 N s a h) h else nx1 N s a h := by
  unfold nxt stp nx1
  by_cases h0 : endK N a = 0
  · rw [if_pos h0, if_pos h0]
  · rw [if_neg h0, if_neg h0, if_neg h0]; exact (ite_self _).symm
/-- what pk found, with its height -/
def pkA (a : Nat) (o : Option Nat) : Nat := o.getD a
def pkV (v : Nat → Int32) : Option Nat → Int32
  | none => -1
  | some j => v j
/-- as MS, but for the meals and the cold in memory -/
def MSp (T : KT) (I : KI) (R : KR) (N : KI) : Prop := XT T ∧ XRf R ∧ ((∀ a, 304 ≤ a → a ≤ 322 → I a = N a) ∧ True) ∧ NOK N ∧ MOKs N
theorem MS.p {T : KT} {I : KI} {R : KR} {N : KI} (h : MS T I R N) : MSp T I R N := ⟨h.1, h.2.1, ⟨h.2.2.1.1, trivial⟩, h.2.2.2⟩
theorem MSp.hi {T : KT} {I I' : KI} {R : KR} {N : KI} (h : MSp T I R N) (hf : ∀ a, 304 ≤ a → a ≤ 322 → I' a = I a) : MSp T I' R N :=
  ⟨h.1, h.2.1, ⟨fun a a1 a2 => (hf a a1 a2).trans (h.2.2.1.1 a a1 a2), trivial⟩, h.2.2.2⟩
section MQ
variable {T : KT} {I : KI} {R : KR} {J : KJ} {N : KI}
theorem stays_endK {N : KI} {q : Nat} : (N 305 q = 3 ∨ N 305 q = 2) ↔ ¬ endK N q = 0 := by
  unfold endK
  by_cases h3 : N 305 q = 3
  · rw [if_pos h3]; exact ⟨fun _ => by decide, fun _ => Or.inl h3⟩
  · rw [if_neg h3]
    by_cases h2 : N 305 q = 2
    · rw [if_pos h2]; exact ⟨fun _ => by decide, fun _ => Or.inr h2⟩
    · rw [if_neg h2]; exact ⟨fun hc => hc.elim (fun z => absurd z h3) (fun z => absurd z h2), fun hc => absurd rfl hc⟩
theorem c_X5_stays {q : Nat} (hS : MSp T I R N) (hq : q < nQ N) : MX5_stays 0 0 [.ref 200, .int (nI q)] T I R J (qR (some (.int (bI (¬ endK N q = 0)))) T I R J) noX := by
  obtain ⟨hT, hR, hV, hN, hM⟩ := hS
  have hnq := hN.1.2.2.2.2.1
  have v305 := hV.1 305 (by omega) (by omega)
  refine AMet.of (by decide) (Nat.le_of_ble_eq_true rfl) (cats1 rfl) fun cx X E => ?_
  show AW _ _ _ (_ :: _ :: []) _ _ _ _ _
  first | refine AW.aload_n X dX5_stays_0 rfl rfl ?_ | refine AW.aloadN_n X dX5_stays_0 rfl rfl ?_
  refine AW.getR X f_X5_49_18 (by first | assumption | exact hT _ _ rfl) (by first | assumption | exact hR _ _ _ rfl) dX5_stays_1 ?_
  refine AW.iload_n X dX5_stays_4 rfl rfl ?_
  refine AW.iald X (j := q) (by first | assumption | exact hT _ _ rfl) (by repeat (first | with_reducible exact rfl | assumption | exact ix_l _ | apply ix_add | apply ix_mul)) (by omega) dX5_stays_5 ?_
  rw [v305]
  refine AW.iconst X (v := 3) dX5_stays_6 rfl ?_
  refine AW.icmp_eq X (tgt := 20) dX5_stays_7 rfl ?_ ?_
  · intro t7
    rw [bI_t (stays_endK.mp (Or.inl t7))] at E
    refine AW.iconst X (v := 1) dX5_stays_20 rfl ?_
    refine AW.goto X (tgt := 25) dX5_stays_21 rfl ?_
    exact AW.ireturn X E ⟨rfl, rfl, rfl, rfl, rfl⟩ dX5_stays_25 (hnar := by first | rfl | (unfold bI; split <;> rfl))
  · intro f7
    first | refine AW.aload_n X dX5_stays_10 rfl rfl ?_ | refine AW.aloadN_n X dX5_stays_10 rfl rfl ?_
    refine AW.getR X f_X5_49_18 (by first | assumption | exact hT _ _ rfl) (by first | assumption | exact hR _ _ _ rfl) dX5_stays_11 ?_
    refine AW.iload_n X dX5_stays_14 rfl rfl ?_
    refine AW.iald X (j := q) (by first | assumption | exact hT _ _ rfl) (by repeat (first | with_reducible exact rfl | assumption | exact ix_l _ | apply ix_add | apply ix_mul)) (by omega) dX5_stays_15 ?_
    rw [v305]
    refine AW.iconst X (v := 2) dX5_stays_16 rfl ?_
    refine AW.icmp_ne X (tgt := 24) dX5_stays_17 rfl ?_ ?_
    · intro t17
      rw [bI_f (fun z => (stays_endK.mpr z).elim f7 t17)] at E
      refine AW.iconst X (v := 0) dX5_stays_24 rfl ?_
      exact AW.ireturn X E ⟨rfl, rfl, rfl, rfl, rfl⟩ dX5_stays_25 (hnar := by first | rfl | (unfold bI; split <;> rfl))
    · intro f17
      rw [bI_t (stays_endK.mp (Or.inr f17))] at E
      refine AW.iconst X (v := 1) dX5_stays_20 rfl ?_
      refine AW.goto X (tgt := 25) dX5_stays_21 rfl ?_
      exact AW.ireturn X E ⟨rfl, rfl, rfl, rfl, rfl⟩ dX5_stays_25 (hnar := by first | rfl | (unfold bI; split <;> rfl))
theorem c_X5_isSeen {s q h : Nat} (hS : MSp T I R N) (hI : NiP N I) (hs : s < nS N) (hq : q < nQ N) (hh : h < 24) : MX5_isSeen 0 0 [.ref 200, .int (nI s), .int (nI q), .int (nI h)] T I R J (qR (some (.int (bI (seen N (Lig N) s q h)))) T I R J) noX := by
  obtain ⟨hT, hR, hV, hN, hM⟩ := hS
  have hnq := hN.1.2.2.2.2.1
  have hns := hN.1.2.2.2.2.2.2.1
  have v317 := hV.1 317 (by omega) (by omega)
  have v318 := hV.1 318 (by omega) (by omega)
  refine AMet.of (by decide) (Nat.le_of_ble_eq_true rfl) (cats1 rfl) fun cx X E => ?_
  show AW _ _ _ (_ :: _ :: _ :: _ :: []) _ _ _ _ _
  first | refine AW.aload_n X dX5_isSeen_0 rfl rfl ?_ | refine AW.aloadN_n X dX5_isSeen_0 rfl rfl ?_
  refine AW.getR X f_X5_131_18 (by first | assumption | exact hT _ _ rfl) (by first | assumption | exact hR _ _ _ rfl) dX5_isSeen_1 ?_
  refine AW.bipush X (v := 24) dX5_isSeen_4 rfl ?_
  refine AW.iload_n X dX5_isSeen_6 rfl rfl ?_
  refine AW.imul X dX5_isSeen_7 ?_
  refine AW.iload_n X dX5_isSeen_8 rfl rfl ?_
  refine AW.iadd X dX5_isSeen_9 ?_
  refine AW.iald X (j := 24 * q + h) (by first | assumption | exact hT _ _ rfl) (by repeat (first | with_reducible exact rfl | assumption | exact ix_l _ | apply ix_add | apply ix_mul)) (by omega) dX5_isSeen_10 ?_
  rw [hI.2 q h hq hh]
  first | refine AW.aload_n X dX5_isSeen_11 rfl rfl ?_ | refine AW.aloadN_n X dX5_isSeen_11 rfl rfl ?_
  refine AW.getR X f_X5_88_18 (by first | assumption | exact hT _ _ rfl) (by first | assumption | exact hR _ _ _ rfl) dX5_isSeen_12 ?_
  refine AW.iload_n X dX5_isSeen_15 rfl rfl ?_
  refine AW.iald X (j := h) (by first | assumption | exact hT _ _ rfl) (by repeat (first | with_reducible exact rfl | assumption | exact ix_l _ | apply ix_add | apply ix_mul)) (by omega) dX5_isSeen_16 ?_
  rw [v318]
  refine AW.icmp_le X (tgt := 44) dX5_isSeen_17 rfl ?_ ?_
  · intro t17
    rw [bI_f (fun z => Int32.not_lt.mpr t17 z.1)] at E
    refine AW.iconst X (v := 0) dX5_isSeen_44 rfl ?_
    exact AW.ireturn X E ⟨rfl, rfl, rfl, rfl, rfl⟩ dX5_isSeen_45 (hnar := by first | rfl | (unfold bI; split <;> rfl))
  · intro f17
    first | refine AW.aload_n X dX5_isSeen_20 rfl rfl ?_ | refine AW.aloadN_n X dX5_isSeen_20 rfl rfl ?_
    refine AW.getR X f_X5_131_18 (by first | assumption | exact hT _ _ rfl) (by first | assumption | exact hR _ _ _ rfl) dX5_isSeen_21 ?_
    refine AW.bipush X (v := 24) dX5_isSeen_24 rfl ?_
    refine AW.iload_n X dX5_isSeen_26 rfl rfl ?_
    refine AW.imul X dX5_isSeen_27 ?_
    refine AW.iload_n X dX5_isSeen_28 rfl rfl ?_
    refine AW.iadd X dX5_isSeen_29 ?_
    refine AW.iald X (j := 24 * q + h) (by first | assumption | exact hT _ _ rfl) (by repeat (first | with_reducible exact rfl | assumption | exact ix_l _ | apply ix_add | apply ix_mul)) (by omega) dX5_isSeen_30 ?_
    rw [hI.2 q h hq hh]
    first | refine AW.aload_n X dX5_isSeen_31 rfl rfl ?_ | refine AW.aloadN_n X dX5_isSeen_31 rfl rfl ?_
    refine AW.getR X f_X5_85_18 (by first | assumption | exact hT _ _ rfl) (by first | assumption | exact hR _ _ _ rfl) dX5_isSeen_32 ?_
    refine AW.iload_n X dX5_isSeen_35 rfl rfl ?_
    refine AW.iald X (j := s) (by first | assumption | exact hT _ _ rfl) (by repeat (first | with_reducible exact rfl | assumption | exact ix_l _ | apply ix_add | apply ix_mul)) (by omega) dX5_isSeen_36 ?_
    rw [v317]
    refine AW.icmp_lt X (tgt := 44) dX5_isSeen_37 rfl ?_ ?_
    · intro t37
      rw [bI_f (fun z => Int32.not_le.mpr t37 z.2)] at E
      refine AW.iconst X (v := 0) dX5_isSeen_44 rfl ?_
      exact AW.ireturn X E ⟨rfl, rfl, rfl, rfl, rfl⟩ dX5_isSeen_45 (hnar := by first | rfl | (unfold bI; split <;> rfl))
    · intro f37
      rw [bI_t ⟨Int32.not_le.mp f17, Int32.not_lt.mp f37⟩] at E
      refine AW.iconst X (v := 1) dX5_isSeen_40 rfl ?_
      refine AW.goto X (tgt := 45) dX5_isSeen_41 rfl ?_
      exact AW.ireturn X E ⟨rfl, rfl, rfl, rfl, rfl⟩ dX5_isSeen_45 (hnar := by first | rfl | (unfold bI; split <;> rfl))
theorem c_X5_hungersAt {q h : Nat} (hS : MSp T I R N) (hI : NiP N I) (hq : q < nQ N) (hh : h < 24) : MX5_hungersAt 1 0 [.ref 200, .int (nI q), .int (nI h)] T I R J (qR (some (.int (hunQ N (hRow N) q h (nE N)))) T I R J) noX := by
  obtain ⟨hT, hR, hV, hN, hM⟩ := hS
  have hne := hN.1.2.2.2.2.2.1
  have hnE := hN.1.2.1
  have v304 := hV.1 304 (by omega) (by omega)
  have v311 := hV.1 311 (by omega) (by omega)
  refine AMet.of (by decide) (Nat.le_of_ble_eq_true rfl) (cats1 rfl) fun cx X E => ?_
  show AW _ _ _ (_ :: _ :: _ :: _ :: _ :: []) _ _ _ _ _
  have lp : ∀ j e, e + j = nE N → AW cx 0 5 [.ref 200, .int (nI q), .int (nI h), .int (hunQ N (hRow N) q h e), .int (nI e)] [] T I R J := by
    intro j
    induction j with
    | zero =>
      intro e hj
      obtain rfl : e = nE N := by omega
      refine AW.iload X dX5_hungersAt_5 rfl ?_
      first | refine AW.aload_n X dX5_hungersAt_7 rfl rfl ?_ | refine AW.aloadN_n X dX5_hungersAt_7 rfl rfl ?_
      refine AW.getR X f_X5_45_18 (by first | assumption | exact hT _ _ rfl) (by first | assumption | exact hR _ _ _ rfl) dX5_hungersAt_8 ?_
      refine AW.iconst X (v := 1) dX5_hungersAt_11 rfl ?_
      refine AW.iald X (j := 1) (by first | assumption | exact hT _ _ rfl) (by repeat (first | with_reducible exact rfl | assumption | exact ix_l _ | apply ix_add | apply ix_mul)) (by omega) dX5_hungersAt_12 ?_
      rw [v304, hnE]
      refine AW.icmp_ge X (tgt := 56) dX5_hungersAt_13 rfl ?_ ?_
      · intro t13
        refine AW.iload_n X dX5_hungersAt_56 rfl rfl ?_
        exact AW.ireturn X E ⟨rfl, rfl, rfl, rfl, rfl⟩ dX5_hungersAt_57 
      · intro f13
        exact absurd (Int32.le_refl _) f13
    | succ j ih2 =>
      intro e hj
      have hE := ih2 (e + 1) (by omega)
      unfold hunQ at hE
      refine AW.iload X dX5_hungersAt_5 rfl ?_
      first | refine AW.aload_n X dX5_hungersAt_7 rfl rfl ?_ | refine AW.aloadN_n X dX5_hungersAt_7 rfl rfl ?_
      refine AW.getR X f_X5_45_18 (by first | assumption | exact hT _ _ rfl) (by first | assumption | exact hR _ _ _ rfl) dX5_hungersAt_8 ?_
      refine AW.iconst X (v := 1) dX5_hungersAt_11 rfl ?_
      refine AW.iald X (j := 1) (by first | assumption | exact hT _ _ rfl) (by repeat (first | with_reducible exact rfl | assumption | exact ix_l _ | apply ix_add | apply ix_mul)) (by omega) dX5_hungersAt_12 ?_
      rw [v304, hnE]
      refine AW.icmp_ge X (tgt := 56) dX5_hungersAt_13 rfl ?_ ?_
      · intro t13
        exact absurd t13 (nI_ge (by omega) (by omega))
      · intro f13
        first | refine AW.aload_n X dX5_hungersAt_16 rfl rfl ?_ | refine AW.aloadN_n X dX5_hungersAt_16 rfl rfl ?_
        refine AW.getR X f_X5_67_18 (by first | assumption | exact hT _ _ rfl) (by first | assumption | exact hR _ _ _ rfl) dX5_hungersAt_17 ?_
        refine AW.iload X dX5_hungersAt_20 rfl ?_
        refine AW.iald X (j := e) (by first | assumption | exact hT _ _ rfl) (by repeat (first | with_reducible exact rfl | assumption | exact ix_l _ | apply ix_add | apply ix_mul)) (by omega) dX5_hungersAt_22 ?_
        rw [v311]
        refine AW.iload_n X dX5_hungersAt_23 rfl rfl ?_
        refine AW.icmp_ne X (tgt := 48) dX5_hungersAt_24 rfl ?_ ?_
        · intro t24
          rw [if_neg t24] at hE
          refine AW.iload_n X dX5_hungersAt_48 rfl rfl ?_
          refine AW.istore3 X dX5_hungersAt_49 ?_
          refine AW.iinc4 X (v := _ + 1) dX5_hungersAt_50 rfl ?_
          refine AW.goto X (tgt := 5) dX5_hungersAt_53 rfl ?_
          rw [nI_1]; first | exact hE | (rw [hRow_at N e hh] at hE; exact hE)
        · intro f24
          rw [if_pos f24] at hE
          refine AW.iconst X (v := 0) dX5_hungersAt_27 rfl ?_
          refine AW.iload_n X dX5_hungersAt_28 rfl rfl ?_
          refine AW.mmax X q2019 (by omega) (Nat.le_of_ble_eq_true rfl) dX5_hungersAt_29 ?_
          first | refine AW.aload_n X dX5_hungersAt_32 rfl rfl ?_ | refine AW.aloadN_n X dX5_hungersAt_32 rfl rfl ?_
          refine AW.getR X f_X5_122_18 (by first | assumption | exact hT _ _ rfl) (by first | assumption | exact hR _ _ _ rfl) dX5_hungersAt_33 ?_
          refine AW.bipush X (v := 24) dX5_hungersAt_36 rfl ?_
          refine AW.iload X dX5_hungersAt_38 rfl ?_
          refine AW.imul X dX5_hungersAt_40 ?_
          refine AW.iload_n X dX5_hungersAt_41 rfl rfl ?_
          refine AW.iadd X dX5_hungersAt_42 ?_
          refine AW.iald X (j := 24 * e + h) (by first | assumption | exact hT _ _ rfl) (by repeat (first | with_reducible exact rfl | assumption | exact ix_l _ | apply ix_add | apply ix_mul)) (by omega) dX5_hungersAt_43 ?_
          rw [(hI.1 e h (by omega) hh).1]
          refine AW.iadd X dX5_hungersAt_44 ?_
          refine AW.goto X (tgt := 49) dX5_hungersAt_45 rfl ?_
          refine AW.istore3 X dX5_hungersAt_49 ?_
          refine AW.iinc4 X (v := _ + 1) dX5_hungersAt_50 rfl ?_
          refine AW.goto X (tgt := 5) dX5_hungersAt_53 rfl ?_
          rw [nI_1]; first | exact hE | (rw [hRow_at N e hh] at hE; exact hE)
  refine AW.iconst X (v := -1) dX5_hungersAt_0 rfl ?_
  refine AW.istore3 X dX5_hungersAt_1 ?_
  refine AW.iconst X (v := 0) dX5_hungersAt_2 rfl ?_
  refine AW.istore4 X dX5_hungersAt_3 ?_
  exact lp (nE N) 0 (by omega)
theorem c_X5_draw {s q h : Nat} (hS : MSp T I R N) (hI : NiP N I) (hs : s < nS N) (hq : q < nQ N) (hh : h < 24) : MX5_draw 2 0 [.ref 200, .int (nI s), .int (nI q), .int (nI h)] T I R J (qR (some (.int (drV N s q h))) T I R J) noX := by
  have hS0 := hS
  obtain ⟨hT, hR, hV, hN, hM⟩ := hS
  have hnq := hN.1.2.2.2.2.1
  have hns := hN.1.2.2.2.2.2.2.1
  have v314 := hV.1 314 (by omega) (by omega)
  unfold drV
  refine AMet.of (by decide) (Nat.le_of_ble_eq_true rfl) (cats1 rfl) fun cx X E => ?_
  show AW _ _ _ (_ :: _ :: _ :: _ :: []) _ _ _ _ _
  first | refine AW.aload_n X dX5_draw_0 rfl rfl ?_ | refine AW.aloadN_n X dX5_draw_0 rfl rfl ?_
  refine AW.getR X f_X5_76_18 (by first | assumption | exact hT _ _ rfl) (by first | assumption | exact hR _ _ _ rfl) dX5_draw_1 ?_
  refine AW.iload_n X dX5_draw_4 rfl rfl ?_
  refine AW.iald X (j := s) (by first | assumption | exact hT _ _ rfl) (by repeat (first | with_reducible exact rfl | assumption | exact ix_l _ | apply ix_add | apply ix_mul)) (by omega) dX5_draw_5 ?_
  rw [v314]
  refine AW.iconst X (v := 2) dX5_draw_6 rfl ?_
  refine AW.icmp_ne X (tgt := 26) dX5_draw_7 rfl ?_ ?_
  · intro t7
    rw [if_neg t7] at E
    first | refine AW.aload_n X dX5_draw_26 rfl rfl ?_ | refine AW.aloadN_n X dX5_draw_26 rfl rfl ?_
    refine AW.getR X f_X5_76_18 (by first | assumption | exact hT _ _ rfl) (by first | assumption | exact hR _ _ _ rfl) dX5_draw_27 ?_
    refine AW.iload_n X dX5_draw_30 rfl rfl ?_
    refine AW.iald X (j := s) (by first | assumption | exact hT _ _ rfl) (by repeat (first | with_reducible exact rfl | assumption | exact ix_l _ | apply ix_add | apply ix_mul)) (by omega) dX5_draw_31 ?_
    rw [v314]
    refine AW.iconst X (v := 3) dX5_draw_32 rfl ?_
    refine AW.icmp_ne X (tgt := 45) dX5_draw_33 rfl ?_ ?_
    · intro t33
      rw [if_neg t33] at E
      first | refine AW.aload_n X dX5_draw_45 rfl rfl ?_ | refine AW.aloadN_n X dX5_draw_45 rfl rfl ?_
      refine AW.iload_n X dX5_draw_46 rfl rfl ?_
      refine AW.iload_n X dX5_draw_47 rfl rfl ?_
      refine AW.iload_n X dX5_draw_48 rfl rfl ?_
      refine AW.callV_r X (c_X5_isSeen hS0 hI hs hq hh) (ci := 18) (q := (RX5, TX5, 74)) (by first | assumption | exact hT _ _ rfl) rfl s_X5_398_18 (by omega) (Nat.le_of_ble_eq_true rfl) rfl rfl (Nat.le_of_ble_eq_true rfl) dX5_draw_49 ?_
      refine AW.if_eq X (tgt := 69) dX5_draw_52 rfl ?_ ?_
      · intro t52
        rw [if_neg (bI_z.mp t52)] at E
        refine AW.iconst X (v := -1) dX5_draw_69 rfl ?_
        exact AW.ireturn X E ⟨rfl, rfl, rfl, rfl, rfl⟩ dX5_draw_70 
      · intro f52
        rw [if_pos (Decidable.of_not_not fun z => f52 (bI_z.mpr z))] at E
        first | refine AW.aload_n X dX5_draw_55 rfl rfl ?_ | refine AW.aloadN_n X dX5_draw_55 rfl rfl ?_
        refine AW.getR X f_X5_131_18 (by first | assumption | exact hT _ _ rfl) (by first | assumption | exact hR _ _ _ rfl) dX5_draw_56 ?_
        refine AW.bipush X (v := 24) dX5_draw_59 rfl ?_
        refine AW.iload_n X dX5_draw_61 rfl rfl ?_
        refine AW.imul X dX5_draw_62 ?_
        refine AW.iload_n X dX5_draw_63 rfl rfl ?_
        refine AW.iadd X dX5_draw_64 ?_
        refine AW.iald X (j := 24 * q + h) (by first | assumption | exact hT _ _ rfl) (by repeat (first | with_reducible exact rfl | assumption | exact ix_l _ | apply ix_add | apply ix_mul)) (by omega) dX5_draw_65 ?_
        rw [hI.2 q h hq hh]
        refine AW.goto X (tgt := 70) dX5_draw_66 rfl ?_
        exact AW.ireturn X E ⟨rfl, rfl, rfl, rfl, rfl⟩ dX5_draw_70 
    · intro f33
      rw [if_pos f33] at E
      first | refine AW.aload_n X dX5_draw_36 rfl rfl ?_ | refine AW.aloadN_n X dX5_draw_36 rfl rfl ?_
      refine AW.iload_n X dX5_draw_37 rfl rfl ?_
      refine AW.iload_n X dX5_draw_38 rfl rfl ?_
      refine AW.callV_r X (c_X5_hungersAt hS0 hI hq hh) (ci := 18) (q := (RX5, TX5, 74)) (by first | assumption | exact hT _ _ rfl) rfl s_X5_395_18 (by omega) (Nat.le_of_ble_eq_true rfl) rfl rfl (Nat.le_of_ble_eq_true rfl) dX5_draw_39 ?_
      refine AW.goto X (tgt := 70) dX5_draw_42 rfl ?_
      exact AW.ireturn X E ⟨rfl, rfl, rfl, rfl, rfl⟩ dX5_draw_70 
  · intro f7
    rw [if_pos f7] at E
    refine AW.sipush X (v := 1000) dX5_draw_10 rfl ?_
    first | refine AW.aload_n X dX5_draw_13 rfl rfl ?_ | refine AW.aloadN_n X dX5_draw_13 rfl rfl ?_
    refine AW.getR X f_X5_131_18 (by first | assumption | exact hT _ _ rfl) (by first | assumption | exact hR _ _ _ rfl) dX5_draw_14 ?_
    refine AW.bipush X (v := 24) dX5_draw_17 rfl ?_
    refine AW.iload_n X dX5_draw_19 rfl rfl ?_
    refine AW.imul X dX5_draw_20 ?_
    refine AW.iload_n X dX5_draw_21 rfl rfl ?_
    refine AW.iadd X dX5_draw_22 ?_
    refine AW.iald X (j := 24 * q + h) (by first | assumption | exact hT _ _ rfl) (by repeat (first | with_reducible exact rfl | assumption | exact ix_l _ | apply ix_add | apply ix_mul)) (by omega) dX5_draw_23 ?_
    rw [hI.2 q h hq hh]
    refine AW.isub X dX5_draw_24 ?_
    exact AW.ireturn X E ⟨rfl, rfl, rfl, rfl, rfl⟩ dX5_draw_25 
theorem c_X5_nextOf {s a h : Nat} (hS : MSp T I R N) (hI : NiP N I) (hs : s < nS N) (ha : a < nQ N) (hh : h < 24) : MX5_nextOf 3 0 [.ref 200, .int (nI s), .int (nI a), .int (nI h)] T I R J (qR (some (.int (nI (nx1 N s a h)))) T I R J) noX := by
  have hS0 := hS
  obtain ⟨hT, hR, hV, hN, hM⟩ := hS
  have hnq := hN.1.2.2.2.2.1
  have hnQ := hN.1.1
  have v304 := hV.1 304 (by omega) (by omega)
  have v308 := hV.1 308 (by omega) (by omega)
  unfold nx1
  refine AMet.of (by decide) (Nat.le_of_ble_eq_true rfl) (cats1 rfl) fun cx X E => ?_
  show AW _ _ _ (_ :: _ :: _ :: _ :: _ :: _ :: _ :: _ :: []) _ _ _ _ _
  have lp : endK N a = 0 → ∀ j q v7, q + j = nQ N → AW cx 0 19 [.ref 200, .int (nI s), .int (nI a), .int (nI h), .int (nI (pkA a (pk (cnd N (Lig N) (hRow N) s a h) (drw N (Lig N) (hRow N) s h) q))), .int (pkV (drw N (Lig N) (hRow N) s h) (pk (cnd N (Lig N) (hRow N) s a h) (drw N (Lig N) (hRow N) s h) q)), .int (nI q), v7] [] T I R J := by
    intro h0 j
    rw [if_pos h0] at E
    induction j with
    | zero =>
      intro q v7 hj
      obtain rfl : q = nQ N := by omega
      refine AW.iload X dX5_nextOf_19 rfl ?_
      first | refine AW.aload_n X dX5_nextOf_21 rfl rfl ?_ | refine AW.aloadN_n X dX5_nextOf_21 rfl rfl ?_
      refine AW.getR X f_X5_45_18 (by first | assumption | exact hT _ _ rfl) (by first | assumption | exact hR _ _ _ rfl) dX5_nextOf_22 ?_
      refine AW.iconst X (v := 0) dX5_nextOf_25 rfl ?_
      refine AW.iald X (j := 0) (by first | assumption | exact hT _ _ rfl) (by repeat (first | with_reducible exact rfl | assumption | exact ix_l _ | apply ix_add | apply ix_mul)) (by omega) dX5_nextOf_26 ?_
      rw [v304, hnQ]
      refine AW.icmp_ge X (tgt := 81) dX5_nextOf_27 rfl ?_ ?_
      · intro t27
        refine AW.iload X dX5_nextOf_81 rfl ?_
        exact AW.ireturn X E ⟨rfl, rfl, rfl, rfl, rfl⟩ dX5_nextOf_83 
      · intro f27
        exact absurd (Int32.le_refl _) f27
    | succ j ih2 =>
      intro q v7 hj
      have hE := fun v7 => ih2 (q + 1) v7 (by omega)
      have hmo : pkV (drw N (Lig N) (hRow N) s h) (pk (cnd N (Lig N) (hRow N) s a h) (drw N (Lig N) (hRow N) s h) q) = -1 ∧ pk (cnd N (Lig N) (hRow N) s a h) (drw N (Lig N) (hRow N) s h) q = none ∨ ∃ v j, v ≤ 1000 ∧ pkV (drw N (Lig N) (hRow N) s h) (pk (cnd N (Lig N) (hRow N) s a h) (drw N (Lig N) (hRow N) s h) q) = nI v ∧ pk (cnd N (Lig N) (hRow N) s a h) (drw N (Lig N) (hRow N) s h) q = some j ∧ drw N (Lig N) (hRow N) s h j = nI v := by
        rcases hp : pk (cnd N (Lig N) (hRow N) s a h) (drw N (Lig N) (hRow N) s h) q with _ | j
        · exact Or.inl ⟨rfl, rfl⟩
        · obtain ⟨p1, p2⟩ := pkk_lt hp
          have hwy : isWy N a j := by
            unfold cnd at p2
            exact of_decide_eq_true (Bool.and_eq_true_iff.mp p2).1
          rcases cnd_drV (s := s) hN hM (show j < nQ N by omega) hh hwy with ⟨-, q2, v, q3, q4⟩ | ⟨q1, -⟩
          · exact Or.inr ⟨v, j, q3, (q2 ▸ q4 : drw N (Lig N) (hRow N) s h j = nI v), rfl, q2 ▸ q4⟩
          · rw [q1] at p2; cases p2
      refine AW.iload X dX5_nextOf_19 rfl ?_
      first | refine AW.aload_n X dX5_nextOf_21 rfl rfl ?_ | refine AW.aloadN_n X dX5_nextOf_21 rfl rfl ?_
      refine AW.getR X f_X5_45_18 (by first | assumption | exact hT _ _ rfl) (by first | assumption | exact hR _ _ _ rfl) dX5_nextOf_22 ?_
      refine AW.iconst X (v := 0) dX5_nextOf_25 rfl ?_
      refine AW.iald X (j := 0) (by first | assumption | exact hT _ _ rfl) (by repeat (first | with_reducible exact rfl | assumption | exact ix_l _ | apply ix_add | apply ix_mul)) (by omega) dX5_nextOf_26 ?_
      rw [v304, hnQ]
      refine AW.icmp_ge X (tgt := 81) dX5_nextOf_27 rfl ?_ ?_
      · intro t27
        exact absurd t27 (nI_ge (by omega) (by omega))
      · intro f27
        first | refine AW.aload_n X dX5_nextOf_30 rfl rfl ?_ | refine AW.aloadN_n X dX5_nextOf_30 rfl rfl ?_
        refine AW.getR X f_X5_58_18 (by first | assumption | exact hT _ _ rfl) (by first | assumption | exact hR _ _ _ rfl) dX5_nextOf_31 ?_
        refine AW.iload_n X dX5_nextOf_34 rfl rfl ?_
        refine AW.iald X (j := a) (by first | assumption | exact hT _ _ rfl) (by repeat (first | with_reducible exact rfl | assumption | exact ix_l _ | apply ix_add | apply ix_mul)) (by omega) dX5_nextOf_35 ?_
        rw [v308]
        refine AW.iload X dX5_nextOf_36 rfl ?_
        refine AW.ishr X dX5_nextOf_38 ?_
        refine AW.iconst X (v := 1) dX5_nextOf_39 rfl ?_
        refine AW.iand X dX5_nextOf_40 ?_
        refine AW.if_ne X (tgt := 47) dX5_nextOf_41 rfl ?_ ?_
        · intro t41
          have hwy : isWy N a q := by
            rcases and_nI (N 308 a >>> (nI q &&& 31)) (show 1 < 2 ^ 31 by omega) with ⟨w, hw, hw2⟩
            have hw3 : N 308 a >>> (nI q &&& 31) &&& 1 = nI w := hw2
            have hw1 : w = 1 := by
              rcases Nat.lt_or_ge w 1 with hz | hz
              · exact absurd (hw3.trans (by rw [show w = 0 by omega]; rfl)) t41
              · omega
            exact hw3.trans (by rw [hw1]; rfl)
          first | refine AW.aload_n X dX5_nextOf_47 rfl rfl ?_ | refine AW.aloadN_n X dX5_nextOf_47 rfl rfl ?_
          refine AW.iload_n X dX5_nextOf_48 rfl rfl ?_
          refine AW.iload X dX5_nextOf_49 rfl ?_
          refine AW.iload_n X dX5_nextOf_51 rfl rfl ?_
          refine AW.callV_r X (c_X5_draw hS0 hI hs (show q < nQ N by omega) hh) (ci := 18) (q := (RX5, TX5, 74)) (by first | assumption | exact hT _ _ rfl) rfl s_X5_404_18 (by omega) (Nat.le_of_ble_eq_true rfl) rfl rfl (Nat.le_of_ble_eq_true rfl) dX5_nextOf_52 ?_
          refine AW.istore7 X dX5_nextOf_55 ?_
          refine AW.iload X dX5_nextOf_57 rfl ?_
          refine AW.iload X dX5_nextOf_59 rfl ?_
          refine AW.icmp_gt X (tgt := 67) dX5_nextOf_61 rfl ?_ ?_
          · intro t61
            have hgt := Int32.not_le.mp (fun z => absurd t61 (Int32.not_lt.mpr z))
            refine AW.iload X dX5_nextOf_67 rfl ?_
            refine AW.istore5 X dX5_nextOf_69 ?_
            refine AW.iload X dX5_nextOf_71 rfl ?_
            refine AW.istore4 X dX5_nextOf_73 ?_
            refine AW.iinc6 X (v := _ + 1) dX5_nextOf_75 rfl ?_
            refine AW.goto X (tgt := 19) dX5_nextOf_78 rfl ?_
            rw [nI_1]
            first
              | (have hcf : cnd N (Lig N) (hRow N) s a h q = false := by
                   unfold cnd
                   rw [decide_eq_false (show ¬ isWy N a q from fun z => absurd (z.symm.trans f41) (by decide)), Bool.false_and]
                 have hi := hE v7
                 rw [pkk_no hcf] at hi
                 exact hi)
              | (rcases cnd_drV (s := s) hN hM (show q < nQ N by omega) hh hwy with ⟨z1, z2, v, z3, z4⟩ | ⟨z1, z2⟩
                 · have hi := hE (.int (drV N s q h))
                   rcases hmo with ⟨y1, y2⟩ | ⟨v2, j2, y1, y2, y3, y4⟩
                   · rw [y1, z4] at hgt
                     rw [pkk_none z1 y2, ] at hi
                     rw [z2]; rw [z2] at hi; exact hi
                   · rw [y2, z4] at hgt
                     rw [pkk_gt z1 y3 (by rw [y4, ← z2, z4]; exact hgt)] at hi
                     rw [z2]; rw [z2] at hi; exact hi
                 · rw [z2] at hgt
                   rcases hmo with ⟨y1, y2⟩ | ⟨v2, j2, y1, y2, y3, y4⟩
                   · rw [y1] at hgt; exact absurd hgt (by decide)
                   · rw [y2] at hgt; exact absurd (Int32.lt_trans hgt (show (-1 : Int32) < 0 by decide)) (nI_pos (by omega)))
              | (rcases cnd_drV (s := s) hN hM (show q < nQ N by omega) hh hwy with ⟨z1, z2, v, z3, z4⟩ | ⟨z1, z2⟩
                 · have hi := hE (.int (drV N s q h))
                   rcases hmo with ⟨y1, y2⟩ | ⟨v2, j2, y1, y2, y3, y4⟩
                   · rw [y1, z4] at f61
                     exact absurd (show (-1 : Int32) < nI v from Int32.lt_of_lt_of_le (show (-1 : Int32) < 0 by decide) (nI_pos' (by omega))) f61
                   · rw [y2, z4] at f61
                     rw [pkk_le y3 (by rw [y4, ← z2, z4]; exact f61)] at hi
                     rw [y3]; exact hi
                 · have hi := hE (.int (drV N s q h))
                   rw [pkk_no z1] at hi
                   exact hi)
          · intro f61
            refine AW.goto X (tgt := 75) dX5_nextOf_64 rfl ?_
            refine AW.iinc6 X (v := _ + 1) dX5_nextOf_75 rfl ?_
            refine AW.goto X (tgt := 19) dX5_nextOf_78 rfl ?_
            rw [nI_1]
            first
              | (have hcf : cnd N (Lig N) (hRow N) s a h q = false := by
                   unfold cnd
                   rw [decide_eq_false (show ¬ isWy N a q from fun z => absurd (z.symm.trans f41) (by decide)), Bool.false_and]
                 have hi := hE v7
                 rw [pkk_no hcf] at hi
                 exact hi)
              | (rcases cnd_drV (s := s) hN hM (show q < nQ N by omega) hh hwy with ⟨z1, z2, v, z3, z4⟩ | ⟨z1, z2⟩
                 · have hi := hE (.int (drV N s q h))
                   rcases hmo with ⟨y1, y2⟩ | ⟨v2, j2, y1, y2, y3, y4⟩
                   · rw [y1, z4] at hgt
                     rw [pkk_none z1 y2, ] at hi
                     rw [z2]; rw [z2] at hi; exact hi
                   · rw [y2, z4] at hgt
                     rw [pkk_gt z1 y3 (by rw [y4, ← z2, z4]; exact hgt)] at hi
                     rw [z2]; rw [z2] at hi; exact hi
                 · rw [z2] at hgt
                   rcases hmo with ⟨y1, y2⟩ | ⟨v2, j2, y1, y2, y3, y4⟩
                   · rw [y1] at hgt; exact absurd hgt (by decide)
                   · rw [y2] at hgt; exact absurd (Int32.lt_trans hgt (show (-1 : Int32) < 0 by decide)) (nI_pos (by omega)))
              | (rcases cnd_drV (s := s) hN hM (show q < nQ N by omega) hh hwy with ⟨z1, z2, v, z3, z4⟩ | ⟨z1, z2⟩
                 · have hi := hE (.int (drV N s q h))
                   rcases hmo with ⟨y1, y2⟩ | ⟨v2, j2, y1, y2, y3, y4⟩
                   · rw [y1, z4] at f61
                     exact absurd (show (-1 : Int32) < nI v from Int32.lt_of_lt_of_le (show (-1 : Int32) < 0 by decide) (nI_pos' (by omega))) f61
                   · rw [y2, z4] at f61
                     rw [pkk_le y3 (by rw [y4, ← z2, z4]; exact f61)] at hi
                     rw [y3]; exact hi
                 · have hi := hE (.int (drV N s q h))
                   rw [pkk_no z1] at hi
                   exact hi)
        · intro f41
          refine AW.goto X (tgt := 75) dX5_nextOf_44 rfl ?_
          refine AW.iinc6 X (v := _ + 1) dX5_nextOf_75 rfl ?_
          refine AW.goto X (tgt := 19) dX5_nextOf_78 rfl ?_
          rw [nI_1]
          first
            | (have hcf : cnd N (Lig N) (hRow N) s a h q = false := by
                 unfold cnd
                 rw [decide_eq_false (show ¬ isWy N a q from fun z => absurd (z.symm.trans f41) (by decide)), Bool.false_and]
               have hi := hE v7
               rw [pkk_no hcf] at hi
               exact hi)
            | (rcases cnd_drV (s := s) hN hM (show q < nQ N by omega) hh hwy with ⟨z1, z2, v, z3, z4⟩ | ⟨z1, z2⟩
               · have hi := hE (.int (drV N s q h))
                 rcases hmo with ⟨y1, y2⟩ | ⟨v2, j2, y1, y2, y3, y4⟩
                 · rw [y1, z4] at hgt
                   rw [pkk_none z1 y2, ] at hi
                   rw [z2]; rw [z2] at hi; exact hi
                 · rw [y2, z4] at hgt
                   rw [pkk_gt z1 y3 (by rw [y4, ← z2, z4]; exact hgt)] at hi
                   rw [z2]; rw [z2] at hi; exact hi
               · rw [z2] at hgt
                 rcases hmo with ⟨y1, y2⟩ | ⟨v2, j2, y1, y2, y3, y4⟩
                 · rw [y1] at hgt; exact absurd hgt (by decide)
                 · rw [y2] at hgt; exact absurd (Int32.lt_trans hgt (show (-1 : Int32) < 0 by decide)) (nI_pos (by omega)))
            | (rcases cnd_drV (s := s) hN hM (show q < nQ N by omega) hh hwy with ⟨z1, z2, v, z3, z4⟩ | ⟨z1, z2⟩
               · have hi := hE (.int (drV N s q h))
                 rcases hmo with ⟨y1, y2⟩ | ⟨v2, j2, y1, y2, y3, y4⟩
                 · rw [y1, z4] at f61
                   exact absurd (show (-1 : Int32) < nI v from Int32.lt_of_lt_of_le (show (-1 : Int32) < 0 by decide) (nI_pos' (by omega))) f61
                 · rw [y2, z4] at f61
                   rw [pkk_le y3 (by rw [y4, ← z2, z4]; exact f61)] at hi
                   rw [y3]; exact hi
               · have hi := hE (.int (drV N s q h))
                 rw [pkk_no z1] at hi
                 exact hi)
  first | refine AW.aload_n X dX5_nextOf_0 rfl rfl ?_ | refine AW.aloadN_n X dX5_nextOf_0 rfl rfl ?_
  refine AW.iload_n X dX5_nextOf_1 rfl rfl ?_
  refine AW.callV_r X (c_X5_stays hS0 ha) (ci := 18) (q := (RX5, TX5, 74)) (by first | assumption | exact hT _ _ rfl) rfl s_X5_401_18 (by omega) (Nat.le_of_ble_eq_true rfl) rfl rfl (Nat.le_of_ble_eq_true rfl) dX5_nextOf_2 ?_
  refine AW.if_eq X (tgt := 10) dX5_nextOf_5 rfl ?_ ?_
  · intro t5
    have h0 : endK N a = 0 := Decidable.of_not_not (bI_z.mp t5)
    refine AW.iload_n X dX5_nextOf_10 rfl rfl ?_
    refine AW.istore4 X dX5_nextOf_11 ?_
    refine AW.iconst X (v := -1) dX5_nextOf_13 rfl ?_
    refine AW.istore5 X dX5_nextOf_14 ?_
    refine AW.iconst X (v := 0) dX5_nextOf_16 rfl ?_
    refine AW.istore6 X dX5_nextOf_17 ?_
    exact lp h0 (nQ N) 0 _ (by omega)
  · intro f5
    have h0 : ¬ endK N a = 0 := fun z => f5 (bI_z.mpr (fun w => w z))
    rw [if_neg h0] at E
    refine AW.iload_n X dX5_nextOf_8 rfl rfl ?_
    exact AW.ireturn X E ⟨rfl, rfl, rfl, rfl, rfl⟩ dX5_nextOf_9 
/-- where a ship is by hours -/
def SaP (N : KI) (s : Nat) (I : KI) : Prop := ∀ h, h ≤ 24 → I 349 h = atV N s h
theorem c_X5_sailp {s : Nat} (hS : MSp T I R N) (hI : NiP N I) (hs : s < nS N) : MX5_sail 4 0 [.ref 200, .int (nI s)] T I R J (qI (fun r I' => r = none ∧ (∀ a, a ≠ 349 → I' a = I a) ∧ SaP N s I') T R J) noX := by
  have hS0 := hS
  obtain ⟨hT, hR, hV, hN, hM⟩ := hS
  have hns := hN.1.2.2.2.2.2.2.1
  have hnq := hN.1.2.2.2.2.1
  obtain ⟨k1, k2, k3, k4, k5, k6, k7⟩ := hN.2.2.2.1 s hs
  have v314 := congrFun (hV.1 314 (by omega) (by omega)) s
  have v315 := congrFun (hV.1 315 (by omega) (by omega)) s
  have v316 := congrFun (hV.1 316 (by omega) (by omega)) s
  have at0 : ∀ h, h < nat N 316 s → atV N s h = -1 := fun h hh => by
    unfold atV; rw [k5, if_pos (nI_lt hh (by omega))]
  have at1 : ∀ k, nat N 316 s + k ≤ 24 → atV N s (nat N 316 s + k) = nI (pos N (Lig N) (hRow N) s k) := fun k hk => by
    unfold atV posAt; rw [k5, if_neg (nI_nlt (by omega) (by omega)), Nat.add_sub_cancel_left]
  refine AMet.of (by decide) (Nat.le_of_ble_eq_true rfl) (cats1 rfl) fun cx X E => ?_
  show AW _ _ _ (_ :: _ :: _ :: _ :: []) _ _ _ _ _
  have l2 : ∀ j k (I' : KI) v3, nat N 316 s + k + j = 24 → (∀ a, a ≠ 349 → I' a = I a) → (∀ h, h ≤ nat N 316 s + k → I' 349 h = atV N s h) → AW cx 0 51 [.ref 200, .int (nI s), .int (nI (nat N 316 s + k)), v3] [] T I' R J := by
    intro j
    induction j with
    | zero =>
      intro k I' v3 hj hf hl
      refine AW.iload_n X dX5_sail_51 rfl rfl ?_
      refine AW.bipush X (v := 24) dX5_sail_52 rfl ?_
      refine AW.icmp_ge X (tgt := 105) dX5_sail_54 rfl ?_ ?_
      · intro t54
        skip
        refine AW.vreturn X E ?_ dX5_sail_105
        exact ⟨rfl, rfl, rfl, rfl, hf, fun h hh => hl h (by omega)⟩
      · intro f54
        exact absurd (nI_le (a := 24) (by omega) (by omega)) f54
    | succ j ih =>
      intro k I' v3 hj hf hl
      have hS2 : MSp T I' R N := hS0.hi fun a ha _ => hf a (by omega)
      have hI2 : NiP N I' := hI.fr fun a _ _ => hf a (by omega)
      have w314 : I' 314 s = N 314 s := (congrFun (hf 314 (by omega)) s).trans v314
      have hp := pos_lt (L := Lig N) (Hg := hRow N) hN hs k
      have hx1 := nx1_lt (s := s) (h := nat N 316 s + k) hp
      have hnx : pos N (Lig N) (hRow N) s (k + 1) = if N 314 s = 1 then nx1 N s (nx1 N s (pos N (Lig N) (hRow N) s k) (nat N 316 s + k)) (nat N 316 s + k) else nx1 N s (pos N (Lig N) (hRow N) s k) (nat N 316 s + k) := nxt_nx1
      have fin : ∀ z v3, z = pos N (Lig N) (hRow N) s (k + 1) → AW cx 0 98 [.ref 200, .int (nI s), .int (nI (nat N 316 s + k)), v3] [.int (nI z), .int (nI (nat N 316 s + k) + 1), .ref 349] T I' R J := by
        intro z v3 hz
        refine AW.iast X (j := nat N 316 s + k + 1) (by omega) (by first | assumption | exact hT _ _ rfl) (nI_1 _) (by omega) dX5_sail_98 ?_
        refine AW.iinc2 X (v := _ + 1) dX5_sail_99 rfl ?_
        refine AW.goto X (tgt := 51) dX5_sail_102 rfl ?_
        rw [nI_1]
        refine ih (k + 1) _ _ (by omega) (fun a ha => by rw [w2_r ha]; exact hf a ha) (fun h hh => ?_)
        by_cases hx : h = nat N 316 s + k + 1
        · subst hx; rw [w2_s, hz]; exact (at1 (k + 1) (by omega)).symm
        · rw [w2_n2 hx]; exact hl h (by omega)
      refine AW.iload_n X dX5_sail_51 rfl rfl ?_
      refine AW.bipush X (v := 24) dX5_sail_52 rfl ?_
      refine AW.icmp_ge X (tgt := 105) dX5_sail_54 rfl ?_ ?_
      · intro t54
        exact absurd t54 (nI_ge (b := 24) (by omega) (by omega))
      · intro f54
        first | refine AW.aload_n X dX5_sail_57 rfl rfl ?_ | refine AW.aloadN_n X dX5_sail_57 rfl rfl ?_
        refine AW.iload_n X dX5_sail_58 rfl rfl ?_
        first | refine AW.aload_n X dX5_sail_59 rfl rfl ?_ | refine AW.aloadN_n X dX5_sail_59 rfl rfl ?_
        refine AW.getR X f_X5_140_18 (by first | assumption | exact hT _ _ rfl) (by first | assumption | exact hR _ _ _ rfl) dX5_sail_60 ?_
        refine AW.iload_n X dX5_sail_63 rfl rfl ?_
        refine AW.iald X (j := nat N 316 s + k) (by first | assumption | exact hT _ _ rfl) (by repeat (first | with_reducible exact rfl | assumption | exact ix_l _ | apply ix_add | apply ix_mul)) (by omega) dX5_sail_64 ?_
        rw [hl _ (by omega), at1 k (by omega)]
        refine AW.iload_n X dX5_sail_65 rfl rfl ?_
        refine AW.callV_r X (c_X5_nextOf hS2 hI2 hs hp (by omega)) (ci := 18) (q := (RX5, TX5, 74)) (by first | assumption | exact hT _ _ rfl) rfl s_X5_408_18 (by omega) (Nat.le_of_ble_eq_true rfl) rfl rfl (Nat.le_of_ble_eq_true rfl) dX5_sail_66 ?_
        refine AW.istore3 X dX5_sail_69 ?_
        first | refine AW.aload_n X dX5_sail_70 rfl rfl ?_ | refine AW.aloadN_n X dX5_sail_70 rfl rfl ?_
        refine AW.getR X f_X5_140_18 (by first | assumption | exact hT _ _ rfl) (by first | assumption | exact hR _ _ _ rfl) dX5_sail_71 ?_
        refine AW.iload_n X dX5_sail_74 rfl rfl ?_
        refine AW.iconst X (v := 1) dX5_sail_75 rfl ?_
        refine AW.iadd X dX5_sail_76 ?_
        first | refine AW.aload_n X dX5_sail_77 rfl rfl ?_ | refine AW.aloadN_n X dX5_sail_77 rfl rfl ?_
        refine AW.getR X f_X5_76_18 (by first | assumption | exact hT _ _ rfl) (by first | assumption | exact hR _ _ _ rfl) dX5_sail_78 ?_
        refine AW.iload_n X dX5_sail_81 rfl rfl ?_
        refine AW.iald X (j := s) (by first | assumption | exact hT _ _ rfl) (by repeat (first | with_reducible exact rfl | assumption | exact ix_l _ | apply ix_add | apply ix_mul)) (by omega) dX5_sail_82 ?_
        rw [w314]
        refine AW.iconst X (v := 1) dX5_sail_83 rfl ?_
        refine AW.icmp_ne X (tgt := 97) dX5_sail_84 rfl ?_ ?_
        · intro t84
          rw [if_neg t84] at hnx
          refine AW.iload_n X dX5_sail_97 rfl rfl ?_
          exact fin _ _ hnx.symm
        · intro f84
          rw [if_pos f84] at hnx
          first | refine AW.aload_n X dX5_sail_87 rfl rfl ?_ | refine AW.aloadN_n X dX5_sail_87 rfl rfl ?_
          refine AW.iload_n X dX5_sail_88 rfl rfl ?_
          refine AW.iload_n X dX5_sail_89 rfl rfl ?_
          refine AW.iload_n X dX5_sail_90 rfl rfl ?_
          refine AW.callV_r X (c_X5_nextOf hS2 hI2 hs hx1 (by omega)) (ci := 18) (q := (RX5, TX5, 74)) (by first | assumption | exact hT _ _ rfl) rfl s_X5_408_18 (by omega) (Nat.le_of_ble_eq_true rfl) rfl rfl (Nat.le_of_ble_eq_true rfl) dX5_sail_91 ?_
          refine AW.goto X (tgt := 98) dX5_sail_94 rfl ?_
          exact fin _ _ hnx.symm
  have l1 : ∀ j h (I' : KI) v3, h + j = nat N 316 s + 1 → (∀ a, a ≠ 349 → I' a = I a) → (∀ h', h' < h → I' 349 h' = atV N s h') → AW cx 0 2 [.ref 200, .int (nI s), .int (nI h), v3] [] T I' R J := by
    intro j
    induction j with
    | zero =>
      intro h I' v3 hj hf hl
      obtain rfl : h = nat N 316 s + 1 := by omega
      have w316 : I' 316 s = nI (nat N 316 s) := (congrFun (hf 316 (by omega)) s).trans (v316.trans k5)
      refine AW.iload_n X dX5_sail_2 rfl rfl ?_
      first | refine AW.aload_n X dX5_sail_3 rfl rfl ?_ | refine AW.aloadN_n X dX5_sail_3 rfl rfl ?_
      refine AW.getR X f_X5_82_18 (by first | assumption | exact hT _ _ rfl) (by first | assumption | exact hR _ _ _ rfl) dX5_sail_4 ?_
      refine AW.iload_n X dX5_sail_7 rfl rfl ?_
      refine AW.iald X (j := s) (by first | assumption | exact hT _ _ rfl) (by repeat (first | with_reducible exact rfl | assumption | exact ix_l _ | apply ix_add | apply ix_mul)) (by omega) dX5_sail_8 ?_
      rw [w316]
      refine AW.icmp_gt X (tgt := 44) dX5_sail_9 rfl ?_ ?_
      · intro t9
        first | refine AW.aload_n X dX5_sail_44 rfl rfl ?_ | refine AW.aloadN_n X dX5_sail_44 rfl rfl ?_
        refine AW.getR X f_X5_82_18 (by first | assumption | exact hT _ _ rfl) (by first | assumption | exact hR _ _ _ rfl) dX5_sail_45 ?_
        refine AW.iload_n X dX5_sail_48 rfl rfl ?_
        refine AW.iald X (j := s) (by first | assumption | exact hT _ _ rfl) (by repeat (first | with_reducible exact rfl | assumption | exact ix_l _ | apply ix_add | apply ix_mul)) (by omega) dX5_sail_49 ?_
        rw [w316]
        refine AW.istore2 X dX5_sail_50 ?_
        exact l2 (24 - nat N 316 s) 0 I' _ (by omega) hf (fun h hh => hl h (by omega))
      · intro f9
        exact absurd (nI_lt (by omega) (by omega)) f9
    | succ j ih =>
      intro h I' v3 hj hf hl
      have w316 : I' 316 s = nI (nat N 316 s) := (congrFun (hf 316 (by omega)) s).trans (v316.trans k5)
      have w315 : I' 315 s = N 315 s := (congrFun (hf 315 (by omega)) s).trans v315
      have fin : ∀ z, z = atV N s h → AW cx 0 37 [.ref 200, .int (nI s), .int (nI h), v3] [.int z, .int (nI h), .ref 349] T I' R J := by
        intro z hz
        refine AW.iast X (j := h) (by omega) (by first | assumption | exact hT _ _ rfl) (by repeat (first | with_reducible exact rfl | assumption | exact ix_l _ | apply ix_add | apply ix_mul)) (by omega) dX5_sail_37 ?_
        refine AW.iinc2 X (v := _ + 1) dX5_sail_38 rfl ?_
        refine AW.goto X (tgt := 2) dX5_sail_41 rfl ?_
        rw [nI_1]
        refine ih (h + 1) _ _ (by omega) (fun a ha => by rw [w2_r ha]; exact hf a ha) (fun h' hh => ?_)
        by_cases hx : h' = h
        · subst hx; rw [w2_s, hz]
        · rw [w2_n2 hx]; exact hl h' (by omega)
      refine AW.iload_n X dX5_sail_2 rfl rfl ?_
      first | refine AW.aload_n X dX5_sail_3 rfl rfl ?_ | refine AW.aloadN_n X dX5_sail_3 rfl rfl ?_
      refine AW.getR X f_X5_82_18 (by first | assumption | exact hT _ _ rfl) (by first | assumption | exact hR _ _ _ rfl) dX5_sail_4 ?_
      refine AW.iload_n X dX5_sail_7 rfl rfl ?_
      refine AW.iald X (j := s) (by first | assumption | exact hT _ _ rfl) (by repeat (first | with_reducible exact rfl | assumption | exact ix_l _ | apply ix_add | apply ix_mul)) (by omega) dX5_sail_8 ?_
      rw [w316]
      refine AW.icmp_gt X (tgt := 44) dX5_sail_9 rfl ?_ ?_
      · intro t9
        exact absurd t9 (nI_nlt (by omega) (by omega))
      · intro f9
        first | refine AW.aload_n X dX5_sail_12 rfl rfl ?_ | refine AW.aloadN_n X dX5_sail_12 rfl rfl ?_
        refine AW.getR X f_X5_140_18 (by first | assumption | exact hT _ _ rfl) (by first | assumption | exact hR _ _ _ rfl) dX5_sail_13 ?_
        refine AW.iload_n X dX5_sail_16 rfl rfl ?_
        refine AW.iload_n X dX5_sail_17 rfl rfl ?_
        first | refine AW.aload_n X dX5_sail_18 rfl rfl ?_ | refine AW.aloadN_n X dX5_sail_18 rfl rfl ?_
        refine AW.getR X f_X5_82_18 (by first | assumption | exact hT _ _ rfl) (by first | assumption | exact hR _ _ _ rfl) dX5_sail_19 ?_
        refine AW.iload_n X dX5_sail_22 rfl rfl ?_
        refine AW.iald X (j := s) (by first | assumption | exact hT _ _ rfl) (by repeat (first | with_reducible exact rfl | assumption | exact ix_l _ | apply ix_add | apply ix_mul)) (by omega) dX5_sail_23 ?_
        rw [w316]
        refine AW.icmp_ge X (tgt := 31) dX5_sail_24 rfl ?_ ?_
        · intro t24
          have hhe : h = nat N 316 s := by have := (nI_leI (by omega) (by omega)).mp t24; omega
          first | refine AW.aload_n X dX5_sail_31 rfl rfl ?_ | refine AW.aloadN_n X dX5_sail_31 rfl rfl ?_
          refine AW.getR X f_X5_79_18 (by first | assumption | exact hT _ _ rfl) (by first | assumption | exact hR _ _ _ rfl) dX5_sail_32 ?_
          refine AW.iload_n X dX5_sail_35 rfl rfl ?_
          refine AW.iald X (j := s) (by first | assumption | exact hT _ _ rfl) (by repeat (first | with_reducible exact rfl | assumption | exact ix_l _ | apply ix_add | apply ix_mul)) (by omega) dX5_sail_36 ?_
          rw [w315]
          first | exact fin _ (at0 h hhl).symm | exact fin _ (by have := at1 0 (by omega); rw [Nat.add_zero] at this; rw [hhe, this, k3]; rfl)
        · intro f24
          have hhl : h < nat N 316 s := by
            rcases Nat.lt_or_ge h (nat N 316 s) with hz | hz
            · exact hz
            · exact absurd (nI_le hz (by omega)) f24
          refine AW.iconst X (v := -1) dX5_sail_27 rfl ?_
          refine AW.goto X (tgt := 37) dX5_sail_28 rfl ?_
          first | exact fin _ (at0 h hhl).symm | exact fin _ (by have := at1 0 (by omega); rw [Nat.add_zero] at this; rw [hhe, this, k3]; rfl)
  refine AW.iconst X (v := 0) dX5_sail_0 rfl ?_
  refine AW.istore2 X dX5_sail_1 ?_
  exact l1 (nat N 316 s + 1) 0 I _ (by omega) (fun _ _ => rfl) (fun _ h => absurd h (Nat.not_lt_zero _))
theorem endK_kind {N : KI} {q : Nat} : nI (endK N q) = if N 305 q = 3 then 1 else if N 305 q = 2 then 2 else 0 := by
  unfold endK
  by_cases h3 : N 305 q = 3
  · rw [if_pos h3, if_pos h3]; rfl
  · rw [if_neg h3, if_neg h3]
    by_cases h2 : N 305 q = 2
    · rw [if_pos h2, if_pos h2]; rfl
    · rw [if_neg h2, if_neg h2]; rfl
theorem c_X5_endOfp {s : Nat} (hS : MSp T I R N) (hI : NiP N I) (hs : s < nS N) : MX5_endOf 5 0 [.ref 200, .int (nI s)] T I R J (qI (fun r I' => r = some (.int (nI (nEnd N s))) ∧ (∀ a, a ≠ 349 → I' a = I a) ∧ SaP N s I') T R J) noX := by
  have hS0 := hS
  obtain ⟨hT, hR, hV, hN, hM⟩ := hS
  have hnq := hN.1.2.2.2.2.1
  obtain ⟨k1, k2, k3, k4, k5, k6, k7⟩ := hN.2.2.2.1 s hs
  have v305 := hV.1 305 (by omega) (by omega)
  have hp := pos_lt (L := Lig N) (Hg := hRow N) hN hs (24 - nat N 316 s)
  have h24 : atV N s 24 = nI (posAt N (Lig N) (hRow N) s 24) := by
    unfold atV; rw [k5, if_neg (nI_nlt (by omega) (by omega))]
  rw [show nI (nEnd N s) = if N 305 (posAt N (Lig N) (hRow N) s 24) = 3 then 1 else if N 305 (posAt N (Lig N) (hRow N) s 24) = 2 then 2 else 0 from endK_kind]
  refine AMet.of (by decide) (Nat.le_of_ble_eq_true rfl) (cats1 rfl) fun cx X E => ?_
  show AW _ _ _ (_ :: _ :: _ :: []) _ _ _ _ _
  first | refine AW.aload_n X dX5_endOf_0 rfl rfl ?_ | refine AW.aloadN_n X dX5_endOf_0 rfl rfl ?_
  refine AW.iload_n X dX5_endOf_1 rfl rfl ?_
  refine AW.callV_i X (c_X5_sailp hS0 hI hs) (ci := 18) (q := (RX5, TX5, 74)) (by first | assumption | exact hT _ _ rfl) rfl s_X5_411_18 (by omega) (Nat.le_of_ble_eq_true rfl) rfl rfl (Nat.le_of_ble_eq_true rfl) dX5_endOf_2 ?_
  intro r2 I2 h2
  obtain ⟨rfl, hf, hl⟩ := h2
  first | refine AW.aload_n X dX5_endOf_5 rfl rfl ?_ | refine AW.aloadN_n X dX5_endOf_5 rfl rfl ?_
  refine AW.getR X f_X5_49_18 (by first | assumption | exact hT _ _ rfl) (by first | assumption | exact hR _ _ _ rfl) dX5_endOf_6 ?_
  first | refine AW.aload_n X dX5_endOf_9 rfl rfl ?_ | refine AW.aloadN_n X dX5_endOf_9 rfl rfl ?_
  refine AW.getR X f_X5_140_18 (by first | assumption | exact hT _ _ rfl) (by first | assumption | exact hR _ _ _ rfl) dX5_endOf_10 ?_
  refine AW.bipush X (v := 24) dX5_endOf_13 rfl ?_
  refine AW.iald X (j := 24) (by first | assumption | exact hT _ _ rfl) (by repeat (first | with_reducible exact rfl | assumption | exact ix_l _ | apply ix_add | apply ix_mul)) (by omega) dX5_endOf_15 ?_
  rw [hl 24 (Nat.le_refl _), h24]
  refine AW.iald X (j := posAt N (Lig N) (hRow N) s 24) (by first | assumption | exact hT _ _ rfl) (by repeat (first | with_reducible exact rfl | assumption | exact ix_l _ | apply ix_add | apply ix_mul)) (by unfold posAt; omega) dX5_endOf_16 ?_
  rw [hf 305 (by omega), v305]
  refine AW.istore2 X dX5_endOf_17 ?_
  refine AW.iload_n X dX5_endOf_18 rfl rfl ?_
  refine AW.iconst X (v := 3) dX5_endOf_19 rfl ?_
  refine AW.icmp_ne X (tgt := 27) dX5_endOf_20 rfl ?_ ?_
  · intro t20
    rw [if_neg t20] at E
    refine AW.iload_n X dX5_endOf_27 rfl rfl ?_
    refine AW.iconst X (v := 2) dX5_endOf_28 rfl ?_
    refine AW.icmp_ne X (tgt := 36) dX5_endOf_29 rfl ?_ ?_
    · intro t29
      rw [if_neg t29] at E
      refine AW.iconst X (v := 0) dX5_endOf_36 rfl ?_
      refine AW.ireturn X E ?_ dX5_endOf_37 
      exact ⟨rfl, rfl, rfl, rfl, hf, hl⟩
    · intro f29
      rw [if_pos f29] at E
      refine AW.iconst X (v := 2) dX5_endOf_32 rfl ?_
      refine AW.goto X (tgt := 37) dX5_endOf_33 rfl ?_
      refine AW.ireturn X E ?_ dX5_endOf_37 
      exact ⟨rfl, rfl, rfl, rfl, hf, hl⟩
  · intro f20
    rw [if_pos f20] at E
    refine AW.iconst X (v := 1) dX5_endOf_23 rfl ?_
    refine AW.goto X (tgt := 37) dX5_endOf_24 rfl ?_
    refine AW.ireturn X E ?_ dX5_endOf_37 
    exact ⟨rfl, rfl, rfl, rfl, hf, hl⟩
theorem c_X5_sail {s : Nat} (hS : MS T I R N) (hI : NiP N I) (hs : s < nS N) : MX5_sail 4 0 [.ref 200, .int (nI s)] T I R J (qI (fun r I' => r = none ∧ (∀ a, a ≠ 349 → I' a = I a) ∧ SaP N s I') T R J) noX := c_X5_sailp hS.p hI hs
theorem c_X5_endOf {s : Nat} (hS : MS T I R N) (hI : NiP N I) (hs : s < nS N) : MX5_endOf 5 0 [.ref 200, .int (nI s)] T I R J (qI (fun r I' => r = some (.int (nI (nEnd N s))) ∧ (∀ a, a ≠ 349 → I' a = I a) ∧ SaP N s I') T R J) noX := c_X5_endOfp hS.p hI hs
end MQ
