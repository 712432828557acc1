/-! 07b: leaves of the JDK: reads of a list, index checks (steps printed by src/walk.py) -/
set_option maxRecDepth 100000
theorem c_J14_checkIndex {T : KT} {I : KI} {R : KR} {J : KJ} {k n : Nat} (v : Value) (hv : v = .null ∨ v = .ref 4) (hk : k < n) (hn : n < 2 ^ 31) : MJ14_checkIndex 0 0 [.int (nI k), .int (nI n), v] T I R J (qR (some (.int (nI k))) T I R J) noX := by
  have hc : v.category = 1 := by rcases hv with rfl | rfl <;> rfl
  refine AMet.of (by decide) (Nat.le_of_ble_eq_true rfl) (by intro w hw; simp only [List.mem_cons, List.not_mem_nil, or_false] at hw; rcases hw with rfl | rfl | rfl <;> first | rfl | exact hc) fun cx X E => ?_
  show AW _ _ _ (_ :: _ :: _ :: []) _ _ _ _ _
  refine AW.iload_n X dJ14_checkIndex_0 rfl rfl ?_
  refine AW.if_lt X (tgt := 9) dJ14_checkIndex_1 rfl ?_ ?_
  · intro t1
    exact absurd t1 (nI_pos (by omega))
  · intro f1
    refine AW.iload_n X dJ14_checkIndex_4 rfl rfl ?_
    refine AW.iload_n X dJ14_checkIndex_5 rfl rfl ?_
    refine AW.icmp_lt X (tgt := 16) dJ14_checkIndex_6 rfl ?_ ?_
    · intro t6
      refine AW.iload_n X dJ14_checkIndex_16 rfl rfl ?_
      exact AW.ireturn X E ⟨rfl, rfl, rfl, rfl, rfl⟩ dJ14_checkIndex_17 
    · intro f6
      exact absurd (nI_lt hk hn) f6
theorem c_J17_checkIndex {T : KT} {I : KI} {R : KR} {J : KJ} {k n : Nat} (hk : k < n) (hn : n < 2 ^ 31) : MJ17_checkIndex 1 0 [.int (nI k), .int (nI n)] T I R J (qR (some (.int (nI k))) T I R J) noX := by
  refine AMet.of (by decide) (Nat.le_of_ble_eq_true rfl) (cats1 rfl) fun cx X E => ?_
  show AW _ _ _ (_ :: _ :: []) _ _ _ _ _
  refine AW.iload_n X dJ17_checkIndex_0 rfl rfl ?_
  refine AW.iload_n X dJ17_checkIndex_1 rfl rfl ?_
  refine AW.aconst_null X dJ17_checkIndex_2 ?_
  refine AW.callS_r X (c_J14_checkIndex .null (Or.inl rfl) hk hn) s_J17_105 (by omega) (Nat.le_of_ble_eq_true rfl) rfl rfl (Nat.le_of_ble_eq_true rfl) dJ17_checkIndex_3 ?_
  exact AW.ireturn X E ⟨rfl, rfl, rfl, rfl, rfl⟩ dJ17_checkIndex_6 
theorem c_J2_size {T : KT} {I : KI} {R : KR} {J : KJ} {a n : Nat} (hT : T a = (119, 0)) (hn : I a 2 = nI n) : MJ2_size 0 0 [.ref a] T I R J (qR (some (.int (nI n))) T I R J) noX := by
  rw [← hn]
  refine AMet.of (by decide) (Nat.le_of_ble_eq_true rfl) (cats1 rfl) fun cx X E => ?_
  show AW _ _ _ (_ :: []) _ _ _ _ _
  first | refine AW.aload_n X dJ2_size_0 rfl rfl ?_ | refine AW.aloadN_n X dJ2_size_0 rfl rfl ?_
  refine AW.getI X f_J2_48_19 (by first | assumption | exact hT _ _ rfl) dJ2_size_1 ?_
  exact AW.ireturn X E ⟨rfl, rfl, rfl, rfl, rfl⟩ dJ2_size_4 
theorem c_J2_elementData {T : KT} {I : KI} {R : KR} {J : KJ} {a ar k cap r : Nat} (hT : T a = (119, 0)) (h1 : R a 1 = some ar) (h2 : T ar = (10, cap)) (hk : k < cap) (h3 : R ar k = some r) : MJ2_elementData 0 0 [.ref a, .int (nI k)] T I R J (qR (some (.ref r)) T I R J) noX := by
  refine AMet.of (by decide) (Nat.le_of_ble_eq_true rfl) (cats1 rfl) fun cx X E => ?_
  show AW _ _ _ (_ :: _ :: []) _ _ _ _ _
  first | refine AW.aload_n X dJ2_elementData_0 rfl rfl ?_ | refine AW.aloadN_n X dJ2_elementData_0 rfl rfl ?_
  refine AW.getR X f_J2_9_19 (by first | assumption | exact hT _ _ rfl) (by first | assumption | exact hR _ _ _ rfl) dJ2_elementData_1 ?_
  refine AW.iload_n X dJ2_elementData_4 rfl rfl ?_
  refine AW.aald X (by first | assumption | exact hT _ _ rfl) rfl (by repeat (first | with_reducible exact rfl | assumption | exact ix_l _ | apply ix_add | apply ix_mul)) (by omega) (by first | assumption | exact hR _ _ _ rfl) dJ2_elementData_5 ?_
  first | exact AW.areturn X E ⟨rfl, rfl, rfl, rfl, rfl⟩ dJ2_elementData_6 | exact AW.areturnA X E ⟨rfl, rfl, rfl, rfl, rfl⟩ dJ2_elementData_6 | exact AW.areturnN X E ⟨rfl, rfl, rfl, rfl, rfl⟩ dJ2_elementData_6
theorem c_J2_get {T : KT} {I : KI} {R : KR} {J : KJ} {a ar k n cap r : Nat} (hT : T a = (119, 0)) (h1 : R a 1 = some ar) (h2 : T ar = (10, cap)) (hn : I a 2 = nI n) (hk : k < n) (hn2 : n ≤ cap) (hn3 : n < 2 ^ 31) (h3 : R ar k = some r) : MJ2_get 2 0 [.ref a, .int (nI k)] T I R J (qR (some (.ref r)) T I R J) noX := by
  refine AMet.of (by decide) (Nat.le_of_ble_eq_true rfl) (cats1 rfl) fun cx X E => ?_
  show AW _ _ _ (_ :: _ :: []) _ _ _ _ _
  refine AW.iload_n X dJ2_get_0 rfl rfl ?_
  first | refine AW.aload_n X dJ2_get_1 rfl rfl ?_ | refine AW.aloadN_n X dJ2_get_1 rfl rfl ?_
  refine AW.getI X f_J2_48_19 (by first | assumption | exact hT _ _ rfl) dJ2_get_2 ?_
  rw [hn]
  refine AW.callS_r X (c_J17_checkIndex hk hn3) s_J2_118 (by omega) (Nat.le_of_ble_eq_true rfl) rfl rfl (Nat.le_of_ble_eq_true rfl) dJ2_get_5 ?_
  refine AW.pop X dJ2_get_8 rfl ?_
  first | refine AW.aload_n X dJ2_get_9 rfl rfl ?_ | refine AW.aloadN_n X dJ2_get_9 rfl rfl ?_
  refine AW.iload_n X dJ2_get_10 rfl rfl ?_
  refine AW.callV_r X (c_J2_elementData hT h1 h2 (by omega) h3) (ci := 19) (q := (RJ2, TJ2, 3)) (by first | assumption | exact hT _ _ rfl) rfl s_J2_123_19 (by omega) (Nat.le_of_ble_eq_true rfl) rfl rfl (Nat.le_of_ble_eq_true rfl) dJ2_get_11 ?_
  first | exact AW.areturn X E ⟨rfl, rfl, rfl, rfl, rfl⟩ dJ2_get_14 | exact AW.areturnA X E ⟨rfl, rfl, rfl, rfl, rfl⟩ dJ2_get_14 | exact AW.areturnN X E ⟨rfl, rfl, rfl, rfl, rfl⟩ dJ2_get_14
