/-! 07c: the kinds of quays, eels, ships (written by src/gen07c.py and src/walk.py) -/
set_option maxRecDepth 100000
def kindF (κ : Nat) : Int32 := nI κ
def ownF (κ : Nat) (v : Int32) : Int32 := if κ = 3 then v else -1
def endF (κ : Nat) : Int32 := if κ = 3 then 1 else if κ = 2 then 2 else 0
def litF (κ : Nat) (h : Int32) : Int32 := if κ = 1 then h - 1 else h
def growF (κ : Nat) : Int32 := if κ = 1 then 2 else 1
def cntF (κ : Nat) (h : Int32) : Int32 := if κ = 2 then h / 2 else h
def glowF (κ : Nat) (br hu co mo : Int32) : Int32 := if κ = 3 ∧ 5 ≤ mo then 0 else mx 0 (br - cntF κ hu - co)
section KIND
variable {T : KT} {I : KI} {R : KR} {J : KJ}
theorem c_X18_kind (a : Nat) : MX18_kind 0 0 [.ref a] T I R J (qR (some (.int (0))) T I R J) noX := by
  refine AMet.of (by decide) (Nat.le_of_ble_eq_true rfl) (cats1 rfl) fun cx X E => ?_
  show AW _ _ _ (_ :: []) _ _ _ _ _
  refine AW.iconst X (v := 0) dX18_kind_0 rfl ?_
  exact AW.ireturn X E ⟨rfl, rfl, rfl, rfl, rfl⟩ dX18_kind_1 
theorem c_X19_kind (a : Nat) : MX19_kind 0 0 [.ref a] T I R J (qR (some (.int (1))) T I R J) noX := by
  refine AMet.of (by decide) (Nat.le_of_ble_eq_true rfl) (cats1 rfl) fun cx X E => ?_
  show AW _ _ _ (_ :: []) _ _ _ _ _
  refine AW.iconst X (v := 1) dX19_kind_0 rfl ?_
  exact AW.ireturn X E ⟨rfl, rfl, rfl, rfl, rfl⟩ dX19_kind_1 
theorem c_X20_kind (a : Nat) : MX20_kind 0 0 [.ref a] T I R J (qR (some (.int (2))) T I R J) noX := by
  refine AMet.of (by decide) (Nat.le_of_ble_eq_true rfl) (cats1 rfl) fun cx X E => ?_
  show AW _ _ _ (_ :: []) _ _ _ _ _
  refine AW.iconst X (v := 2) dX20_kind_0 rfl ?_
  exact AW.ireturn X E ⟨rfl, rfl, rfl, rfl, rfl⟩ dX20_kind_1 
theorem c_X21_kind (a : Nat) : MX21_kind 0 0 [.ref a] T I R J (qR (some (.int (3))) T I R J) noX := by
  refine AMet.of (by decide) (Nat.le_of_ble_eq_true rfl) (cats1 rfl) fun cx X E => ?_
  show AW _ _ _ (_ :: []) _ _ _ _ _
  refine AW.iconst X (v := 3) dX21_kind_0 rfl ?_
  exact AW.ireturn X E ⟨rfl, rfl, rfl, rfl, rfl⟩ dX21_kind_1 
theorem c_X7_kind (a : Nat) : MX7_kind 0 0 [.ref a] T I R J (qR (some (.int (0))) T I R J) noX := by
  refine AMet.of (by decide) (Nat.le_of_ble_eq_true rfl) (cats1 rfl) fun cx X E => ?_
  show AW _ _ _ (_ :: []) _ _ _ _ _
  refine AW.iconst X (v := 0) dX7_kind_0 rfl ?_
  exact AW.ireturn X E ⟨rfl, rfl, rfl, rfl, rfl⟩ dX7_kind_1 
theorem c_X8_kind (a : Nat) : MX8_kind 0 0 [.ref a] T I R J (qR (some (.int (1))) T I R J) noX := by
  refine AMet.of (by decide) (Nat.le_of_ble_eq_true rfl) (cats1 rfl) fun cx X E => ?_
  show AW _ _ _ (_ :: []) _ _ _ _ _
  refine AW.iconst X (v := 1) dX8_kind_0 rfl ?_
  exact AW.ireturn X E ⟨rfl, rfl, rfl, rfl, rfl⟩ dX8_kind_1 
theorem c_X9_kind (a : Nat) : MX9_kind 0 0 [.ref a] T I R J (qR (some (.int (2))) T I R J) noX := by
  refine AMet.of (by decide) (Nat.le_of_ble_eq_true rfl) (cats1 rfl) fun cx X E => ?_
  show AW _ _ _ (_ :: []) _ _ _ _ _
  refine AW.iconst X (v := 2) dX9_kind_0 rfl ?_
  exact AW.ireturn X E ⟨rfl, rfl, rfl, rfl, rfl⟩ dX9_kind_1 
theorem c_X10_kind (a : Nat) : MX10_kind 0 0 [.ref a] T I R J (qR (some (.int (3))) T I R J) noX := by
  refine AMet.of (by decide) (Nat.le_of_ble_eq_true rfl) (cats1 rfl) fun cx X E => ?_
  show AW _ _ _ (_ :: []) _ _ _ _ _
  refine AW.iconst X (v := 3) dX10_kind_0 rfl ?_
  exact AW.ireturn X E ⟨rfl, rfl, rfl, rfl, rfl⟩ dX10_kind_1 
theorem c_X12_kind (a : Nat) : MX12_kind 0 0 [.ref a] T I R J (qR (some (.int (0))) T I R J) noX := by
  refine AMet.of (by decide) (Nat.le_of_ble_eq_true rfl) (cats1 rfl) fun cx X E => ?_
  show AW _ _ _ (_ :: []) _ _ _ _ _
  refine AW.iconst X (v := 0) dX12_kind_0 rfl ?_
  exact AW.ireturn X E ⟨rfl, rfl, rfl, rfl, rfl⟩ dX12_kind_1 
theorem c_X13_kind (a : Nat) : MX13_kind 0 0 [.ref a] T I R J (qR (some (.int (1))) T I R J) noX := by
  refine AMet.of (by decide) (Nat.le_of_ble_eq_true rfl) (cats1 rfl) fun cx X E => ?_
  show AW _ _ _ (_ :: []) _ _ _ _ _
  refine AW.iconst X (v := 1) dX13_kind_0 rfl ?_
  exact AW.ireturn X E ⟨rfl, rfl, rfl, rfl, rfl⟩ dX13_kind_1 
theorem c_X14_kind (a : Nat) : MX14_kind 0 0 [.ref a] T I R J (qR (some (.int (2))) T I R J) noX := by
  refine AMet.of (by decide) (Nat.le_of_ble_eq_true rfl) (cats1 rfl) fun cx X E => ?_
  show AW _ _ _ (_ :: []) _ _ _ _ _
  refine AW.iconst X (v := 2) dX14_kind_0 rfl ?_
  exact AW.ireturn X E ⟨rfl, rfl, rfl, rfl, rfl⟩ dX14_kind_1 
theorem c_X15_kind (a : Nat) : MX15_kind 0 0 [.ref a] T I R J (qR (some (.int (3))) T I R J) noX := by
  refine AMet.of (by decide) (Nat.le_of_ble_eq_true rfl) (cats1 rfl) fun cx X E => ?_
  show AW _ _ _ (_ :: []) _ _ _ _ _
  refine AW.iconst X (v := 3) dX15_kind_0 rfl ?_
  exact AW.ireturn X E ⟨rfl, rfl, rfl, rfl, rfl⟩ dX15_kind_1 
theorem c_X17_owner (a : Nat) : MX17_owner 0 0 [.ref a] T I R J (qR (some (.int (-1))) T I R J) noX := by
  refine AMet.of (by decide) (Nat.le_of_ble_eq_true rfl) (cats1 rfl) fun cx X E => ?_
  show AW _ _ _ (_ :: []) _ _ _ _ _
  refine AW.iconst X (v := -1) dX17_owner_0 rfl ?_
  exact AW.ireturn X E ⟨rfl, rfl, rfl, rfl, rfl⟩ dX17_owner_1 
theorem c_X17_end (a : Nat) : MX17_end 0 0 [.ref a] T I R J (qR (some (.int (0))) T I R J) noX := by
  refine AMet.of (by decide) (Nat.le_of_ble_eq_true rfl) (cats1 rfl) fun cx X E => ?_
  show AW _ _ _ (_ :: []) _ _ _ _ _
  refine AW.iconst X (v := 0) dX17_end_0 rfl ?_
  exact AW.ireturn X E ⟨rfl, rfl, rfl, rfl, rfl⟩ dX17_end_1 
theorem c_X20_end (a : Nat) : MX20_end 0 0 [.ref a] T I R J (qR (some (.int (2))) T I R J) noX := by
  refine AMet.of (by decide) (Nat.le_of_ble_eq_true rfl) (cats1 rfl) fun cx X E => ?_
  show AW _ _ _ (_ :: []) _ _ _ _ _
  refine AW.iconst X (v := 2) dX20_end_0 rfl ?_
  exact AW.ireturn X E ⟨rfl, rfl, rfl, rfl, rfl⟩ dX20_end_1 
theorem c_X21_end (a : Nat) : MX21_end 0 0 [.ref a] T I R J (qR (some (.int (1))) T I R J) noX := by
  refine AMet.of (by decide) (Nat.le_of_ble_eq_true rfl) (cats1 rfl) fun cx X E => ?_
  show AW _ _ _ (_ :: []) _ _ _ _ _
  refine AW.iconst X (v := 1) dX21_end_0 rfl ?_
  exact AW.ireturn X E ⟨rfl, rfl, rfl, rfl, rfl⟩ dX21_end_1 
theorem c_X7_grows (a : Nat) : MX7_grows 0 0 [.ref a] T I R J (qR (some (.int (1))) T I R J) noX := by
  refine AMet.of (by decide) (Nat.le_of_ble_eq_true rfl) (cats1 rfl) fun cx X E => ?_
  show AW _ _ _ (_ :: []) _ _ _ _ _
  refine AW.iconst X (v := 1) dX7_grows_0 rfl ?_
  exact AW.ireturn X E ⟨rfl, rfl, rfl, rfl, rfl⟩ dX7_grows_1 
theorem c_X21_owner {a : Nat} (hT : T a = (108, 0)) : MX21_owner 0 0 [.ref a] T I R J (qR (some (.int (I a 2))) T I R J) noX := by
  refine AMet.of (by decide) (Nat.le_of_ble_eq_true rfl) (cats1 rfl) fun cx X E => ?_
  show AW _ _ _ (_ :: []) _ _ _ _ _
  first | refine AW.aload_n X dX21_owner_0 rfl rfl ?_ | refine AW.aloadN_n X dX21_owner_0 rfl rfl ?_
  refine AW.getI X f_X21_7_8 (by first | assumption | exact hT _ _ rfl) dX21_owner_1 ?_
  exact AW.ireturn X E ⟨rfl, rfl, rfl, rfl, rfl⟩ dX21_owner_4 
theorem c_X17_lit (a : Nat) (x : Int32) : MX17_lit 0 0 [.ref a, .int x] T I R J (qR (some (.int x)) T I R J) noX := by
  refine AMet.of (by decide) (Nat.le_of_ble_eq_true rfl) (cats1 rfl) fun cx X E => ?_
  show AW _ _ _ (_ :: _ :: []) _ _ _ _ _
  refine AW.iload_n X dX17_lit_0 rfl rfl ?_
  exact AW.ireturn X E ⟨rfl, rfl, rfl, rfl, rfl⟩ dX17_lit_1 
theorem c_X19_lit {a : Nat} (hT : T a = (106, 0)) (x : Int32) : MX19_lit 1 0 [.ref a, .int x] T I R J (qR (some (.int (x - 1))) T I R J) noX := by
  refine AMet.of (by decide) (Nat.le_of_ble_eq_true rfl) (cats1 rfl) fun cx X E => ?_
  show AW _ _ _ (_ :: _ :: []) _ _ _ _ _
  first | refine AW.aload_n X dX19_lit_0 rfl rfl ?_ | refine AW.aloadN_n X dX19_lit_0 rfl rfl ?_
  refine AW.iload_n X dX19_lit_1 rfl rfl ?_
  refine AW.callP_r X (c_X17_lit a x) (ci := 6) (q := (RX19, TX19, 2)) (by first | assumption | exact hT _ _ rfl) rfl s_X19_7 (by omega) (Nat.le_of_ble_eq_true rfl) rfl rfl (Nat.le_of_ble_eq_true rfl) dX19_lit_2 ?_
  refine AW.iconst X (v := 1) dX19_lit_5 rfl ?_
  refine AW.isub X dX19_lit_6 ?_
  exact AW.ireturn X E ⟨rfl, rfl, rfl, rfl, rfl⟩ dX19_lit_7 
theorem c_X8_grows {a : Nat} (hT : T a = (110, 0)) : MX8_grows 1 0 [.ref a] T I R J (qR (some (.int 2)) T I R J) noX := by
  refine AMet.of (by decide) (Nat.le_of_ble_eq_true rfl) (cats1 rfl) fun cx X E => ?_
  show AW _ _ _ (_ :: []) _ _ _ _ _
  first | refine AW.aload_n X dX8_grows_0 rfl rfl ?_ | refine AW.aloadN_n X dX8_grows_0 rfl rfl ?_
  refine AW.callP_r X (c_X7_grows a) (ci := 10) (q := (RX8, TX8, 4)) (by first | assumption | exact hT _ _ rfl) rfl s_X8_7 (by omega) (Nat.le_of_ble_eq_true rfl) rfl rfl (Nat.le_of_ble_eq_true rfl) dX8_grows_1 ?_
  refine AW.iconst X (v := 1) dX8_grows_4 rfl ?_
  refine AW.iadd X dX8_grows_5 ?_
  exact AW.ireturn X E ⟨rfl, rfl, rfl, rfl, rfl⟩ dX8_grows_6 
theorem c_X7_counts (a : Nat) (x : Int32) : MX7_counts 0 0 [.ref a, .int x] T I R J (qR (some (.int x)) T I R J) noX := by
  refine AMet.of (by decide) (Nat.le_of_ble_eq_true rfl) (cats1 rfl) fun cx X E => ?_
  show AW _ _ _ (_ :: _ :: []) _ _ _ _ _
  refine AW.iload_n X dX7_counts_0 rfl rfl ?_
  exact AW.ireturn X E ⟨rfl, rfl, rfl, rfl, rfl⟩ dX7_counts_1 
theorem c_X9_counts {a : Nat} (hT : T a = (111, 0)) (x : Int32) : MX9_counts 1 0 [.ref a, .int x] T I R J (qR (some (.int (x / 2))) T I R J) noX := by
  refine AMet.of (by decide) (Nat.le_of_ble_eq_true rfl) (cats1 rfl) fun cx X E => ?_
  show AW _ _ _ (_ :: _ :: []) _ _ _ _ _
  first | refine AW.aload_n X dX9_counts_0 rfl rfl ?_ | refine AW.aloadN_n X dX9_counts_0 rfl rfl ?_
  refine AW.iload_n X dX9_counts_1 rfl rfl ?_
  refine AW.callP_r X (c_X7_counts a x) (ci := 11) (q := (RX9, TX9, 4)) (by first | assumption | exact hT _ _ rfl) rfl s_X9_7 (by omega) (Nat.le_of_ble_eq_true rfl) rfl rfl (Nat.le_of_ble_eq_true rfl) dX9_counts_2 ?_
  refine AW.iconst X (v := 2) dX9_counts_5 rfl ?_
  refine AW.idiv X dX9_counts_6 (by decide) ?_
  exact AW.ireturn X E ⟨rfl, rfl, rfl, rfl, rfl⟩ dX9_counts_7 
end KIND
section KINDV
variable {cx : CxT} {d b pc nL : Nat} {y : MethodName} {cc : ByteArray} {ret : Option FieldType} {hh : List (Nat × Nat × Nat × Nat)} {ls st : List Value} {T : KT} {I : KI} {R : KR} {J : KJ}
theorem v_X7_13 (X : FC cx d y cc nL ret hh) (hy : y.cls = RX7) (hd : 1 < d) {a κ : Nat} {x : Int32} {rest : List Value} (hT : T a = (109 + κ, 0)) (hκ : κ < 4) (hcat : (rest.map fun v => v.category).sum ≤ 8) (dd : decode cc pc = .ok (.invokevirtual 13, 3)) (k : AW cx b (pc + 3) ls (.int (cntF κ x) :: rest) T I R J) : AW cx b pc ls (.int x :: .ref a :: rest) T I R J := by
  match κ, hκ with
  | 0, _ => exact AW.callV_r X (c_X7_counts a x) (ci := 9) (q := (RX7, TX7, 4)) hT rfl (by rw [hy]; exact s_X7_13_9) (by omega) (Nat.le_of_ble_eq_true rfl) rfl rfl hcat dd k
  | 1, _ => exact AW.callU_r X (c_X7_counts a x) (ci := 10) (q := (RX8, TX8, 4)) hT rfl (by rw [hy]; exact s_X7_13_10) (by omega) (Nat.le_of_ble_eq_true rfl) rfl rfl hcat dd k
  | 2, _ => exact AW.callU_r X (c_X9_counts hT x) (ci := 11) (q := (RX9, TX9, 4)) hT rfl (by rw [hy]; exact s_X7_13_11) (by omega) (Nat.le_of_ble_eq_true rfl) rfl rfl hcat dd k
  | 3, _ => exact AW.callU_r X (c_X7_counts a x) (ci := 12) (q := (RX10, TX10, 4)) hT rfl (by rw [hy]; exact s_X7_13_12) (by omega) (Nat.le_of_ble_eq_true rfl) rfl rfl hcat dd k
end KINDV
section KIND2
variable {T : KT} {I : KI} {R : KR} {J : KJ}
theorem c_X7_glow_9 {a : Nat} (hT : T a = (109, 0)) (hu co mo : Int32) : MX7_glow 2 0 [.ref a, .int hu, .int co, .int mo] T I R J (qR (some (.int (mx 0 (I a 2 - cntF 0 hu - co)))) T I R J) noX := by
  refine AMet.of (by decide) (Nat.le_of_ble_eq_true rfl) (cats1 rfl) fun cx X E => ?_
  show AW _ _ _ (_ :: _ :: _ :: _ :: []) _ _ _ _ _
  refine AW.iconst X (v := 0) dX7_glow_0 rfl ?_
  first | refine AW.aload_n X dX7_glow_1 rfl rfl ?_ | refine AW.aloadN_n X dX7_glow_1 rfl rfl ?_
  refine AW.getI X f_X7_7_9 (by first | assumption | exact hT _ _ rfl) dX7_glow_2 ?_
  first | refine AW.aload_n X dX7_glow_5 rfl rfl ?_ | refine AW.aloadN_n X dX7_glow_5 rfl rfl ?_
  refine AW.iload_n X dX7_glow_6 rfl rfl ?_
  refine v_X7_13 X rfl (by omega) (κ := 0) hT (by omega) (Nat.le_of_ble_eq_true rfl) dX7_glow_7 ?_
  refine AW.isub X dX7_glow_10 ?_
  refine AW.iload_n X dX7_glow_11 rfl rfl ?_
  refine AW.isub X dX7_glow_12 ?_
  refine AW.mmax X q730 (by omega) (Nat.le_of_ble_eq_true rfl) dX7_glow_13 ?_
  exact AW.ireturn X E ⟨rfl, rfl, rfl, rfl, rfl⟩ dX7_glow_16 
theorem c_X7_glow_10 {a : Nat} (hT : T a = (110, 0)) (hu co mo : Int32) : MX7_glow 2 0 [.ref a, .int hu, .int co, .int mo] T I R J (qR (some (.int (mx 0 (I a 2 - cntF 1 hu - co)))) T I R J) noX := by
  refine AMet.of (by decide) (Nat.le_of_ble_eq_true rfl) (cats1 rfl) fun cx X E => ?_
  show AW _ _ _ (_ :: _ :: _ :: _ :: []) _ _ _ _ _
  refine AW.iconst X (v := 0) dX7_glow_0 rfl ?_
  first | refine AW.aload_n X dX7_glow_1 rfl rfl ?_ | refine AW.aloadN_n X dX7_glow_1 rfl rfl ?_
  refine AW.getI X f_X7_7_10 (by first | assumption | exact hT _ _ rfl) dX7_glow_2 ?_
  first | refine AW.aload_n X dX7_glow_5 rfl rfl ?_ | refine AW.aloadN_n X dX7_glow_5 rfl rfl ?_
  refine AW.iload_n X dX7_glow_6 rfl rfl ?_
  refine v_X7_13 X rfl (by omega) (κ := 1) hT (by omega) (Nat.le_of_ble_eq_true rfl) dX7_glow_7 ?_
  refine AW.isub X dX7_glow_10 ?_
  refine AW.iload_n X dX7_glow_11 rfl rfl ?_
  refine AW.isub X dX7_glow_12 ?_
  refine AW.mmax X q730 (by omega) (Nat.le_of_ble_eq_true rfl) dX7_glow_13 ?_
  exact AW.ireturn X E ⟨rfl, rfl, rfl, rfl, rfl⟩ dX7_glow_16 
theorem c_X7_glow_11 {a : Nat} (hT : T a = (111, 0)) (hu co mo : Int32) : MX7_glow 2 0 [.ref a, .int hu, .int co, .int mo] T I R J (qR (some (.int (mx 0 (I a 2 - cntF 2 hu - co)))) T I R J) noX := by
  refine AMet.of (by decide) (Nat.le_of_ble_eq_true rfl) (cats1 rfl) fun cx X E => ?_
  show AW _ _ _ (_ :: _ :: _ :: _ :: []) _ _ _ _ _
  refine AW.iconst X (v := 0) dX7_glow_0 rfl ?_
  first | refine AW.aload_n X dX7_glow_1 rfl rfl ?_ | refine AW.aloadN_n X dX7_glow_1 rfl rfl ?_
  refine AW.getI X f_X7_7_11 (by first | assumption | exact hT _ _ rfl) dX7_glow_2 ?_
  first | refine AW.aload_n X dX7_glow_5 rfl rfl ?_ | refine AW.aloadN_n X dX7_glow_5 rfl rfl ?_
  refine AW.iload_n X dX7_glow_6 rfl rfl ?_
  refine v_X7_13 X rfl (by omega) (κ := 2) hT (by omega) (Nat.le_of_ble_eq_true rfl) dX7_glow_7 ?_
  refine AW.isub X dX7_glow_10 ?_
  refine AW.iload_n X dX7_glow_11 rfl rfl ?_
  refine AW.isub X dX7_glow_12 ?_
  refine AW.mmax X q730 (by omega) (Nat.le_of_ble_eq_true rfl) dX7_glow_13 ?_
  exact AW.ireturn X E ⟨rfl, rfl, rfl, rfl, rfl⟩ dX7_glow_16 
theorem c_X7_glow_12 {a : Nat} (hT : T a = (112, 0)) (hu co mo : Int32) : MX7_glow 2 0 [.ref a, .int hu, .int co, .int mo] T I R J (qR (some (.int (mx 0 (I a 2 - cntF 3 hu - co)))) T I R J) noX := by
  refine AMet.of (by decide) (Nat.le_of_ble_eq_true rfl) (cats1 rfl) fun cx X E => ?_
  show AW _ _ _ (_ :: _ :: _ :: _ :: []) _ _ _ _ _
  refine AW.iconst X (v := 0) dX7_glow_0 rfl ?_
  first | refine AW.aload_n X dX7_glow_1 rfl rfl ?_ | refine AW.aloadN_n X dX7_glow_1 rfl rfl ?_
  refine AW.getI X f_X7_7_12 (by first | assumption | exact hT _ _ rfl) dX7_glow_2 ?_
  first | refine AW.aload_n X dX7_glow_5 rfl rfl ?_ | refine AW.aloadN_n X dX7_glow_5 rfl rfl ?_
  refine AW.iload_n X dX7_glow_6 rfl rfl ?_
  refine v_X7_13 X rfl (by omega) (κ := 3) hT (by omega) (Nat.le_of_ble_eq_true rfl) dX7_glow_7 ?_
  refine AW.isub X dX7_glow_10 ?_
  refine AW.iload_n X dX7_glow_11 rfl rfl ?_
  refine AW.isub X dX7_glow_12 ?_
  refine AW.mmax X q730 (by omega) (Nat.le_of_ble_eq_true rfl) dX7_glow_13 ?_
  exact AW.ireturn X E ⟨rfl, rfl, rfl, rfl, rfl⟩ dX7_glow_16 
theorem c_X10_glow {a : Nat} (hT : T a = (112, 0)) (hu co mo : Int32) : MX10_glow 3 0 [.ref a, .int hu, .int co, .int mo] T I R J (qR (some (.int (glowF 3 (I a 2) hu co mo))) T I R J) noX := by
  refine AMet.of (by decide) (Nat.le_of_ble_eq_true rfl) (cats1 rfl) fun cx X E => ?_
  show AW _ _ _ (_ :: _ :: _ :: _ :: []) _ _ _ _ _
  refine AW.iload_n X dX10_glow_0 rfl rfl ?_
  refine AW.iconst X (v := 5) dX10_glow_1 rfl ?_
  refine AW.icmp_lt X (tgt := 9) dX10_glow_2 rfl ?_ ?_
  · intro t2
    rw [show glowF 3 (I a 2) hu co mo = mx 0 (I a 2 - cntF 3 hu - co) from if_neg fun hc => absurd hc.2 (Int32.not_le.mpr t2)] at E
    first | refine AW.aload_n X dX10_glow_9 rfl rfl ?_ | refine AW.aloadN_n X dX10_glow_9 rfl rfl ?_
    refine AW.iload_n X dX10_glow_10 rfl rfl ?_
    refine AW.iload_n X dX10_glow_11 rfl rfl ?_
    refine AW.iload_n X dX10_glow_12 rfl rfl ?_
    refine AW.callP_r X (c_X7_glow_12 hT hu co mo) (ci := 12) (q := (RX10, TX10, 4)) (by first | assumption | exact hT _ _ rfl) rfl s_X10_7 (by omega) (Nat.le_of_ble_eq_true rfl) rfl rfl (Nat.le_of_ble_eq_true rfl) dX10_glow_13 ?_
    exact AW.ireturn X E ⟨rfl, rfl, rfl, rfl, rfl⟩ dX10_glow_16 
  · intro f2
    rw [show glowF 3 (I a 2) hu co mo = 0 from if_pos ⟨rfl, Int32.not_lt.mp f2⟩] at E
    refine AW.iconst X (v := 0) dX10_glow_5 rfl ?_
    refine AW.goto X (tgt := 16) dX10_glow_6 rfl ?_
    exact AW.ireturn X E ⟨rfl, rfl, rfl, rfl, rfl⟩ dX10_glow_16 
end KIND2
section KINDW
variable {cx : CxT} {d b pc nL : Nat} {y : MethodName} {cc : ByteArray} {ret : Option FieldType} {hh : List (Nat × Nat × Nat × Nat)} {ls st : List Value} {T : KT} {I : KI} {R : KR} {J : KJ}
theorem v_X3_102 (X : FC cx d y cc nL ret hh) (hy : y.cls = RX3) (hd : 1 < d) {a κ : Nat} {x : Int32} {rest : List Value} (hT : T a = (105 + κ, 0)) (hκ : κ < 4) (hcat : (rest.map fun v => v.category).sum ≤ 8) (dd : decode cc pc = .ok (.invokevirtual 102, 3)) (k : AW cx b (pc + 3) ls (.int (litF κ x) :: rest) T I R J) : AW cx b pc ls (.int x :: .ref a :: rest) T I R J := by
  match κ, hκ with
  | 0, _ => exact AW.callU_r X (c_X17_lit a x) (ci := 5) (q := (RX18, TX18, 2)) hT rfl (by rw [hy]; exact s_X3_102_5) (by omega) (Nat.le_of_ble_eq_true rfl) rfl rfl hcat dd k
  | 1, _ => exact AW.callU_r X (c_X19_lit hT x) (ci := 6) (q := (RX19, TX19, 2)) hT rfl (by rw [hy]; exact s_X3_102_6) (by omega) (Nat.le_of_ble_eq_true rfl) rfl rfl hcat dd k
  | 2, _ => exact AW.callU_r X (c_X17_lit a x) (ci := 7) (q := (RX20, TX20, 2)) hT rfl (by rw [hy]; exact s_X3_102_7) (by omega) (Nat.le_of_ble_eq_true rfl) rfl rfl hcat dd k
  | 3, _ => exact AW.callU_r X (c_X17_lit a x) (ci := 8) (q := (RX21, TX21, 3)) hT rfl (by rw [hy]; exact s_X3_102_8) (by omega) (Nat.le_of_ble_eq_true rfl) rfl rfl hcat dd k
theorem v_X1_292 (X : FC cx d y cc nL ret hh) (hy : y.cls = RX1) (hd : 1 < d) {a κ : Nat} {x : Int32} {rest : List Value} (hT : T a = (105 + κ, 0)) (hκ : κ < 4) (hcat : (rest.map fun v => v.category).sum ≤ 8) (dd : decode cc pc = .ok (.invokevirtual 292, 3)) (k : AW cx b (pc + 3) ls (.int (litF κ x) :: rest) T I R J) : AW cx b pc ls (.int x :: .ref a :: rest) T I R J := by
  match κ, hκ with
  | 0, _ => exact AW.callU_r X (c_X17_lit a x) (ci := 5) (q := (RX18, TX18, 2)) hT rfl (by rw [hy]; exact s_X1_292_5) (by omega) (Nat.le_of_ble_eq_true rfl) rfl rfl hcat dd k
  | 1, _ => exact AW.callU_r X (c_X19_lit hT x) (ci := 6) (q := (RX19, TX19, 2)) hT rfl (by rw [hy]; exact s_X1_292_6) (by omega) (Nat.le_of_ble_eq_true rfl) rfl rfl hcat dd k
  | 2, _ => exact AW.callU_r X (c_X17_lit a x) (ci := 7) (q := (RX20, TX20, 2)) hT rfl (by rw [hy]; exact s_X1_292_7) (by omega) (Nat.le_of_ble_eq_true rfl) rfl rfl hcat dd k
  | 3, _ => exact AW.callU_r X (c_X17_lit a x) (ci := 8) (q := (RX21, TX21, 3)) hT rfl (by rw [hy]; exact s_X1_292_8) (by omega) (Nat.le_of_ble_eq_true rfl) rfl rfl hcat dd k
theorem v_X3_117 (X : FC cx d y cc nL ret hh) (hy : y.cls = RX3) (hd : 0 < d) {a κ : Nat} {rest : List Value} (hT : T a = (105 + κ, 0)) (hκ : κ < 4) (hcat : (rest.map fun v => v.category).sum ≤ 8) (dd : decode cc pc = .ok (.invokevirtual 117, 3)) (k : AW cx b (pc + 3) ls (.int (endF κ) :: rest) T I R J) : AW cx b pc ls (.ref a :: rest) T I R J := by
  match κ, hκ with
  | 0, _ => exact AW.callU_r X (c_X17_end a) (ci := 5) (q := (RX18, TX18, 2)) hT rfl (by rw [hy]; exact s_X3_117_5) (by omega) (Nat.le_of_ble_eq_true rfl) rfl rfl hcat dd k
  | 1, _ => exact AW.callU_r X (c_X17_end a) (ci := 6) (q := (RX19, TX19, 2)) hT rfl (by rw [hy]; exact s_X3_117_6) (by omega) (Nat.le_of_ble_eq_true rfl) rfl rfl hcat dd k
  | 2, _ => exact AW.callU_r X (c_X20_end a) (ci := 7) (q := (RX20, TX20, 2)) hT rfl (by rw [hy]; exact s_X3_117_7) (by omega) (Nat.le_of_ble_eq_true rfl) rfl rfl hcat dd k
  | 3, _ => exact AW.callU_r X (c_X21_end a) (ci := 8) (q := (RX21, TX21, 3)) hT rfl (by rw [hy]; exact s_X3_117_8) (by omega) (Nat.le_of_ble_eq_true rfl) rfl rfl hcat dd k
theorem v_X13_31 (X : FC cx d y cc nL ret hh) (hy : y.cls = RX13) (hd : 0 < d) {a κ : Nat} {rest : List Value} (hT : T a = (105 + κ, 0)) (hκ : κ < 4) (hcat : (rest.map fun v => v.category).sum ≤ 8) (dd : decode cc pc = .ok (.invokevirtual 31, 3)) (k : AW cx b (pc + 3) ls (.int (endF κ) :: rest) T I R J) : AW cx b pc ls (.ref a :: rest) T I R J := by
  match κ, hκ with
  | 0, _ => exact AW.callU_r X (c_X17_end a) (ci := 5) (q := (RX18, TX18, 2)) hT rfl (by rw [hy]; exact s_X13_31_5) (by omega) (Nat.le_of_ble_eq_true rfl) rfl rfl hcat dd k
  | 1, _ => exact AW.callU_r X (c_X17_end a) (ci := 6) (q := (RX19, TX19, 2)) hT rfl (by rw [hy]; exact s_X13_31_6) (by omega) (Nat.le_of_ble_eq_true rfl) rfl rfl hcat dd k
  | 2, _ => exact AW.callU_r X (c_X20_end a) (ci := 7) (q := (RX20, TX20, 2)) hT rfl (by rw [hy]; exact s_X13_31_7) (by omega) (Nat.le_of_ble_eq_true rfl) rfl rfl hcat dd k
  | 3, _ => exact AW.callU_r X (c_X21_end a) (ci := 8) (q := (RX21, TX21, 3)) hT rfl (by rw [hy]; exact s_X13_31_8) (by omega) (Nat.le_of_ble_eq_true rfl) rfl rfl hcat dd k
theorem v_X1_165 (X : FC cx d y cc nL ret hh) (hy : y.cls = RX1) (hd : 0 < d) {a κ : Nat} {rest : List Value} (hT : T a = (105 + κ, 0)) (hκ : κ < 4) (hcat : (rest.map fun v => v.category).sum ≤ 8) (dd : decode cc pc = .ok (.invokevirtual 165, 3)) (k : AW cx b (pc + 3) ls (.int (kindF κ) :: rest) T I R J) : AW cx b pc ls (.ref a :: rest) T I R J := by
  match κ, hκ with
  | 0, _ => exact AW.callU_r X (c_X18_kind a) (ci := 5) (q := (RX18, TX18, 2)) hT rfl (by rw [hy]; exact s_X1_165_5) (by omega) (Nat.le_of_ble_eq_true rfl) rfl rfl hcat dd k
  | 1, _ => exact AW.callU_r X (c_X19_kind a) (ci := 6) (q := (RX19, TX19, 2)) hT rfl (by rw [hy]; exact s_X1_165_6) (by omega) (Nat.le_of_ble_eq_true rfl) rfl rfl hcat dd k
  | 2, _ => exact AW.callU_r X (c_X20_kind a) (ci := 7) (q := (RX20, TX20, 2)) hT rfl (by rw [hy]; exact s_X1_165_7) (by omega) (Nat.le_of_ble_eq_true rfl) rfl rfl hcat dd k
  | 3, _ => exact AW.callU_r X (c_X21_kind a) (ci := 8) (q := (RX21, TX21, 3)) hT rfl (by rw [hy]; exact s_X1_165_8) (by omega) (Nat.le_of_ble_eq_true rfl) rfl rfl hcat dd k
theorem v_X1_167 (X : FC cx d y cc nL ret hh) (hy : y.cls = RX1) (hd : 0 < d) {a κ : Nat} {rest : List Value} (hT : T a = (105 + κ, 0)) (hκ : κ < 4) (hcat : (rest.map fun v => v.category).sum ≤ 8) (dd : decode cc pc = .ok (.invokevirtual 167, 3)) (k : AW cx b (pc + 3) ls (.int (ownF κ (I a 2)) :: rest) T I R J) : AW cx b pc ls (.ref a :: rest) T I R J := by
  match κ, hκ with
  | 0, _ => exact AW.callU_r X (c_X17_owner a) (ci := 5) (q := (RX18, TX18, 2)) hT rfl (by rw [hy]; exact s_X1_167_5) (by omega) (Nat.le_of_ble_eq_true rfl) rfl rfl hcat dd k
  | 1, _ => exact AW.callU_r X (c_X17_owner a) (ci := 6) (q := (RX19, TX19, 2)) hT rfl (by rw [hy]; exact s_X1_167_6) (by omega) (Nat.le_of_ble_eq_true rfl) rfl rfl hcat dd k
  | 2, _ => exact AW.callU_r X (c_X17_owner a) (ci := 7) (q := (RX20, TX20, 2)) hT rfl (by rw [hy]; exact s_X1_167_7) (by omega) (Nat.le_of_ble_eq_true rfl) rfl rfl hcat dd k
  | 3, _ => exact AW.callU_r X (c_X21_owner hT) (ci := 8) (q := (RX21, TX21, 3)) hT rfl (by rw [hy]; exact s_X1_167_8) (by omega) (Nat.le_of_ble_eq_true rfl) rfl rfl hcat dd k
theorem v_X1_180 (X : FC cx d y cc nL ret hh) (hy : y.cls = RX1) (hd : 0 < d) {a κ : Nat} {rest : List Value} (hT : T a = (109 + κ, 0)) (hκ : κ < 4) (hcat : (rest.map fun v => v.category).sum ≤ 8) (dd : decode cc pc = .ok (.invokevirtual 180, 3)) (k : AW cx b (pc + 3) ls (.int (kindF κ) :: rest) T I R J) : AW cx b pc ls (.ref a :: rest) T I R J := by
  match κ, hκ with
  | 0, _ => exact AW.callV_r X (c_X7_kind a) (ci := 9) (q := (RX7, TX7, 4)) hT rfl (by rw [hy]; exact s_X1_180_9) (by omega) (Nat.le_of_ble_eq_true rfl) rfl rfl hcat dd k
  | 1, _ => exact AW.callU_r X (c_X8_kind a) (ci := 10) (q := (RX8, TX8, 4)) hT rfl (by rw [hy]; exact s_X1_180_10) (by omega) (Nat.le_of_ble_eq_true rfl) rfl rfl hcat dd k
  | 2, _ => exact AW.callU_r X (c_X9_kind a) (ci := 11) (q := (RX9, TX9, 4)) hT rfl (by rw [hy]; exact s_X1_180_11) (by omega) (Nat.le_of_ble_eq_true rfl) rfl rfl hcat dd k
  | 3, _ => exact AW.callU_r X (c_X10_kind a) (ci := 12) (q := (RX10, TX10, 4)) hT rfl (by rw [hy]; exact s_X1_180_12) (by omega) (Nat.le_of_ble_eq_true rfl) rfl rfl hcat dd k
theorem v_X1_193 (X : FC cx d y cc nL ret hh) (hy : y.cls = RX1) (hd : 0 < d) {a κ : Nat} {rest : List Value} (hT : T a = (113 + κ, 0)) (hκ : κ < 4) (hcat : (rest.map fun v => v.category).sum ≤ 8) (dd : decode cc pc = .ok (.invokevirtual 193, 3)) (k : AW cx b (pc + 3) ls (.int (kindF κ) :: rest) T I R J) : AW cx b pc ls (.ref a :: rest) T I R J := by
  match κ, hκ with
  | 0, _ => exact AW.callU_r X (c_X12_kind a) (ci := 13) (q := (RX12, TX12, 3)) hT rfl (by rw [hy]; exact s_X1_193_13) (by omega) (Nat.le_of_ble_eq_true rfl) rfl rfl hcat dd k
  | 1, _ => exact AW.callU_r X (c_X13_kind a) (ci := 14) (q := (RX13, TX13, 3)) hT rfl (by rw [hy]; exact s_X1_193_14) (by omega) (Nat.le_of_ble_eq_true rfl) rfl rfl hcat dd k
  | 2, _ => exact AW.callU_r X (c_X14_kind a) (ci := 15) (q := (RX14, TX14, 3)) hT rfl (by rw [hy]; exact s_X1_193_15) (by omega) (Nat.le_of_ble_eq_true rfl) rfl rfl hcat dd k
  | 3, _ => exact AW.callU_r X (c_X15_kind a) (ci := 16) (q := (RX15, TX15, 3)) hT rfl (by rw [hy]; exact s_X1_193_16) (by omega) (Nat.le_of_ble_eq_true rfl) rfl rfl hcat dd k
theorem v_X1_227 (X : FC cx d y cc nL ret hh) (hy : y.cls = RX1) (hd : 1 < d) {a κ : Nat} {rest : List Value} (hT : T a = (109 + κ, 0)) (hκ : κ < 4) (hcat : (rest.map fun v => v.category).sum ≤ 8) (dd : decode cc pc = .ok (.invokevirtual 227, 3)) (k : AW cx b (pc + 3) ls (.int (growF κ) :: rest) T I R J) : AW cx b pc ls (.ref a :: rest) T I R J := by
  match κ, hκ with
  | 0, _ => exact AW.callV_r X (c_X7_grows a) (ci := 9) (q := (RX7, TX7, 4)) hT rfl (by rw [hy]; exact s_X1_227_9) (by omega) (Nat.le_of_ble_eq_true rfl) rfl rfl hcat dd k
  | 1, _ => exact AW.callU_r X (c_X8_grows hT) (ci := 10) (q := (RX8, TX8, 4)) hT rfl (by rw [hy]; exact s_X1_227_10) (by omega) (Nat.le_of_ble_eq_true rfl) rfl rfl hcat dd k
  | 2, _ => exact AW.callU_r X (c_X7_grows a) (ci := 11) (q := (RX9, TX9, 4)) hT rfl (by rw [hy]; exact s_X1_227_11) (by omega) (Nat.le_of_ble_eq_true rfl) rfl rfl hcat dd k
  | 3, _ => exact AW.callU_r X (c_X7_grows a) (ci := 12) (q := (RX10, TX10, 4)) hT rfl (by rw [hy]; exact s_X1_227_12) (by omega) (Nat.le_of_ble_eq_true rfl) rfl rfl hcat dd k
theorem v_X3_74 (X : FC cx d y cc nL ret hh) (hy : y.cls = RX3) (hd : 1 < d) {a κ : Nat} {rest : List Value} (hT : T a = (109 + κ, 0)) (hκ : κ < 4) (hcat : (rest.map fun v => v.category).sum ≤ 8) (dd : decode cc pc = .ok (.invokevirtual 74, 3)) (k : AW cx b (pc + 3) ls (.int (growF κ) :: rest) T I R J) : AW cx b pc ls (.ref a :: rest) T I R J := by
  match κ, hκ with
  | 0, _ => exact AW.callV_r X (c_X7_grows a) (ci := 9) (q := (RX7, TX7, 4)) hT rfl (by rw [hy]; exact s_X3_74_9) (by omega) (Nat.le_of_ble_eq_true rfl) rfl rfl hcat dd k
  | 1, _ => exact AW.callU_r X (c_X8_grows hT) (ci := 10) (q := (RX8, TX8, 4)) hT rfl (by rw [hy]; exact s_X3_74_10) (by omega) (Nat.le_of_ble_eq_true rfl) rfl rfl hcat dd k
  | 2, _ => exact AW.callU_r X (c_X7_grows a) (ci := 11) (q := (RX9, TX9, 4)) hT rfl (by rw [hy]; exact s_X3_74_11) (by omega) (Nat.le_of_ble_eq_true rfl) rfl rfl hcat dd k
  | 3, _ => exact AW.callU_r X (c_X7_grows a) (ci := 12) (q := (RX10, TX10, 4)) hT rfl (by rw [hy]; exact s_X3_74_12) (by omega) (Nat.le_of_ble_eq_true rfl) rfl rfl hcat dd k
theorem v_X3_71 (X : FC cx d y cc nL ret hh) (hy : y.cls = RX3) (hd : 3 < d) {a κ : Nat} {hu co mo : Int32} {rest : List Value} (hT : T a = (109 + κ, 0)) (hκ : κ < 4) (hcat : (rest.map fun v => v.category).sum ≤ 8) (dd : decode cc pc = .ok (.invokevirtual 71, 3)) (k : AW cx b (pc + 3) ls (.int (glowF κ (I a 2) hu co mo) :: rest) T I R J) : AW cx b pc ls (.int mo :: .int co :: .int hu :: .ref a :: rest) T I R J := by
  match κ, hκ with
  | 0, _ => exact AW.callV_r X (c_X7_glow_9 hT hu co mo) (ci := 9) (q := (RX7, TX7, 4)) hT rfl (by rw [hy]; exact s_X3_71_9) (by omega) (Nat.le_of_ble_eq_true rfl) rfl rfl hcat dd k
  | 1, _ => exact AW.callU_r X (c_X7_glow_10 hT hu co mo) (ci := 10) (q := (RX8, TX8, 4)) hT rfl (by rw [hy]; exact s_X3_71_10) (by omega) (Nat.le_of_ble_eq_true rfl) rfl rfl hcat dd k
  | 2, _ => exact AW.callU_r X (c_X7_glow_11 hT hu co mo) (ci := 11) (q := (RX9, TX9, 4)) hT rfl (by rw [hy]; exact s_X3_71_11) (by omega) (Nat.le_of_ble_eq_true rfl) rfl rfl hcat dd k
  | 3, _ => exact AW.callU_r X (c_X10_glow hT hu co mo) (ci := 12) (q := (RX10, TX10, 4)) hT rfl (by rw [hy]; exact s_X3_71_12) (by omega) (Nat.le_of_ble_eq_true rfl) rfl rfl hcat dd k
end KINDW
