/-! 07k: what throws (steps printed by src/walk.py) -/
set_option maxRecDepth 100000
def noQ : PQt := fun _ _ _ _ _ => False
/-- throws a new one of class ci, at B -/
def qX (ci B : Nat) (T : KT) (I : KI) (R : KR) (J : KJ) : PXt := fun a T' I' R' J' => a = B ∧ T' = row T B (100 + ci, 0) ∧ I' = I ∧ R' = row R B (fun _ => none) ∧ J' = J
theorem okAll {L : List Cond} (h : L.all okW = true) : (∀ w ∈ L, w ∈ lw_tbl ∧ (goodWord w = true ∨ nwOK w = true)) ∧ ∀ w ∈ L, vx_ot w = true :=
  ⟨fun w hw => ⟨(okW_spec (List.all_eq_true.mp h w hw)).1, (okW_spec (List.all_eq_true.mp h w hw)).2.1⟩, fun w hw => (okW_spec (List.all_eq_true.mp h w hw)).2.2⟩
section THR
variable {cx : CxT} {d b pc nL : Nat} {y : MethodName} {cc : ByteArray} {ret : Option FieldType} {hh : List (Nat × Nat × Nat × Nat)} {ls st : List Value} {T : KT} {I : KI} {R : KR} {J : KJ} {Q : PQt}
theorem AX.thru (X : FC cx d y cc nL ret hh) {ci B : Nat} {q : vw_C} {T0 : KT} {I0 : KI} {R0 : KR} {J0 : KJ} (E : EndQ cx Q (qX ci B T0 I0 R0 J0)) (hB : 100 ≤ B) (hq : amCl[ci]? = some q) (hout : ∀ x ∈ tableOf hh, covers x pc = false) : ∀ a T' I' R' J', qX ci B T0 I0 R0 J0 a T' I' R' J' → AX cx b pc ls a T' I' R' J' := by
  rintro a T' I' R' J' ⟨rfl, rfl, rfl, rfl, rfl⟩
  exact AX.out X E hB (row_s _ _ _) hq hout ⟨rfl, rfl, rfl, rfl, rfl⟩
end THR
theorem okThere : (Cond.classLink RX1 54 "java/util/NoSuchElementException" :: Cond.initialized "java/util/NoSuchElementException" :: vx_at0 RX1 56 "java/util/NoSuchElementException" ["java/lang/RuntimeException", "java/lang/Exception"]).all okW = true := by decide +kernel
theorem okRight : (Cond.classLink RX1 51 "java/lang/IllegalArgumentException" :: Cond.initialized "java/lang/IllegalArgumentException" :: vx_at0 RX1 53 "java/lang/IllegalArgumentException" ["java/lang/RuntimeException", "java/lang/Exception"]).all okW = true := by decide +kernel
section THRC
variable {T : KT} {I : KI} {R : KR} {J : KJ} {B : Nat}
theorem c_X1_there_ok {v : Int32} (hv : ¬ v = 0) : MX1_there 7 0 [.int v] T I R J (qR none T I R J) noX := by
  refine AMet.of (by decide) (Nat.le_of_ble_eq_true rfl) (cats1 rfl) fun cx X E => ?_
  show AW _ _ _ (_ :: []) _ _ _ _ _
  refine AW.iload_n X dX1_there_0 rfl rfl ?_
  refine AW.if_ne X (tgt := 12) dX1_there_1 rfl ?_ ?_
  · intro t1
    exact AW.vreturn X E ⟨rfl, rfl, rfl, rfl, rfl⟩ dX1_there_12
  · intro f1
    exact absurd f1 hv
theorem c_X1_there_bad (h1 : 100 ≤ B) (h0 : (T B).1 = 0) : MX1_there 7 2 [.int 0] T I R J noQ (qX 22 B T I R J) := by
  refine AMet.of (by decide) (Nat.le_of_ble_eq_true rfl) (cats1 rfl) fun cx X E => ?_
  show AW _ _ _ (_ :: []) _ _ _ _ _
  refine AW.iload_n X dX1_there_0 rfl rfl ?_
  refine AW.if_ne X (tgt := 12) dX1_there_1 rfl ?_ ?_
  · intro t1
    exact absurd rfl t1
  · intro f1
    refine AW.newX (b := 0) X B 2 (ci := 22) (q := (RJ18, TX0_, 0)) (names := ["java/lang/RuntimeException", "java/lang/Exception"]) h0 h1 rfl rfl (by decide) (by decide +kernel) (by decide +kernel) (by decide) (by decide) (by decide) (okAll okThere).1 (okAll okThere).2 (by decide) dX1_there_4 dX1_there_7 dX1_there_8 ?_
    refine AW.athrow X dX1_there_11 ?_
    exact AX.out X E h1 (row_s _ _ _) rfl (fun _ h => nomatch h) ⟨rfl, rfl, rfl, rfl, rfl⟩
theorem c_X1_right_ok {v : Int32} (hv : ¬ v = 0) : MX1_right 7 0 [.int v] T I R J (qR none T I R J) noX := by
  refine AMet.of (by decide) (Nat.le_of_ble_eq_true rfl) (cats1 rfl) fun cx X E => ?_
  show AW _ _ _ (_ :: []) _ _ _ _ _
  refine AW.iload_n X dX1_right_0 rfl rfl ?_
  refine AW.if_ne X (tgt := 12) dX1_right_1 rfl ?_ ?_
  · intro t1
    exact AW.vreturn X E ⟨rfl, rfl, rfl, rfl, rfl⟩ dX1_right_12
  · intro f1
    exact absurd f1 hv
theorem c_X1_right_bad (h1 : 100 ≤ B) (h0 : (T B).1 = 0) : MX1_right 7 2 [.int 0] T I R J noQ (qX 23 B T I R J) := by
  refine AMet.of (by decide) (Nat.le_of_ble_eq_true rfl) (cats1 rfl) fun cx X E => ?_
  show AW _ _ _ (_ :: []) _ _ _ _ _
  refine AW.iload_n X dX1_right_0 rfl rfl ?_
  refine AW.if_ne X (tgt := 12) dX1_right_1 rfl ?_ ?_
  · intro t1
    exact absurd rfl t1
  · intro f1
    refine AW.newX (b := 0) X B 2 (ci := 23) (q := (RJ6, TX0_, 0)) (names := ["java/lang/RuntimeException", "java/lang/Exception"]) h0 h1 rfl rfl (by decide) (by decide +kernel) (by decide +kernel) (by decide) (by decide) (by decide) (okAll okRight).1 (okAll okRight).2 (by decide) dX1_right_4 dX1_right_7 dX1_right_8 ?_
    refine AW.athrow X dX1_right_11 ?_
    exact AX.out X E h1 (row_s _ _ _) rfl (fun _ h => nomatch h) ⟨rfl, rfl, rfl, rfl, rfl⟩
theorem c_X1_within (v l m : Int32) : MX1_within 0 0 [.int v, .int l, .int m] T I R J (qR (some (.int (bI (l ≤ v ∧ v ≤ m)))) T I R J) noX := by
  refine AMet.of (by decide) (Nat.le_of_ble_eq_true rfl) (cats1 rfl) fun cx X E => ?_
  show AW _ _ _ (_ :: _ :: _ :: []) _ _ _ _ _
  refine AW.iload_n X dX1_within_0 rfl rfl ?_
  refine AW.iload_n X dX1_within_1 rfl rfl ?_
  refine AW.icmp_lt X (tgt := 14) dX1_within_2 rfl ?_ ?_
  · intro t2
    rw [bI_f (fun hc => absurd hc.1 (Int32.not_le.mpr t2))] at E
    refine AW.iconst X (v := 0) dX1_within_14 rfl ?_
    exact AW.ireturn X E ⟨rfl, rfl, rfl, rfl, rfl⟩ dX1_within_15 
  · intro f2
    refine AW.iload_n X dX1_within_5 rfl rfl ?_
    refine AW.iload_n X dX1_within_6 rfl rfl ?_
    refine AW.icmp_gt X (tgt := 14) dX1_within_7 rfl ?_ ?_
    · intro t7
      rw [bI_f (fun hc => absurd hc.2 (Int32.not_le.mpr t7))] at E
      refine AW.iconst X (v := 0) dX1_within_14 rfl ?_
      exact AW.ireturn X E ⟨rfl, rfl, rfl, rfl, rfl⟩ dX1_within_15 
    · intro f7
      rw [bI_t (show l ≤ v ∧ v ≤ m from ⟨Int32.not_lt.mp f2, Int32.not_lt.mp f7⟩)] at E
      refine AW.iconst X (v := 1) dX1_within_10 rfl ?_
      refine AW.goto X (tgt := 15) dX1_within_11 rfl ?_
      exact AW.ireturn X E ⟨rfl, rfl, rfl, rfl, rfl⟩ dX1_within_15 
theorem c_X1_hourAt_ok {h : Int32} (hh : 0 ≤ h ∧ h ≤ 23) : MX1_hourAt 8 0 [.int h] T I R J (qR none T I R J) noX := by
  refine AMet.of (by decide) (Nat.le_of_ble_eq_true rfl) (cats1 rfl) fun cx X E => ?_
  show AW _ _ _ (_ :: []) _ _ _ _ _
  refine AW.iload_n X dX1_hourAt_0 rfl rfl ?_
  refine AW.iconst X (v := 0) dX1_hourAt_1 rfl ?_
  refine AW.bipush X (v := 23) dX1_hourAt_2 rfl ?_
  refine AW.callS_r X (c_X1_within h 0 23) s_X1_57 (by omega) (Nat.le_of_ble_eq_true rfl) rfl rfl (Nat.le_of_ble_eq_true rfl) dX1_hourAt_4 ?_
  refine AW.callS_r X (c_X1_there_ok (by rw [bI_t hh]; decide)) s_X1_61 (by omega) (Nat.le_of_ble_eq_true rfl) rfl rfl (Nat.le_of_ble_eq_true rfl) dX1_hourAt_7 ?_
  exact AW.vreturn X E ⟨rfl, rfl, rfl, rfl, rfl⟩ dX1_hourAt_10
theorem c_X1_hourAt_bad {h : Int32} (h1 : 100 ≤ B) (h0 : (T B).1 = 0) (hh : ¬ (0 ≤ h ∧ h ≤ 23)) : MX1_hourAt 8 2 [.int h] T I R J noQ (qX 22 B T I R J) := by
  refine AMet.of (by decide) (Nat.le_of_ble_eq_true rfl) (cats1 rfl) fun cx X E => ?_
  show AW _ _ _ (_ :: []) _ _ _ _ _
  refine AW.iload_n X dX1_hourAt_0 rfl rfl ?_
  refine AW.iconst X (v := 0) dX1_hourAt_1 rfl ?_
  refine AW.bipush X (v := 23) dX1_hourAt_2 rfl ?_
  refine AW.callS_r X (c_X1_within h 0 23) s_X1_57 (by omega) (Nat.le_of_ble_eq_true rfl) rfl rfl (Nat.le_of_ble_eq_true rfl) dX1_hourAt_4 ?_
  rw [bI_f hh]
  exact AW.callS (b := 0) (bc := 2) X (c_X1_there_bad h1 h0) s_X1_61 (by omega) (Nat.le_of_ble_eq_true rfl) rfl rfl (Nat.le_of_ble_eq_true rfl) dX1_hourAt_7 (fun _ _ _ _ _ h => h.elim) (AX.thru X E (by omega) rfl (fun _ h => nomatch h))
end THRC
