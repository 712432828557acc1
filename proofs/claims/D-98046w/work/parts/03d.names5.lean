/-! EelPortModel -/
set_option maxRecDepth 100000
def RX5 : String := "EelPortModel"
def TX5 : u_T := fun k => match k with
  | 0 => ("EelPortModel", "quayKinds", "[Ljava/lang/String;", true)
  | 1 => ("EelPortModel", "eelKinds", "[Ljava/lang/String;", true)
  | 2 => ("EelPortModel", "shipKinds", "[Ljava/lang/String;", true)
  | 3 => ("EelPortModel", "code", "I", false)
  | 4 => ("EelPortModel", "told", "[I", true)
  | 5 => ("EelPortModel", "quayKind", "[I", true)
  | 6 => ("EelPortModel", "quayOwner", "[I", true)
  | 7 => ("EelPortModel", "salt", "[I", true)
  | 8 => ("EelPortModel", "ways", "[I", true)
  | 9 => ("EelPortModel", "eelKind", "[I", true)
  | 10 => ("EelPortModel", "eelOwner", "[I", true)
  | 11 => ("EelPortModel", "eelQuay", "[I", true)
  | 12 => ("EelPortModel", "glare", "[I", true)
  | 13 => ("EelPortModel", "hungry", "[I", true)
  | 14 => ("EelPortModel", "shipKind", "[I", true)
  | 15 => ("EelPortModel", "shipQuay", "[I", true)
  | 16 => ("EelPortModel", "shipHour", "[I", true)
  | 17 => ("EelPortModel", "sees", "[I", true)
  | 18 => ("EelPortModel", "moon", "[I", true)
  | 19 => ("EelPortModel", "weight", "[I", true)
  | 20 => ("EelPortModel", "hooded", "[I", true)
  | 21 => ("EelPortModel", "hoodFrom", "[I", true)
  | 22 => ("EelPortModel", "hoodTo", "[I", true)
  | 23 => ("EelPortModel", "status", "[I", true)
  | 24 => ("EelPortModel", "tape", "[I", true)
  | 25 => ("EelPortModel", "taped", "I", false)
  | 26 => ("EelPortModel", "at", "I", false)
  | 27 => ("EelPortModel", "size", "I", false)
  | 28 => ("EelPortModel", "token", "I", false)
  | 29 => ("EelPortModel", "number", "I", false)
  | 30 => ("EelPortModel", "begins", "I", false)
  | 31 => ("EelPortModel", "ends", "I", false)
  | 32 => ("EelPortModel", "bad", "I", false)
  | 33 => ("EelPortModel", "badPlace", "I", false)
  | 34 => ("EelPortModel", "faultPlace", "I", false)
  | 35 => ("EelPortModel", "moons", "I", false)
  | 36 => ("EelPortModel", "colds", "I", false)
  | 37 => ("EelPortModel", "mealEel", "[I", true)
  | 38 => ("EelPortModel", "mealHour", "[I", true)
  | 39 => ("EelPortModel", "mealSort", "[I", true)
  | 40 => ("EelPortModel", "hunger", "[I", true)
  | 41 => ("EelPortModel", "glow", "[I", true)
  | 42 => ("EelPortModel", "led", "[I", true)
  | 43 => ("EelPortModel", "light", "[I", true)
  | 44 => ("EelPortModel", "meals", "I", false)
  | 45 => ("EelPortModel", "cold", "I", false)
  | 46 => ("EelPortModel", "shones", "I", false)
  | 47 => ("EelPortModel", "firstMeal", "[I", true)
  | 48 => ("EelPortModel", "nextMeal", "[I", true)
  | 49 => ("EelPortModel", "where", "[I", true)
  | 50 => ("EelPortModel", "rowTry", "[I", true)
  | 51 => ("EelPortModel", "rowBest", "[I", true)
  | 52 => ("EelPortModel", "planKept", "[I", true)
  | 53 => ("EelPortModel", "planMany", "I", false)
  | 54 => ("EelPortModel", "best", "I", false)
  | 55 => ("EelPortModel", "mealsGiven", "I", false)
  | 56 => ("EelPortModel", "gains", "[I", true)
  | 57 => ("EelPortModel", "shoneQuay", "[I", true)
  | 58 => ("EelPortModel", "shoneHour", "[I", true)
  | 59 => ("EelPortModel", "shoneLight", "[I", true)
  | 60 => ("EelPortModel", "placeThen", "[I", true)
  | 61 => ("EelPortModel", "mayBe", "[I", true)
  | 62 => ("EelPortModel", "cases", "I", false)
  | 63 => ("EelPortModel", "hasImage", "Z", false)
  | 64 => ("EelPortModel", "mealsThen", "I", false)
  | 65 => ("EelPortModel", "coldThen", "I", false)
  | 66 => ("EelPortModel", "shonesThen", "I", false)
  | 67 => ("EelPortModel", "mealEelThen", "[I", true)
  | 68 => ("EelPortModel", "mealHourThen", "[I", true)
  | 69 => ("EelPortModel", "mealSortThen", "[I", true)
  | 70 => ("EelPortModel", "shoneQuayThen", "[I", true)
  | 71 => ("EelPortModel", "shoneHourThen", "[I", true)
  | 72 => ("EelPortModel", "shoneLightThen", "[I", true)
  | _ => ("EelPortModel", "statusThen", "[I", true)
def tyX5 : Nat → FieldType := fun k => match k with
  | 0 => .array (.object "java/lang/String")
  | 1 => .array (.object "java/lang/String")
  | 2 => .array (.object "java/lang/String")
  | 3 => .int
  | 4 => .array .int
  | 5 => .array .int
  | 6 => .array .int
  | 7 => .array .int
  | 8 => .array .int
  | 9 => .array .int
  | 10 => .array .int
  | 11 => .array .int
  | 12 => .array .int
  | 13 => .array .int
  | 14 => .array .int
  | 15 => .array .int
  | 16 => .array .int
  | 17 => .array .int
  | 18 => .array .int
  | 19 => .array .int
  | 20 => .array .int
  | 21 => .array .int
  | 22 => .array .int
  | 23 => .array .int
  | 24 => .array .int
  | 25 => .int
  | 26 => .int
  | 27 => .int
  | 28 => .int
  | 29 => .int
  | 30 => .int
  | 31 => .int
  | 32 => .int
  | 33 => .int
  | 34 => .int
  | 35 => .int
  | 36 => .int
  | 37 => .array .int
  | 38 => .array .int
  | 39 => .array .int
  | 40 => .array .int
  | 41 => .array .int
  | 42 => .array .int
  | 43 => .array .int
  | 44 => .int
  | 45 => .int
  | 46 => .int
  | 47 => .array .int
  | 48 => .array .int
  | 49 => .array .int
  | 50 => .array .int
  | 51 => .array .int
  | 52 => .array .int
  | 53 => .int
  | 54 => .int
  | 55 => .int
  | 56 => .array .int
  | 57 => .array .int
  | 58 => .array .int
  | 59 => .array .int
  | 60 => .array .int
  | 61 => .array .int
  | 62 => .int
  | 63 => .boolean
  | 64 => .int
  | 65 => .int
  | 66 => .int
  | 67 => .array .int
  | 68 => .array .int
  | 69 => .array .int
  | 70 => .array .int
  | 71 => .array .int
  | 72 => .array .int
  | _ => .array .int
abbrev wsX50 : List Cond := u_ws RX5 TX5 74
set_option maxRecDepth 100000 in
theorem nmX5 : ∀ a, a < 74 → ∀ b, b < 74 → a ≠ b → (TX5 a).2.1 ≠ (TX5 b).2.1 := by decide +kernel
set_option maxRecDepth 100000 in
theorem tyX5_ok : ∀ k, k < 74 → parseFieldDescriptor (TX5 k).2.2.1 = some (tyX5 k) := by decide +kernel
abbrev cX5_init : ByteArray := prog_23_method_1_code
def yX5_init : MethodName := ⟨RX5, "<init>", "()V"⟩
def dkwX5_init_22 : List UInt8 := [6, 188, 10, 181, 0, 191, 42, 180, 0, 91, 3, 4, 79, 177]
abbrev dktX5_init_22 : List UInt8 := dkwX5_init_22 ++ []
def dkwX5_init_21 : List UInt8 := [16, 12, 188, 10, 181, 0, 182, 42, 16, 12, 188, 10, 181, 0, 185, 42, 16, 12, 188, 10, 181, 0, 188, 42]
abbrev dktX5_init_21 : List UInt8 := dkwX5_init_21 ++ dktX5_init_22
def dkwX5_init_20 : List UInt8 := [16, 52, 188, 10, 181, 0, 173, 42, 16, 52, 188, 10, 181, 0, 176, 42, 16, 52, 188, 10, 181, 0, 179, 42]
abbrev dktX5_init_20 : List UInt8 := dkwX5_init_20 ++ dktX5_init_21
def dkwX5_init_19 : List UInt8 := [16, 12, 188, 10, 181, 0, 164, 42, 16, 6, 188, 10, 181, 0, 167, 42, 16, 6, 188, 10, 181, 0, 170, 42]
abbrev dktX5_init_19 : List UInt8 := dkwX5_init_19 ++ dktX5_init_20
def dkwX5_init_18 : List UInt8 := [16, 98, 188, 10, 181, 0, 155, 42, 16, 12, 188, 10, 181, 0, 158, 42, 16, 12, 188, 10, 181, 0, 161, 42]
abbrev dktX5_init_18 : List UInt8 := dkwX5_init_18 ++ dktX5_init_19
def dkwX5_init_17 : List UInt8 := [181, 0, 143, 42, 16, 6, 188, 10, 181, 0, 146, 42, 7, 188, 10, 181, 0, 149, 42, 2, 181, 0, 152, 42]
abbrev dktX5_init_17 : List UInt8 := dkwX5_init_17 ++ dktX5_init_18
def dkwX5_init_16 : List UInt8 := [181, 0, 134, 42, 16, 52, 188, 10, 181, 0, 137, 42, 16, 25, 188, 10, 181, 0, 140, 42, 16, 6, 188, 10]
abbrev dktX5_init_16 : List UInt8 := dkwX5_init_16 ++ dktX5_init_17
def dkwX5_init_15 : List UInt8 := [17, 0, 144, 188, 10, 181, 0, 128, 42, 17, 0, 192, 188, 10, 181, 0, 131, 42, 16, 24, 188, 10]
abbrev dktX5_init_15 : List UInt8 := dkwX5_init_15 ++ dktX5_init_16
def dkwX5_init_14 : List UInt8 := [188, 10, 181, 0, 119, 42, 17, 0, 144, 188, 10, 181, 0, 122, 42, 17, 0, 144, 188, 10, 181, 0, 125, 42]
abbrev dktX5_init_14 : List UInt8 := dkwX5_init_14 ++ dktX5_init_15
def dkwX5_init_13 : List UInt8 := [2, 181, 0, 109, 42, 16, 52, 188, 10, 181, 0, 113, 42, 16, 52, 188, 10, 181, 0, 116, 42, 16, 52]
abbrev dktX5_init_13 : List UInt8 := dkwX5_init_13 ++ dktX5_init_14
def dkwX5_init_12 : List UInt8 := [16, 12, 188, 10, 181, 0, 100, 42, 6, 188, 10, 181, 0, 103, 42, 17, 2, 188, 188, 10, 181, 0, 106, 42]
abbrev dktX5_init_12 : List UInt8 := dkwX5_init_12 ++ dktX5_init_13
def dkwX5_init_11 : List UInt8 := [16, 20, 188, 10, 181, 0, 91, 42, 16, 12, 188, 10, 181, 0, 94, 42, 16, 12, 188, 10, 181, 0, 97, 42]
abbrev dktX5_init_11 : List UInt8 := dkwX5_init_11 ++ dktX5_init_12
def dkwX5_init_10 : List UInt8 := [16, 8, 188, 10, 181, 0, 82, 42, 16, 8, 188, 10, 181, 0, 85, 42, 16, 48, 188, 10, 181, 0, 88, 42]
abbrev dktX5_init_10 : List UInt8 := dkwX5_init_10 ++ dktX5_init_11
def dkwX5_init_9 : List UInt8 := [16, 12, 188, 10, 181, 0, 73, 42, 16, 8, 188, 10, 181, 0, 76, 42, 16, 8, 188, 10, 181, 0, 79, 42]
abbrev dktX5_init_9 : List UInt8 := dkwX5_init_9 ++ dktX5_init_10
def dkwX5_init_8 : List UInt8 := [16, 12, 188, 10, 181, 0, 64, 42, 16, 12, 188, 10, 181, 0, 67, 42, 16, 12, 188, 10, 181, 0, 70, 42]
abbrev dktX5_init_8 : List UInt8 := dkwX5_init_8 ++ dktX5_init_9
def dkwX5_init_7 : List UInt8 := [16, 16, 188, 10, 181, 0, 55, 42, 16, 16, 188, 10, 181, 0, 58, 42, 16, 12, 188, 10, 181, 0, 61, 42]
abbrev dktX5_init_7 : List UInt8 := dkwX5_init_7 ++ dktX5_init_8
def dkwX5_init_6 : List UInt8 := [16, 11, 4, 79, 181, 0, 45, 42, 16, 16, 188, 10, 181, 0, 49, 42, 16, 16, 188, 10, 181, 0, 52, 42]
abbrev dktX5_init_6 : List UInt8 := dkwX5_init_6 ++ dktX5_init_7
def dkwX5_init_5 : List UInt8 := [3, 79, 89, 16, 7, 3, 79, 89, 16, 8, 3, 79, 89, 16, 9, 3, 79, 89, 16, 10, 6, 79, 89]
abbrev dktX5_init_5 : List UInt8 := dkwX5_init_5 ++ dktX5_init_6
def dkwX5_init_4 : List UInt8 := [79, 89, 4, 3, 79, 89, 5, 3, 79, 89, 6, 3, 79, 89, 7, 6, 79, 89, 8, 4, 79, 89, 16, 6]
abbrev dktX5_init_4 : List UInt8 := dkwX5_init_4 ++ dktX5_init_5
def dkwX5_init_3 : List UInt8 := [18, 36, 83, 89, 5, 18, 38, 83, 89, 6, 18, 40, 83, 181, 0, 42, 42, 16, 12, 188, 10, 89, 3, 3]
abbrev dktX5_init_3 : List UInt8 := dkwX5_init_3 ++ dktX5_init_4
def dkwX5_init_2 : List UInt8 := [5, 18, 27, 83, 89, 6, 18, 29, 83, 181, 0, 31, 42, 7, 189, 0, 9, 89, 3, 18, 34, 83, 89, 4]
abbrev dktX5_init_2 : List UInt8 := dkwX5_init_2 ++ dktX5_init_3
def dkwX5_init_1 : List UInt8 := [89, 6, 18, 17, 83, 181, 0, 19, 42, 7, 189, 0, 9, 89, 3, 18, 23, 83, 89, 4, 18, 25, 83, 89]
abbrev dktX5_init_1 : List UInt8 := dkwX5_init_1 ++ dktX5_init_2
def dkwX5_init_0 : List UInt8 := [42, 183, 0, 3, 42, 7, 189, 0, 9, 89, 3, 18, 11, 83, 89, 4, 18, 13, 83, 89, 5, 18, 15, 83]
abbrev dktX5_init_0 : List UInt8 := dkwX5_init_0 ++ dktX5_init_1
theorem dksX5_init_0 : cX5_init.data.toList.drop 0 = dktX5_init_0 := by decide +kernel
theorem dksX5_init_1 : cX5_init.data.toList.drop 24 = dktX5_init_1 := dk_seg dksX5_init_0 24 rfl rfl
theorem dksX5_init_2 : cX5_init.data.toList.drop 48 = dktX5_init_2 := dk_seg dksX5_init_1 24 rfl rfl
theorem dksX5_init_3 : cX5_init.data.toList.drop 72 = dktX5_init_3 := dk_seg dksX5_init_2 24 rfl rfl
theorem dksX5_init_4 : cX5_init.data.toList.drop 96 = dktX5_init_4 := dk_seg dksX5_init_3 24 rfl rfl
theorem dksX5_init_5 : cX5_init.data.toList.drop 120 = dktX5_init_5 := dk_seg dksX5_init_4 24 rfl rfl
theorem dksX5_init_6 : cX5_init.data.toList.drop 143 = dktX5_init_6 := dk_seg dksX5_init_5 23 rfl rfl
theorem dksX5_init_7 : cX5_init.data.toList.drop 167 = dktX5_init_7 := dk_seg dksX5_init_6 24 rfl rfl
theorem dksX5_init_8 : cX5_init.data.toList.drop 191 = dktX5_init_8 := dk_seg dksX5_init_7 24 rfl rfl
theorem dksX5_init_9 : cX5_init.data.toList.drop 215 = dktX5_init_9 := dk_seg dksX5_init_8 24 rfl rfl
theorem dksX5_init_10 : cX5_init.data.toList.drop 239 = dktX5_init_10 := dk_seg dksX5_init_9 24 rfl rfl
theorem dksX5_init_11 : cX5_init.data.toList.drop 263 = dktX5_init_11 := dk_seg dksX5_init_10 24 rfl rfl
theorem dksX5_init_12 : cX5_init.data.toList.drop 287 = dktX5_init_12 := dk_seg dksX5_init_11 24 rfl rfl
theorem dksX5_init_13 : cX5_init.data.toList.drop 311 = dktX5_init_13 := dk_seg dksX5_init_12 24 rfl rfl
theorem dksX5_init_14 : cX5_init.data.toList.drop 334 = dktX5_init_14 := dk_seg dksX5_init_13 23 rfl rfl
theorem dksX5_init_15 : cX5_init.data.toList.drop 358 = dktX5_init_15 := dk_seg dksX5_init_14 24 rfl rfl
theorem dksX5_init_16 : cX5_init.data.toList.drop 380 = dktX5_init_16 := dk_seg dksX5_init_15 22 rfl rfl
theorem dksX5_init_17 : cX5_init.data.toList.drop 404 = dktX5_init_17 := dk_seg dksX5_init_16 24 rfl rfl
theorem dksX5_init_18 : cX5_init.data.toList.drop 428 = dktX5_init_18 := dk_seg dksX5_init_17 24 rfl rfl
theorem dksX5_init_19 : cX5_init.data.toList.drop 452 = dktX5_init_19 := dk_seg dksX5_init_18 24 rfl rfl
theorem dksX5_init_20 : cX5_init.data.toList.drop 476 = dktX5_init_20 := dk_seg dksX5_init_19 24 rfl rfl
theorem dksX5_init_21 : cX5_init.data.toList.drop 500 = dktX5_init_21 := dk_seg dksX5_init_20 24 rfl rfl
theorem dksX5_init_22 : cX5_init.data.toList.drop 524 = dktX5_init_22 := dk_seg dksX5_init_21 24 rfl rfl
theorem dX5_init_0 : decode cX5_init 0 = .ok (.aload_n 0, 1) := dk_42 (dk_at dksX5_init_0 0 rfl rfl)
theorem dX5_init_1 : decode cX5_init 1 = .ok (.invokespecial 3, 3) := dk_183 0 3 (dk_at dksX5_init_0 1 rfl rfl)
theorem dX5_init_4 : decode cX5_init 4 = .ok (.aload_n 0, 1) := dk_42 (dk_at dksX5_init_0 4 rfl rfl)
theorem dX5_init_5 : decode cX5_init 5 = .ok (.iconst 4, 1) := dk_7 (dk_at dksX5_init_0 5 rfl rfl)
theorem dX5_init_6 : decode cX5_init 6 = .ok (.anewarray 9, 3) := dk_189 0 9 (dk_at dksX5_init_0 6 rfl rfl)
theorem dX5_init_9 : decode cX5_init 9 = .ok (.dup, 1) := dk_89 (dk_at dksX5_init_0 9 rfl rfl)
theorem dX5_init_10 : decode cX5_init 10 = .ok (.iconst 0, 1) := dk_3 (dk_at dksX5_init_0 10 rfl rfl)
theorem dX5_init_11 : decode cX5_init 11 = .ok (.ldc 11, 2) := dk_18 11 (dk_at dksX5_init_0 11 rfl rfl)
theorem dX5_init_13 : decode cX5_init 13 = .ok (.aastore, 1) := dk_83 (dk_at dksX5_init_0 13 rfl rfl)
theorem dX5_init_14 : decode cX5_init 14 = .ok (.dup, 1) := dk_89 (dk_at dksX5_init_0 14 rfl rfl)
theorem dX5_init_15 : decode cX5_init 15 = .ok (.iconst 1, 1) := dk_4 (dk_at dksX5_init_0 15 rfl rfl)
theorem dX5_init_16 : decode cX5_init 16 = .ok (.ldc 13, 2) := dk_18 13 (dk_at dksX5_init_0 16 rfl rfl)
theorem dX5_init_18 : decode cX5_init 18 = .ok (.aastore, 1) := dk_83 (dk_at dksX5_init_0 18 rfl rfl)
theorem dX5_init_19 : decode cX5_init 19 = .ok (.dup, 1) := dk_89 (dk_at dksX5_init_0 19 rfl rfl)
theorem dX5_init_20 : decode cX5_init 20 = .ok (.iconst 2, 1) := dk_5 (dk_at dksX5_init_0 20 rfl rfl)
theorem dX5_init_21 : decode cX5_init 21 = .ok (.ldc 15, 2) := dk_18 15 (dk_at dksX5_init_0 21 rfl rfl)
theorem dX5_init_23 : decode cX5_init 23 = .ok (.aastore, 1) := dk_83 (dk_at dksX5_init_0 23 rfl rfl)
theorem dX5_init_24 : decode cX5_init 24 = .ok (.dup, 1) := dk_89 (dk_at dksX5_init_1 0 rfl rfl)
theorem dX5_init_25 : decode cX5_init 25 = .ok (.iconst 3, 1) := dk_6 (dk_at dksX5_init_1 1 rfl rfl)
theorem dX5_init_26 : decode cX5_init 26 = .ok (.ldc 17, 2) := dk_18 17 (dk_at dksX5_init_1 2 rfl rfl)
theorem dX5_init_28 : decode cX5_init 28 = .ok (.aastore, 1) := dk_83 (dk_at dksX5_init_1 4 rfl rfl)
theorem dX5_init_29 : decode cX5_init 29 = .ok (.putfield 19, 3) := dk_181 0 19 (dk_at dksX5_init_1 5 rfl rfl)
theorem dX5_init_32 : decode cX5_init 32 = .ok (.aload_n 0, 1) := dk_42 (dk_at dksX5_init_1 8 rfl rfl)
theorem dX5_init_33 : decode cX5_init 33 = .ok (.iconst 4, 1) := dk_7 (dk_at dksX5_init_1 9 rfl rfl)
theorem dX5_init_34 : decode cX5_init 34 = .ok (.anewarray 9, 3) := dk_189 0 9 (dk_at dksX5_init_1 10 rfl rfl)
theorem dX5_init_37 : decode cX5_init 37 = .ok (.dup, 1) := dk_89 (dk_at dksX5_init_1 13 rfl rfl)
theorem dX5_init_38 : decode cX5_init 38 = .ok (.iconst 0, 1) := dk_3 (dk_at dksX5_init_1 14 rfl rfl)
theorem dX5_init_39 : decode cX5_init 39 = .ok (.ldc 23, 2) := dk_18 23 (dk_at dksX5_init_1 15 rfl rfl)
theorem dX5_init_41 : decode cX5_init 41 = .ok (.aastore, 1) := dk_83 (dk_at dksX5_init_1 17 rfl rfl)
theorem dX5_init_42 : decode cX5_init 42 = .ok (.dup, 1) := dk_89 (dk_at dksX5_init_1 18 rfl rfl)
theorem dX5_init_43 : decode cX5_init 43 = .ok (.iconst 1, 1) := dk_4 (dk_at dksX5_init_1 19 rfl rfl)
theorem dX5_init_44 : decode cX5_init 44 = .ok (.ldc 25, 2) := dk_18 25 (dk_at dksX5_init_1 20 rfl rfl)
theorem dX5_init_46 : decode cX5_init 46 = .ok (.aastore, 1) := dk_83 (dk_at dksX5_init_1 22 rfl rfl)
theorem dX5_init_47 : decode cX5_init 47 = .ok (.dup, 1) := dk_89 (dk_at dksX5_init_1 23 rfl rfl)
theorem dX5_init_48 : decode cX5_init 48 = .ok (.iconst 2, 1) := dk_5 (dk_at dksX5_init_2 0 rfl rfl)
theorem dX5_init_49 : decode cX5_init 49 = .ok (.ldc 27, 2) := dk_18 27 (dk_at dksX5_init_2 1 rfl rfl)
theorem dX5_init_51 : decode cX5_init 51 = .ok (.aastore, 1) := dk_83 (dk_at dksX5_init_2 3 rfl rfl)
theorem dX5_init_52 : decode cX5_init 52 = .ok (.dup, 1) := dk_89 (dk_at dksX5_init_2 4 rfl rfl)
theorem dX5_init_53 : decode cX5_init 53 = .ok (.iconst 3, 1) := dk_6 (dk_at dksX5_init_2 5 rfl rfl)
theorem dX5_init_54 : decode cX5_init 54 = .ok (.ldc 29, 2) := dk_18 29 (dk_at dksX5_init_2 6 rfl rfl)
theorem dX5_init_56 : decode cX5_init 56 = .ok (.aastore, 1) := dk_83 (dk_at dksX5_init_2 8 rfl rfl)
theorem dX5_init_57 : decode cX5_init 57 = .ok (.putfield 31, 3) := dk_181 0 31 (dk_at dksX5_init_2 9 rfl rfl)
theorem dX5_init_60 : decode cX5_init 60 = .ok (.aload_n 0, 1) := dk_42 (dk_at dksX5_init_2 12 rfl rfl)
theorem dX5_init_61 : decode cX5_init 61 = .ok (.iconst 4, 1) := dk_7 (dk_at dksX5_init_2 13 rfl rfl)
theorem dX5_init_62 : decode cX5_init 62 = .ok (.anewarray 9, 3) := dk_189 0 9 (dk_at dksX5_init_2 14 rfl rfl)
theorem dX5_init_65 : decode cX5_init 65 = .ok (.dup, 1) := dk_89 (dk_at dksX5_init_2 17 rfl rfl)
theorem dX5_init_66 : decode cX5_init 66 = .ok (.iconst 0, 1) := dk_3 (dk_at dksX5_init_2 18 rfl rfl)
theorem dX5_init_67 : decode cX5_init 67 = .ok (.ldc 34, 2) := dk_18 34 (dk_at dksX5_init_2 19 rfl rfl)
theorem dX5_init_69 : decode cX5_init 69 = .ok (.aastore, 1) := dk_83 (dk_at dksX5_init_2 21 rfl rfl)
theorem dX5_init_70 : decode cX5_init 70 = .ok (.dup, 1) := dk_89 (dk_at dksX5_init_2 22 rfl rfl)
theorem dX5_init_71 : decode cX5_init 71 = .ok (.iconst 1, 1) := dk_4 (dk_at dksX5_init_2 23 rfl rfl)
theorem dX5_init_72 : decode cX5_init 72 = .ok (.ldc 36, 2) := dk_18 36 (dk_at dksX5_init_3 0 rfl rfl)
theorem dX5_init_74 : decode cX5_init 74 = .ok (.aastore, 1) := dk_83 (dk_at dksX5_init_3 2 rfl rfl)
theorem dX5_init_75 : decode cX5_init 75 = .ok (.dup, 1) := dk_89 (dk_at dksX5_init_3 3 rfl rfl)
theorem dX5_init_76 : decode cX5_init 76 = .ok (.iconst 2, 1) := dk_5 (dk_at dksX5_init_3 4 rfl rfl)
theorem dX5_init_77 : decode cX5_init 77 = .ok (.ldc 38, 2) := dk_18 38 (dk_at dksX5_init_3 5 rfl rfl)
theorem dX5_init_79 : decode cX5_init 79 = .ok (.aastore, 1) := dk_83 (dk_at dksX5_init_3 7 rfl rfl)
theorem dX5_init_80 : decode cX5_init 80 = .ok (.dup, 1) := dk_89 (dk_at dksX5_init_3 8 rfl rfl)
theorem dX5_init_81 : decode cX5_init 81 = .ok (.iconst 3, 1) := dk_6 (dk_at dksX5_init_3 9 rfl rfl)
theorem dX5_init_82 : decode cX5_init 82 = .ok (.ldc 40, 2) := dk_18 40 (dk_at dksX5_init_3 10 rfl rfl)
theorem dX5_init_84 : decode cX5_init 84 = .ok (.aastore, 1) := dk_83 (dk_at dksX5_init_3 12 rfl rfl)
theorem dX5_init_85 : decode cX5_init 85 = .ok (.putfield 42, 3) := dk_181 0 42 (dk_at dksX5_init_3 13 rfl rfl)
theorem dX5_init_88 : decode cX5_init 88 = .ok (.aload_n 0, 1) := dk_42 (dk_at dksX5_init_3 16 rfl rfl)
theorem dX5_init_89 : decode cX5_init 89 = .ok (.bipush 12, 2) := dk_16 12 (dk_at dksX5_init_3 17 rfl rfl)
theorem dX5_init_91 : decode cX5_init 91 = .ok (.newarray .int, 2) := dk_188_10 (dk_at dksX5_init_3 19 rfl rfl)
theorem dX5_init_93 : decode cX5_init 93 = .ok (.dup, 1) := dk_89 (dk_at dksX5_init_3 21 rfl rfl)
theorem dX5_init_94 : decode cX5_init 94 = .ok (.iconst 0, 1) := dk_3 (dk_at dksX5_init_3 22 rfl rfl)
theorem dX5_init_95 : decode cX5_init 95 = .ok (.iconst 0, 1) := dk_3 (dk_at dksX5_init_3 23 rfl rfl)
theorem dX5_init_96 : decode cX5_init 96 = .ok (.iastore, 1) := dk_79 (dk_at dksX5_init_4 0 rfl rfl)
theorem dX5_init_97 : decode cX5_init 97 = .ok (.dup, 1) := dk_89 (dk_at dksX5_init_4 1 rfl rfl)
theorem dX5_init_98 : decode cX5_init 98 = .ok (.iconst 1, 1) := dk_4 (dk_at dksX5_init_4 2 rfl rfl)
theorem dX5_init_99 : decode cX5_init 99 = .ok (.iconst 0, 1) := dk_3 (dk_at dksX5_init_4 3 rfl rfl)
theorem dX5_init_100 : decode cX5_init 100 = .ok (.iastore, 1) := dk_79 (dk_at dksX5_init_4 4 rfl rfl)
theorem dX5_init_101 : decode cX5_init 101 = .ok (.dup, 1) := dk_89 (dk_at dksX5_init_4 5 rfl rfl)
theorem dX5_init_102 : decode cX5_init 102 = .ok (.iconst 2, 1) := dk_5 (dk_at dksX5_init_4 6 rfl rfl)
theorem dX5_init_103 : decode cX5_init 103 = .ok (.iconst 0, 1) := dk_3 (dk_at dksX5_init_4 7 rfl rfl)
theorem dX5_init_104 : decode cX5_init 104 = .ok (.iastore, 1) := dk_79 (dk_at dksX5_init_4 8 rfl rfl)
theorem dX5_init_105 : decode cX5_init 105 = .ok (.dup, 1) := dk_89 (dk_at dksX5_init_4 9 rfl rfl)
theorem dX5_init_106 : decode cX5_init 106 = .ok (.iconst 3, 1) := dk_6 (dk_at dksX5_init_4 10 rfl rfl)
theorem dX5_init_107 : decode cX5_init 107 = .ok (.iconst 0, 1) := dk_3 (dk_at dksX5_init_4 11 rfl rfl)
theorem dX5_init_108 : decode cX5_init 108 = .ok (.iastore, 1) := dk_79 (dk_at dksX5_init_4 12 rfl rfl)
theorem dX5_init_109 : decode cX5_init 109 = .ok (.dup, 1) := dk_89 (dk_at dksX5_init_4 13 rfl rfl)
theorem dX5_init_110 : decode cX5_init 110 = .ok (.iconst 4, 1) := dk_7 (dk_at dksX5_init_4 14 rfl rfl)
theorem dX5_init_111 : decode cX5_init 111 = .ok (.iconst 3, 1) := dk_6 (dk_at dksX5_init_4 15 rfl rfl)
theorem dX5_init_112 : decode cX5_init 112 = .ok (.iastore, 1) := dk_79 (dk_at dksX5_init_4 16 rfl rfl)
theorem dX5_init_113 : decode cX5_init 113 = .ok (.dup, 1) := dk_89 (dk_at dksX5_init_4 17 rfl rfl)
theorem dX5_init_114 : decode cX5_init 114 = .ok (.iconst 5, 1) := dk_8 (dk_at dksX5_init_4 18 rfl rfl)
theorem dX5_init_115 : decode cX5_init 115 = .ok (.iconst 1, 1) := dk_4 (dk_at dksX5_init_4 19 rfl rfl)
theorem dX5_init_116 : decode cX5_init 116 = .ok (.iastore, 1) := dk_79 (dk_at dksX5_init_4 20 rfl rfl)
theorem dX5_init_117 : decode cX5_init 117 = .ok (.dup, 1) := dk_89 (dk_at dksX5_init_4 21 rfl rfl)
theorem dX5_init_118 : decode cX5_init 118 = .ok (.bipush 6, 2) := dk_16 6 (dk_at dksX5_init_4 22 rfl rfl)
theorem dX5_init_120 : decode cX5_init 120 = .ok (.iconst 0, 1) := dk_3 (dk_at dksX5_init_5 0 rfl rfl)
theorem dX5_init_121 : decode cX5_init 121 = .ok (.iastore, 1) := dk_79 (dk_at dksX5_init_5 1 rfl rfl)
theorem dX5_init_122 : decode cX5_init 122 = .ok (.dup, 1) := dk_89 (dk_at dksX5_init_5 2 rfl rfl)
theorem dX5_init_123 : decode cX5_init 123 = .ok (.bipush 7, 2) := dk_16 7 (dk_at dksX5_init_5 3 rfl rfl)
theorem dX5_init_125 : decode cX5_init 125 = .ok (.iconst 0, 1) := dk_3 (dk_at dksX5_init_5 5 rfl rfl)
theorem dX5_init_126 : decode cX5_init 126 = .ok (.iastore, 1) := dk_79 (dk_at dksX5_init_5 6 rfl rfl)
theorem dX5_init_127 : decode cX5_init 127 = .ok (.dup, 1) := dk_89 (dk_at dksX5_init_5 7 rfl rfl)
theorem dX5_init_128 : decode cX5_init 128 = .ok (.bipush 8, 2) := dk_16 8 (dk_at dksX5_init_5 8 rfl rfl)
theorem dX5_init_130 : decode cX5_init 130 = .ok (.iconst 0, 1) := dk_3 (dk_at dksX5_init_5 10 rfl rfl)
theorem dX5_init_131 : decode cX5_init 131 = .ok (.iastore, 1) := dk_79 (dk_at dksX5_init_5 11 rfl rfl)
theorem dX5_init_132 : decode cX5_init 132 = .ok (.dup, 1) := dk_89 (dk_at dksX5_init_5 12 rfl rfl)
theorem dX5_init_133 : decode cX5_init 133 = .ok (.bipush 9, 2) := dk_16 9 (dk_at dksX5_init_5 13 rfl rfl)
theorem dX5_init_135 : decode cX5_init 135 = .ok (.iconst 0, 1) := dk_3 (dk_at dksX5_init_5 15 rfl rfl)
theorem dX5_init_136 : decode cX5_init 136 = .ok (.iastore, 1) := dk_79 (dk_at dksX5_init_5 16 rfl rfl)
theorem dX5_init_137 : decode cX5_init 137 = .ok (.dup, 1) := dk_89 (dk_at dksX5_init_5 17 rfl rfl)
theorem dX5_init_138 : decode cX5_init 138 = .ok (.bipush 10, 2) := dk_16 10 (dk_at dksX5_init_5 18 rfl rfl)
theorem dX5_init_140 : decode cX5_init 140 = .ok (.iconst 3, 1) := dk_6 (dk_at dksX5_init_5 20 rfl rfl)
theorem dX5_init_141 : decode cX5_init 141 = .ok (.iastore, 1) := dk_79 (dk_at dksX5_init_5 21 rfl rfl)
theorem dX5_init_142 : decode cX5_init 142 = .ok (.dup, 1) := dk_89 (dk_at dksX5_init_5 22 rfl rfl)
theorem dX5_init_143 : decode cX5_init 143 = .ok (.bipush 11, 2) := dk_16 11 (dk_at dksX5_init_6 0 rfl rfl)
theorem dX5_init_145 : decode cX5_init 145 = .ok (.iconst 1, 1) := dk_4 (dk_at dksX5_init_6 2 rfl rfl)
theorem dX5_init_146 : decode cX5_init 146 = .ok (.iastore, 1) := dk_79 (dk_at dksX5_init_6 3 rfl rfl)
theorem dX5_init_147 : decode cX5_init 147 = .ok (.putfield 45, 3) := dk_181 0 45 (dk_at dksX5_init_6 4 rfl rfl)
theorem dX5_init_150 : decode cX5_init 150 = .ok (.aload_n 0, 1) := dk_42 (dk_at dksX5_init_6 7 rfl rfl)
theorem dX5_init_151 : decode cX5_init 151 = .ok (.bipush 16, 2) := dk_16 16 (dk_at dksX5_init_6 8 rfl rfl)
theorem dX5_init_153 : decode cX5_init 153 = .ok (.newarray .int, 2) := dk_188_10 (dk_at dksX5_init_6 10 rfl rfl)
theorem dX5_init_155 : decode cX5_init 155 = .ok (.putfield 49, 3) := dk_181 0 49 (dk_at dksX5_init_6 12 rfl rfl)
theorem dX5_init_158 : decode cX5_init 158 = .ok (.aload_n 0, 1) := dk_42 (dk_at dksX5_init_6 15 rfl rfl)
theorem dX5_init_159 : decode cX5_init 159 = .ok (.bipush 16, 2) := dk_16 16 (dk_at dksX5_init_6 16 rfl rfl)
theorem dX5_init_161 : decode cX5_init 161 = .ok (.newarray .int, 2) := dk_188_10 (dk_at dksX5_init_6 18 rfl rfl)
theorem dX5_init_163 : decode cX5_init 163 = .ok (.putfield 52, 3) := dk_181 0 52 (dk_at dksX5_init_6 20 rfl rfl)
theorem dX5_init_166 : decode cX5_init 166 = .ok (.aload_n 0, 1) := dk_42 (dk_at dksX5_init_6 23 rfl rfl)
theorem dX5_init_167 : decode cX5_init 167 = .ok (.bipush 16, 2) := dk_16 16 (dk_at dksX5_init_7 0 rfl rfl)
theorem dX5_init_169 : decode cX5_init 169 = .ok (.newarray .int, 2) := dk_188_10 (dk_at dksX5_init_7 2 rfl rfl)
theorem dX5_init_171 : decode cX5_init 171 = .ok (.putfield 55, 3) := dk_181 0 55 (dk_at dksX5_init_7 4 rfl rfl)
theorem dX5_init_174 : decode cX5_init 174 = .ok (.aload_n 0, 1) := dk_42 (dk_at dksX5_init_7 7 rfl rfl)
theorem dX5_init_175 : decode cX5_init 175 = .ok (.bipush 16, 2) := dk_16 16 (dk_at dksX5_init_7 8 rfl rfl)
theorem dX5_init_177 : decode cX5_init 177 = .ok (.newarray .int, 2) := dk_188_10 (dk_at dksX5_init_7 10 rfl rfl)
theorem dX5_init_179 : decode cX5_init 179 = .ok (.putfield 58, 3) := dk_181 0 58 (dk_at dksX5_init_7 12 rfl rfl)
theorem dX5_init_182 : decode cX5_init 182 = .ok (.aload_n 0, 1) := dk_42 (dk_at dksX5_init_7 15 rfl rfl)
theorem dX5_init_183 : decode cX5_init 183 = .ok (.bipush 12, 2) := dk_16 12 (dk_at dksX5_init_7 16 rfl rfl)
theorem dX5_init_185 : decode cX5_init 185 = .ok (.newarray .int, 2) := dk_188_10 (dk_at dksX5_init_7 18 rfl rfl)
theorem dX5_init_187 : decode cX5_init 187 = .ok (.putfield 61, 3) := dk_181 0 61 (dk_at dksX5_init_7 20 rfl rfl)
theorem dX5_init_190 : decode cX5_init 190 = .ok (.aload_n 0, 1) := dk_42 (dk_at dksX5_init_7 23 rfl rfl)
theorem dX5_init_191 : decode cX5_init 191 = .ok (.bipush 12, 2) := dk_16 12 (dk_at dksX5_init_8 0 rfl rfl)
theorem dX5_init_193 : decode cX5_init 193 = .ok (.newarray .int, 2) := dk_188_10 (dk_at dksX5_init_8 2 rfl rfl)
theorem dX5_init_195 : decode cX5_init 195 = .ok (.putfield 64, 3) := dk_181 0 64 (dk_at dksX5_init_8 4 rfl rfl)
theorem dX5_init_198 : decode cX5_init 198 = .ok (.aload_n 0, 1) := dk_42 (dk_at dksX5_init_8 7 rfl rfl)
theorem dX5_init_199 : decode cX5_init 199 = .ok (.bipush 12, 2) := dk_16 12 (dk_at dksX5_init_8 8 rfl rfl)
theorem dX5_init_201 : decode cX5_init 201 = .ok (.newarray .int, 2) := dk_188_10 (dk_at dksX5_init_8 10 rfl rfl)
theorem dX5_init_203 : decode cX5_init 203 = .ok (.putfield 67, 3) := dk_181 0 67 (dk_at dksX5_init_8 12 rfl rfl)
theorem dX5_init_206 : decode cX5_init 206 = .ok (.aload_n 0, 1) := dk_42 (dk_at dksX5_init_8 15 rfl rfl)
theorem dX5_init_207 : decode cX5_init 207 = .ok (.bipush 12, 2) := dk_16 12 (dk_at dksX5_init_8 16 rfl rfl)
theorem dX5_init_209 : decode cX5_init 209 = .ok (.newarray .int, 2) := dk_188_10 (dk_at dksX5_init_8 18 rfl rfl)
theorem dX5_init_211 : decode cX5_init 211 = .ok (.putfield 70, 3) := dk_181 0 70 (dk_at dksX5_init_8 20 rfl rfl)
theorem dX5_init_214 : decode cX5_init 214 = .ok (.aload_n 0, 1) := dk_42 (dk_at dksX5_init_8 23 rfl rfl)
theorem dX5_init_215 : decode cX5_init 215 = .ok (.bipush 12, 2) := dk_16 12 (dk_at dksX5_init_9 0 rfl rfl)
theorem dX5_init_217 : decode cX5_init 217 = .ok (.newarray .int, 2) := dk_188_10 (dk_at dksX5_init_9 2 rfl rfl)
theorem dX5_init_219 : decode cX5_init 219 = .ok (.putfield 73, 3) := dk_181 0 73 (dk_at dksX5_init_9 4 rfl rfl)
theorem dX5_init_222 : decode cX5_init 222 = .ok (.aload_n 0, 1) := dk_42 (dk_at dksX5_init_9 7 rfl rfl)
theorem dX5_init_223 : decode cX5_init 223 = .ok (.bipush 8, 2) := dk_16 8 (dk_at dksX5_init_9 8 rfl rfl)
theorem dX5_init_225 : decode cX5_init 225 = .ok (.newarray .int, 2) := dk_188_10 (dk_at dksX5_init_9 10 rfl rfl)
theorem dX5_init_227 : decode cX5_init 227 = .ok (.putfield 76, 3) := dk_181 0 76 (dk_at dksX5_init_9 12 rfl rfl)
theorem dX5_init_230 : decode cX5_init 230 = .ok (.aload_n 0, 1) := dk_42 (dk_at dksX5_init_9 15 rfl rfl)
theorem dX5_init_231 : decode cX5_init 231 = .ok (.bipush 8, 2) := dk_16 8 (dk_at dksX5_init_9 16 rfl rfl)
theorem dX5_init_233 : decode cX5_init 233 = .ok (.newarray .int, 2) := dk_188_10 (dk_at dksX5_init_9 18 rfl rfl)
theorem dX5_init_235 : decode cX5_init 235 = .ok (.putfield 79, 3) := dk_181 0 79 (dk_at dksX5_init_9 20 rfl rfl)
theorem dX5_init_238 : decode cX5_init 238 = .ok (.aload_n 0, 1) := dk_42 (dk_at dksX5_init_9 23 rfl rfl)
theorem dX5_init_239 : decode cX5_init 239 = .ok (.bipush 8, 2) := dk_16 8 (dk_at dksX5_init_10 0 rfl rfl)
theorem dX5_init_241 : decode cX5_init 241 = .ok (.newarray .int, 2) := dk_188_10 (dk_at dksX5_init_10 2 rfl rfl)
theorem dX5_init_243 : decode cX5_init 243 = .ok (.putfield 82, 3) := dk_181 0 82 (dk_at dksX5_init_10 4 rfl rfl)
theorem dX5_init_246 : decode cX5_init 246 = .ok (.aload_n 0, 1) := dk_42 (dk_at dksX5_init_10 7 rfl rfl)
theorem dX5_init_247 : decode cX5_init 247 = .ok (.bipush 8, 2) := dk_16 8 (dk_at dksX5_init_10 8 rfl rfl)
theorem dX5_init_249 : decode cX5_init 249 = .ok (.newarray .int, 2) := dk_188_10 (dk_at dksX5_init_10 10 rfl rfl)
theorem dX5_init_251 : decode cX5_init 251 = .ok (.putfield 85, 3) := dk_181 0 85 (dk_at dksX5_init_10 12 rfl rfl)
theorem dX5_init_254 : decode cX5_init 254 = .ok (.aload_n 0, 1) := dk_42 (dk_at dksX5_init_10 15 rfl rfl)
theorem dX5_init_255 : decode cX5_init 255 = .ok (.bipush 48, 2) := dk_16 48 (dk_at dksX5_init_10 16 rfl rfl)
theorem dX5_init_257 : decode cX5_init 257 = .ok (.newarray .int, 2) := dk_188_10 (dk_at dksX5_init_10 18 rfl rfl)
theorem dX5_init_259 : decode cX5_init 259 = .ok (.putfield 88, 3) := dk_181 0 88 (dk_at dksX5_init_10 20 rfl rfl)
theorem dX5_init_262 : decode cX5_init 262 = .ok (.aload_n 0, 1) := dk_42 (dk_at dksX5_init_10 23 rfl rfl)
theorem dX5_init_263 : decode cX5_init 263 = .ok (.bipush 20, 2) := dk_16 20 (dk_at dksX5_init_11 0 rfl rfl)
theorem dX5_init_265 : decode cX5_init 265 = .ok (.newarray .int, 2) := dk_188_10 (dk_at dksX5_init_11 2 rfl rfl)
theorem dX5_init_267 : decode cX5_init 267 = .ok (.putfield 91, 3) := dk_181 0 91 (dk_at dksX5_init_11 4 rfl rfl)
theorem dX5_init_270 : decode cX5_init 270 = .ok (.aload_n 0, 1) := dk_42 (dk_at dksX5_init_11 7 rfl rfl)
theorem dX5_init_271 : decode cX5_init 271 = .ok (.bipush 12, 2) := dk_16 12 (dk_at dksX5_init_11 8 rfl rfl)
theorem dX5_init_273 : decode cX5_init 273 = .ok (.newarray .int, 2) := dk_188_10 (dk_at dksX5_init_11 10 rfl rfl)
theorem dX5_init_275 : decode cX5_init 275 = .ok (.putfield 94, 3) := dk_181 0 94 (dk_at dksX5_init_11 12 rfl rfl)
theorem dX5_init_278 : decode cX5_init 278 = .ok (.aload_n 0, 1) := dk_42 (dk_at dksX5_init_11 15 rfl rfl)
theorem dX5_init_279 : decode cX5_init 279 = .ok (.bipush 12, 2) := dk_16 12 (dk_at dksX5_init_11 16 rfl rfl)
theorem dX5_init_281 : decode cX5_init 281 = .ok (.newarray .int, 2) := dk_188_10 (dk_at dksX5_init_11 18 rfl rfl)
theorem dX5_init_283 : decode cX5_init 283 = .ok (.putfield 97, 3) := dk_181 0 97 (dk_at dksX5_init_11 20 rfl rfl)
theorem dX5_init_286 : decode cX5_init 286 = .ok (.aload_n 0, 1) := dk_42 (dk_at dksX5_init_11 23 rfl rfl)
theorem dX5_init_287 : decode cX5_init 287 = .ok (.bipush 12, 2) := dk_16 12 (dk_at dksX5_init_12 0 rfl rfl)
theorem dX5_init_289 : decode cX5_init 289 = .ok (.newarray .int, 2) := dk_188_10 (dk_at dksX5_init_12 2 rfl rfl)
theorem dX5_init_291 : decode cX5_init 291 = .ok (.putfield 100, 3) := dk_181 0 100 (dk_at dksX5_init_12 4 rfl rfl)
theorem dX5_init_294 : decode cX5_init 294 = .ok (.aload_n 0, 1) := dk_42 (dk_at dksX5_init_12 7 rfl rfl)
theorem dX5_init_295 : decode cX5_init 295 = .ok (.iconst 3, 1) := dk_6 (dk_at dksX5_init_12 8 rfl rfl)
theorem dX5_init_296 : decode cX5_init 296 = .ok (.newarray .int, 2) := dk_188_10 (dk_at dksX5_init_12 9 rfl rfl)
theorem dX5_init_298 : decode cX5_init 298 = .ok (.putfield 103, 3) := dk_181 0 103 (dk_at dksX5_init_12 11 rfl rfl)
theorem dX5_init_301 : decode cX5_init 301 = .ok (.aload_n 0, 1) := dk_42 (dk_at dksX5_init_12 14 rfl rfl)
theorem dX5_init_302 : decode cX5_init 302 = .ok (.sipush 700, 3) := dk_17 2 188 (dk_at dksX5_init_12 15 rfl rfl)
theorem dX5_init_305 : decode cX5_init 305 = .ok (.newarray .int, 2) := dk_188_10 (dk_at dksX5_init_12 18 rfl rfl)
theorem dX5_init_307 : decode cX5_init 307 = .ok (.putfield 106, 3) := dk_181 0 106 (dk_at dksX5_init_12 20 rfl rfl)
theorem dX5_init_310 : decode cX5_init 310 = .ok (.aload_n 0, 1) := dk_42 (dk_at dksX5_init_12 23 rfl rfl)
theorem dX5_init_311 : decode cX5_init 311 = .ok (.iconst (-1), 1) := dk_2 (dk_at dksX5_init_13 0 rfl rfl)
theorem dX5_init_312 : decode cX5_init 312 = .ok (.putfield 109, 3) := dk_181 0 109 (dk_at dksX5_init_13 1 rfl rfl)
theorem dX5_init_315 : decode cX5_init 315 = .ok (.aload_n 0, 1) := dk_42 (dk_at dksX5_init_13 4 rfl rfl)
theorem dX5_init_316 : decode cX5_init 316 = .ok (.bipush 52, 2) := dk_16 52 (dk_at dksX5_init_13 5 rfl rfl)
theorem dX5_init_318 : decode cX5_init 318 = .ok (.newarray .int, 2) := dk_188_10 (dk_at dksX5_init_13 7 rfl rfl)
theorem dX5_init_320 : decode cX5_init 320 = .ok (.putfield 113, 3) := dk_181 0 113 (dk_at dksX5_init_13 9 rfl rfl)
theorem dX5_init_323 : decode cX5_init 323 = .ok (.aload_n 0, 1) := dk_42 (dk_at dksX5_init_13 12 rfl rfl)
theorem dX5_init_324 : decode cX5_init 324 = .ok (.bipush 52, 2) := dk_16 52 (dk_at dksX5_init_13 13 rfl rfl)
theorem dX5_init_326 : decode cX5_init 326 = .ok (.newarray .int, 2) := dk_188_10 (dk_at dksX5_init_13 15 rfl rfl)
theorem dX5_init_328 : decode cX5_init 328 = .ok (.putfield 116, 3) := dk_181 0 116 (dk_at dksX5_init_13 17 rfl rfl)
theorem dX5_init_331 : decode cX5_init 331 = .ok (.aload_n 0, 1) := dk_42 (dk_at dksX5_init_13 20 rfl rfl)
theorem dX5_init_332 : decode cX5_init 332 = .ok (.bipush 52, 2) := dk_16 52 (dk_at dksX5_init_13 21 rfl rfl)
theorem dX5_init_334 : decode cX5_init 334 = .ok (.newarray .int, 2) := dk_188_10 (dk_at dksX5_init_14 0 rfl rfl)
theorem dX5_init_336 : decode cX5_init 336 = .ok (.putfield 119, 3) := dk_181 0 119 (dk_at dksX5_init_14 2 rfl rfl)
theorem dX5_init_339 : decode cX5_init 339 = .ok (.aload_n 0, 1) := dk_42 (dk_at dksX5_init_14 5 rfl rfl)
theorem dX5_init_340 : decode cX5_init 340 = .ok (.sipush 144, 3) := dk_17 0 144 (dk_at dksX5_init_14 6 rfl rfl)
theorem dX5_init_343 : decode cX5_init 343 = .ok (.newarray .int, 2) := dk_188_10 (dk_at dksX5_init_14 9 rfl rfl)
theorem dX5_init_345 : decode cX5_init 345 = .ok (.putfield 122, 3) := dk_181 0 122 (dk_at dksX5_init_14 11 rfl rfl)
theorem dX5_init_348 : decode cX5_init 348 = .ok (.aload_n 0, 1) := dk_42 (dk_at dksX5_init_14 14 rfl rfl)
theorem dX5_init_349 : decode cX5_init 349 = .ok (.sipush 144, 3) := dk_17 0 144 (dk_at dksX5_init_14 15 rfl rfl)
theorem dX5_init_352 : decode cX5_init 352 = .ok (.newarray .int, 2) := dk_188_10 (dk_at dksX5_init_14 18 rfl rfl)
theorem dX5_init_354 : decode cX5_init 354 = .ok (.putfield 125, 3) := dk_181 0 125 (dk_at dksX5_init_14 20 rfl rfl)
theorem dX5_init_357 : decode cX5_init 357 = .ok (.aload_n 0, 1) := dk_42 (dk_at dksX5_init_14 23 rfl rfl)
theorem dX5_init_358 : decode cX5_init 358 = .ok (.sipush 144, 3) := dk_17 0 144 (dk_at dksX5_init_15 0 rfl rfl)
theorem dX5_init_361 : decode cX5_init 361 = .ok (.newarray .int, 2) := dk_188_10 (dk_at dksX5_init_15 3 rfl rfl)
theorem dX5_init_363 : decode cX5_init 363 = .ok (.putfield 128, 3) := dk_181 0 128 (dk_at dksX5_init_15 5 rfl rfl)
theorem dX5_init_366 : decode cX5_init 366 = .ok (.aload_n 0, 1) := dk_42 (dk_at dksX5_init_15 8 rfl rfl)
theorem dX5_init_367 : decode cX5_init 367 = .ok (.sipush 192, 3) := dk_17 0 192 (dk_at dksX5_init_15 9 rfl rfl)
theorem dX5_init_370 : decode cX5_init 370 = .ok (.newarray .int, 2) := dk_188_10 (dk_at dksX5_init_15 12 rfl rfl)
theorem dX5_init_372 : decode cX5_init 372 = .ok (.putfield 131, 3) := dk_181 0 131 (dk_at dksX5_init_15 14 rfl rfl)
theorem dX5_init_375 : decode cX5_init 375 = .ok (.aload_n 0, 1) := dk_42 (dk_at dksX5_init_15 17 rfl rfl)
theorem dX5_init_376 : decode cX5_init 376 = .ok (.bipush 24, 2) := dk_16 24 (dk_at dksX5_init_15 18 rfl rfl)
theorem dX5_init_378 : decode cX5_init 378 = .ok (.newarray .int, 2) := dk_188_10 (dk_at dksX5_init_15 20 rfl rfl)
theorem dX5_init_380 : decode cX5_init 380 = .ok (.putfield 134, 3) := dk_181 0 134 (dk_at dksX5_init_16 0 rfl rfl)
theorem dX5_init_383 : decode cX5_init 383 = .ok (.aload_n 0, 1) := dk_42 (dk_at dksX5_init_16 3 rfl rfl)
theorem dX5_init_384 : decode cX5_init 384 = .ok (.bipush 52, 2) := dk_16 52 (dk_at dksX5_init_16 4 rfl rfl)
theorem dX5_init_386 : decode cX5_init 386 = .ok (.newarray .int, 2) := dk_188_10 (dk_at dksX5_init_16 6 rfl rfl)
theorem dX5_init_388 : decode cX5_init 388 = .ok (.putfield 137, 3) := dk_181 0 137 (dk_at dksX5_init_16 8 rfl rfl)
theorem dX5_init_391 : decode cX5_init 391 = .ok (.aload_n 0, 1) := dk_42 (dk_at dksX5_init_16 11 rfl rfl)
theorem dX5_init_392 : decode cX5_init 392 = .ok (.bipush 25, 2) := dk_16 25 (dk_at dksX5_init_16 12 rfl rfl)
theorem dX5_init_394 : decode cX5_init 394 = .ok (.newarray .int, 2) := dk_188_10 (dk_at dksX5_init_16 14 rfl rfl)
theorem dX5_init_396 : decode cX5_init 396 = .ok (.putfield 140, 3) := dk_181 0 140 (dk_at dksX5_init_16 16 rfl rfl)
theorem dX5_init_399 : decode cX5_init 399 = .ok (.aload_n 0, 1) := dk_42 (dk_at dksX5_init_16 19 rfl rfl)
theorem dX5_init_400 : decode cX5_init 400 = .ok (.bipush 6, 2) := dk_16 6 (dk_at dksX5_init_16 20 rfl rfl)
theorem dX5_init_402 : decode cX5_init 402 = .ok (.newarray .int, 2) := dk_188_10 (dk_at dksX5_init_16 22 rfl rfl)
theorem dX5_init_404 : decode cX5_init 404 = .ok (.putfield 143, 3) := dk_181 0 143 (dk_at dksX5_init_17 0 rfl rfl)
theorem dX5_init_407 : decode cX5_init 407 = .ok (.aload_n 0, 1) := dk_42 (dk_at dksX5_init_17 3 rfl rfl)
theorem dX5_init_408 : decode cX5_init 408 = .ok (.bipush 6, 2) := dk_16 6 (dk_at dksX5_init_17 4 rfl rfl)
theorem dX5_init_410 : decode cX5_init 410 = .ok (.newarray .int, 2) := dk_188_10 (dk_at dksX5_init_17 6 rfl rfl)
theorem dX5_init_412 : decode cX5_init 412 = .ok (.putfield 146, 3) := dk_181 0 146 (dk_at dksX5_init_17 8 rfl rfl)
theorem dX5_init_415 : decode cX5_init 415 = .ok (.aload_n 0, 1) := dk_42 (dk_at dksX5_init_17 11 rfl rfl)
theorem dX5_init_416 : decode cX5_init 416 = .ok (.iconst 4, 1) := dk_7 (dk_at dksX5_init_17 12 rfl rfl)
theorem dX5_init_417 : decode cX5_init 417 = .ok (.newarray .int, 2) := dk_188_10 (dk_at dksX5_init_17 13 rfl rfl)
theorem dX5_init_419 : decode cX5_init 419 = .ok (.putfield 149, 3) := dk_181 0 149 (dk_at dksX5_init_17 15 rfl rfl)
theorem dX5_init_422 : decode cX5_init 422 = .ok (.aload_n 0, 1) := dk_42 (dk_at dksX5_init_17 18 rfl rfl)
theorem dX5_init_423 : decode cX5_init 423 = .ok (.iconst (-1), 1) := dk_2 (dk_at dksX5_init_17 19 rfl rfl)
theorem dX5_init_424 : decode cX5_init 424 = .ok (.putfield 152, 3) := dk_181 0 152 (dk_at dksX5_init_17 20 rfl rfl)
theorem dX5_init_427 : decode cX5_init 427 = .ok (.aload_n 0, 1) := dk_42 (dk_at dksX5_init_17 23 rfl rfl)
theorem dX5_init_428 : decode cX5_init 428 = .ok (.bipush 98, 2) := dk_16 98 (dk_at dksX5_init_18 0 rfl rfl)
theorem dX5_init_430 : decode cX5_init 430 = .ok (.newarray .int, 2) := dk_188_10 (dk_at dksX5_init_18 2 rfl rfl)
theorem dX5_init_432 : decode cX5_init 432 = .ok (.putfield 155, 3) := dk_181 0 155 (dk_at dksX5_init_18 4 rfl rfl)
theorem dX5_init_435 : decode cX5_init 435 = .ok (.aload_n 0, 1) := dk_42 (dk_at dksX5_init_18 7 rfl rfl)
theorem dX5_init_436 : decode cX5_init 436 = .ok (.bipush 12, 2) := dk_16 12 (dk_at dksX5_init_18 8 rfl rfl)
theorem dX5_init_438 : decode cX5_init 438 = .ok (.newarray .int, 2) := dk_188_10 (dk_at dksX5_init_18 10 rfl rfl)
theorem dX5_init_440 : decode cX5_init 440 = .ok (.putfield 158, 3) := dk_181 0 158 (dk_at dksX5_init_18 12 rfl rfl)
theorem dX5_init_443 : decode cX5_init 443 = .ok (.aload_n 0, 1) := dk_42 (dk_at dksX5_init_18 15 rfl rfl)
theorem dX5_init_444 : decode cX5_init 444 = .ok (.bipush 12, 2) := dk_16 12 (dk_at dksX5_init_18 16 rfl rfl)
theorem dX5_init_446 : decode cX5_init 446 = .ok (.newarray .int, 2) := dk_188_10 (dk_at dksX5_init_18 18 rfl rfl)
theorem dX5_init_448 : decode cX5_init 448 = .ok (.putfield 161, 3) := dk_181 0 161 (dk_at dksX5_init_18 20 rfl rfl)
theorem dX5_init_451 : decode cX5_init 451 = .ok (.aload_n 0, 1) := dk_42 (dk_at dksX5_init_18 23 rfl rfl)
theorem dX5_init_452 : decode cX5_init 452 = .ok (.bipush 12, 2) := dk_16 12 (dk_at dksX5_init_19 0 rfl rfl)
theorem dX5_init_454 : decode cX5_init 454 = .ok (.newarray .int, 2) := dk_188_10 (dk_at dksX5_init_19 2 rfl rfl)
theorem dX5_init_456 : decode cX5_init 456 = .ok (.putfield 164, 3) := dk_181 0 164 (dk_at dksX5_init_19 4 rfl rfl)
theorem dX5_init_459 : decode cX5_init 459 = .ok (.aload_n 0, 1) := dk_42 (dk_at dksX5_init_19 7 rfl rfl)
theorem dX5_init_460 : decode cX5_init 460 = .ok (.bipush 6, 2) := dk_16 6 (dk_at dksX5_init_19 8 rfl rfl)
theorem dX5_init_462 : decode cX5_init 462 = .ok (.newarray .int, 2) := dk_188_10 (dk_at dksX5_init_19 10 rfl rfl)
theorem dX5_init_464 : decode cX5_init 464 = .ok (.putfield 167, 3) := dk_181 0 167 (dk_at dksX5_init_19 12 rfl rfl)
theorem dX5_init_467 : decode cX5_init 467 = .ok (.aload_n 0, 1) := dk_42 (dk_at dksX5_init_19 15 rfl rfl)
theorem dX5_init_468 : decode cX5_init 468 = .ok (.bipush 6, 2) := dk_16 6 (dk_at dksX5_init_19 16 rfl rfl)
theorem dX5_init_470 : decode cX5_init 470 = .ok (.newarray .int, 2) := dk_188_10 (dk_at dksX5_init_19 18 rfl rfl)
theorem dX5_init_472 : decode cX5_init 472 = .ok (.putfield 170, 3) := dk_181 0 170 (dk_at dksX5_init_19 20 rfl rfl)
theorem dX5_init_475 : decode cX5_init 475 = .ok (.aload_n 0, 1) := dk_42 (dk_at dksX5_init_19 23 rfl rfl)
theorem dX5_init_476 : decode cX5_init 476 = .ok (.bipush 52, 2) := dk_16 52 (dk_at dksX5_init_20 0 rfl rfl)
theorem dX5_init_478 : decode cX5_init 478 = .ok (.newarray .int, 2) := dk_188_10 (dk_at dksX5_init_20 2 rfl rfl)
theorem dX5_init_480 : decode cX5_init 480 = .ok (.putfield 173, 3) := dk_181 0 173 (dk_at dksX5_init_20 4 rfl rfl)
theorem dX5_init_483 : decode cX5_init 483 = .ok (.aload_n 0, 1) := dk_42 (dk_at dksX5_init_20 7 rfl rfl)
theorem dX5_init_484 : decode cX5_init 484 = .ok (.bipush 52, 2) := dk_16 52 (dk_at dksX5_init_20 8 rfl rfl)
theorem dX5_init_486 : decode cX5_init 486 = .ok (.newarray .int, 2) := dk_188_10 (dk_at dksX5_init_20 10 rfl rfl)
theorem dX5_init_488 : decode cX5_init 488 = .ok (.putfield 176, 3) := dk_181 0 176 (dk_at dksX5_init_20 12 rfl rfl)
theorem dX5_init_491 : decode cX5_init 491 = .ok (.aload_n 0, 1) := dk_42 (dk_at dksX5_init_20 15 rfl rfl)
theorem dX5_init_492 : decode cX5_init 492 = .ok (.bipush 52, 2) := dk_16 52 (dk_at dksX5_init_20 16 rfl rfl)
theorem dX5_init_494 : decode cX5_init 494 = .ok (.newarray .int, 2) := dk_188_10 (dk_at dksX5_init_20 18 rfl rfl)
theorem dX5_init_496 : decode cX5_init 496 = .ok (.putfield 179, 3) := dk_181 0 179 (dk_at dksX5_init_20 20 rfl rfl)
theorem dX5_init_499 : decode cX5_init 499 = .ok (.aload_n 0, 1) := dk_42 (dk_at dksX5_init_20 23 rfl rfl)
theorem dX5_init_500 : decode cX5_init 500 = .ok (.bipush 12, 2) := dk_16 12 (dk_at dksX5_init_21 0 rfl rfl)
theorem dX5_init_502 : decode cX5_init 502 = .ok (.newarray .int, 2) := dk_188_10 (dk_at dksX5_init_21 2 rfl rfl)
theorem dX5_init_504 : decode cX5_init 504 = .ok (.putfield 182, 3) := dk_181 0 182 (dk_at dksX5_init_21 4 rfl rfl)
theorem dX5_init_507 : decode cX5_init 507 = .ok (.aload_n 0, 1) := dk_42 (dk_at dksX5_init_21 7 rfl rfl)
theorem dX5_init_508 : decode cX5_init 508 = .ok (.bipush 12, 2) := dk_16 12 (dk_at dksX5_init_21 8 rfl rfl)
theorem dX5_init_510 : decode cX5_init 510 = .ok (.newarray .int, 2) := dk_188_10 (dk_at dksX5_init_21 10 rfl rfl)
theorem dX5_init_512 : decode cX5_init 512 = .ok (.putfield 185, 3) := dk_181 0 185 (dk_at dksX5_init_21 12 rfl rfl)
theorem dX5_init_515 : decode cX5_init 515 = .ok (.aload_n 0, 1) := dk_42 (dk_at dksX5_init_21 15 rfl rfl)
theorem dX5_init_516 : decode cX5_init 516 = .ok (.bipush 12, 2) := dk_16 12 (dk_at dksX5_init_21 16 rfl rfl)
theorem dX5_init_518 : decode cX5_init 518 = .ok (.newarray .int, 2) := dk_188_10 (dk_at dksX5_init_21 18 rfl rfl)
theorem dX5_init_520 : decode cX5_init 520 = .ok (.putfield 188, 3) := dk_181 0 188 (dk_at dksX5_init_21 20 rfl rfl)
theorem dX5_init_523 : decode cX5_init 523 = .ok (.aload_n 0, 1) := dk_42 (dk_at dksX5_init_21 23 rfl rfl)
theorem dX5_init_524 : decode cX5_init 524 = .ok (.iconst 3, 1) := dk_6 (dk_at dksX5_init_22 0 rfl rfl)
theorem dX5_init_525 : decode cX5_init 525 = .ok (.newarray .int, 2) := dk_188_10 (dk_at dksX5_init_22 1 rfl rfl)
theorem dX5_init_527 : decode cX5_init 527 = .ok (.putfield 191, 3) := dk_181 0 191 (dk_at dksX5_init_22 3 rfl rfl)
theorem dX5_init_530 : decode cX5_init 530 = .ok (.aload_n 0, 1) := dk_42 (dk_at dksX5_init_22 6 rfl rfl)
theorem dX5_init_531 : decode cX5_init 531 = .ok (.getfield 91, 3) := dk_180 0 91 (dk_at dksX5_init_22 7 rfl rfl)
theorem dX5_init_534 : decode cX5_init 534 = .ok (.iconst 0, 1) := dk_3 (dk_at dksX5_init_22 10 rfl rfl)
theorem dX5_init_535 : decode cX5_init 535 = .ok (.iconst 1, 1) := dk_4 (dk_at dksX5_init_22 11 rfl rfl)
theorem dX5_init_536 : decode cX5_init 536 = .ok (.iastore, 1) := dk_79 (dk_at dksX5_init_22 12 rfl rfl)
theorem dX5_init_537 : decode cX5_init 537 = .ok (.return_, 1) := dk_177 (dk_at dksX5_init_22 13 rfl rfl)
abbrev cX5_thrown : ByteArray := prog_23_method_2_code
def yX5_thrown : MethodName := ⟨RX5, "thrown", "()I"⟩
theorem dX5_thrown_0 : decode cX5_thrown 0 = .ok (.aload_n 0, 1) := by decide +kernel
theorem dX5_thrown_1 : decode cX5_thrown 1 = .ok (.getfield 194, 3) := by decide +kernel
theorem dX5_thrown_4 : decode cX5_thrown 4 = .ok (.ireturn, 1) := by decide +kernel
abbrev cX5_feed : ByteArray := prog_23_method_9_code
def yX5_feed : MethodName := ⟨RX5, "feed", "(IIIII)I"⟩
def dkwX5_feed_5 : List UInt8 := [167, 255, 162, 42, 180, 0, 201, 172]
abbrev dktX5_feed_5 : List UInt8 := dkwX5_feed_5 ++ []
def dkwX5_feed_4 : List UInt8 := [112, 104, 100, 122, 17, 0, 255, 126, 79, 42, 89, 180, 0, 201, 4, 96, 181, 0, 201, 132, 6, 1]
abbrev dktX5_feed_4 : List UInt8 := dkwX5_feed_4 ++ dktX5_feed_5
def dkwX5_feed_3 : List UInt8 := [167, 0, 5, 21, 5, 54, 7, 42, 180, 0, 106, 42, 180, 0, 201, 21, 7, 16, 24, 16, 8, 21, 6, 7]
abbrev dktX5_feed_3 : List UInt8 := dkwX5_feed_3 ++ dktX5_feed_4
def dkwX5_feed_2 : List UInt8 := [28, 167, 0, 28, 21, 6, 16, 12, 162, 0, 7, 29, 167, 0, 17, 21, 6, 16, 16, 162, 0, 8, 21, 4]
abbrev dktX5_feed_2 : List UInt8 := dkwX5_feed_2 ++ dktX5_feed_3
def dkwX5_feed_1 : List UInt8 := [21, 6, 16, 20, 162, 0, 93, 21, 6, 7, 162, 0, 7, 27, 167, 0, 39, 21, 6, 16, 8, 162, 0, 7]
abbrev dktX5_feed_1 : List UInt8 := dkwX5_feed_1 ++ dktX5_feed_2
def dkwX5_feed_0 : List UInt8 := [42, 3, 181, 0, 194, 42, 180, 0, 201, 16, 20, 96, 17, 2, 188, 164, 0, 5, 2, 172, 3, 54, 6]
abbrev dktX5_feed_0 : List UInt8 := dkwX5_feed_0 ++ dktX5_feed_1
theorem dksX5_feed_0 : cX5_feed.data.toList.drop 0 = dktX5_feed_0 := by decide +kernel
theorem dksX5_feed_1 : cX5_feed.data.toList.drop 23 = dktX5_feed_1 := dk_seg dksX5_feed_0 23 rfl rfl
theorem dksX5_feed_2 : cX5_feed.data.toList.drop 47 = dktX5_feed_2 := dk_seg dksX5_feed_1 24 rfl rfl
theorem dksX5_feed_3 : cX5_feed.data.toList.drop 71 = dktX5_feed_3 := dk_seg dksX5_feed_2 24 rfl rfl
theorem dksX5_feed_4 : cX5_feed.data.toList.drop 95 = dktX5_feed_4 := dk_seg dksX5_feed_3 24 rfl rfl
theorem dksX5_feed_5 : cX5_feed.data.toList.drop 117 = dktX5_feed_5 := dk_seg dksX5_feed_4 22 rfl rfl
theorem dX5_feed_0 : decode cX5_feed 0 = .ok (.aload_n 0, 1) := dk_42 (dk_at dksX5_feed_0 0 rfl rfl)
theorem dX5_feed_1 : decode cX5_feed 1 = .ok (.iconst 0, 1) := dk_3 (dk_at dksX5_feed_0 1 rfl rfl)
theorem dX5_feed_2 : decode cX5_feed 2 = .ok (.putfield 194, 3) := dk_181 0 194 (dk_at dksX5_feed_0 2 rfl rfl)
theorem dX5_feed_5 : decode cX5_feed 5 = .ok (.aload_n 0, 1) := dk_42 (dk_at dksX5_feed_0 5 rfl rfl)
theorem dX5_feed_6 : decode cX5_feed 6 = .ok (.getfield 201, 3) := dk_180 0 201 (dk_at dksX5_feed_0 6 rfl rfl)
theorem dX5_feed_9 : decode cX5_feed 9 = .ok (.bipush 20, 2) := dk_16 20 (dk_at dksX5_feed_0 9 rfl rfl)
theorem dX5_feed_11 : decode cX5_feed 11 = .ok (.iadd, 1) := dk_96 (dk_at dksX5_feed_0 11 rfl rfl)
theorem dX5_feed_12 : decode cX5_feed 12 = .ok (.sipush 700, 3) := dk_17 2 188 (dk_at dksX5_feed_0 12 rfl rfl)
theorem dX5_feed_15 : decode cX5_feed 15 = .ok (.if_icmp .le 5, 3) := dk_164 0 5 (dk_at dksX5_feed_0 15 rfl rfl)
theorem dX5_feed_18 : decode cX5_feed 18 = .ok (.iconst (-1), 1) := dk_2 (dk_at dksX5_feed_0 18 rfl rfl)
theorem dX5_feed_19 : decode cX5_feed 19 = .ok (.ireturn, 1) := dk_172 (dk_at dksX5_feed_0 19 rfl rfl)
theorem dX5_feed_20 : decode cX5_feed 20 = .ok (.iconst 0, 1) := dk_3 (dk_at dksX5_feed_0 20 rfl rfl)
theorem dX5_feed_21 : decode cX5_feed 21 = .ok (.istore 6, 2) := dk_54 6 (dk_at dksX5_feed_0 21 rfl rfl)
theorem dX5_feed_23 : decode cX5_feed 23 = .ok (.iload 6, 2) := dk_21 6 (dk_at dksX5_feed_1 0 rfl rfl)
theorem dX5_feed_25 : decode cX5_feed 25 = .ok (.bipush 20, 2) := dk_16 20 (dk_at dksX5_feed_1 2 rfl rfl)
theorem dX5_feed_27 : decode cX5_feed 27 = .ok (.if_icmp .ge 93, 3) := dk_162 0 93 (dk_at dksX5_feed_1 4 rfl rfl)
theorem dX5_feed_30 : decode cX5_feed 30 = .ok (.iload 6, 2) := dk_21 6 (dk_at dksX5_feed_1 7 rfl rfl)
theorem dX5_feed_32 : decode cX5_feed 32 = .ok (.iconst 4, 1) := dk_7 (dk_at dksX5_feed_1 9 rfl rfl)
theorem dX5_feed_33 : decode cX5_feed 33 = .ok (.if_icmp .ge 7, 3) := dk_162 0 7 (dk_at dksX5_feed_1 10 rfl rfl)
theorem dX5_feed_36 : decode cX5_feed 36 = .ok (.iload_n 1, 1) := dk_27 (dk_at dksX5_feed_1 13 rfl rfl)
theorem dX5_feed_37 : decode cX5_feed 37 = .ok (.goto 39, 3) := dk_167 0 39 (dk_at dksX5_feed_1 14 rfl rfl)
theorem dX5_feed_40 : decode cX5_feed 40 = .ok (.iload 6, 2) := dk_21 6 (dk_at dksX5_feed_1 17 rfl rfl)
theorem dX5_feed_42 : decode cX5_feed 42 = .ok (.bipush 8, 2) := dk_16 8 (dk_at dksX5_feed_1 19 rfl rfl)
theorem dX5_feed_44 : decode cX5_feed 44 = .ok (.if_icmp .ge 7, 3) := dk_162 0 7 (dk_at dksX5_feed_1 21 rfl rfl)
theorem dX5_feed_47 : decode cX5_feed 47 = .ok (.iload_n 2, 1) := dk_28 (dk_at dksX5_feed_2 0 rfl rfl)
theorem dX5_feed_48 : decode cX5_feed 48 = .ok (.goto 28, 3) := dk_167 0 28 (dk_at dksX5_feed_2 1 rfl rfl)
theorem dX5_feed_51 : decode cX5_feed 51 = .ok (.iload 6, 2) := dk_21 6 (dk_at dksX5_feed_2 4 rfl rfl)
theorem dX5_feed_53 : decode cX5_feed 53 = .ok (.bipush 12, 2) := dk_16 12 (dk_at dksX5_feed_2 6 rfl rfl)
theorem dX5_feed_55 : decode cX5_feed 55 = .ok (.if_icmp .ge 7, 3) := dk_162 0 7 (dk_at dksX5_feed_2 8 rfl rfl)
theorem dX5_feed_58 : decode cX5_feed 58 = .ok (.iload_n 3, 1) := dk_29 (dk_at dksX5_feed_2 11 rfl rfl)
theorem dX5_feed_59 : decode cX5_feed 59 = .ok (.goto 17, 3) := dk_167 0 17 (dk_at dksX5_feed_2 12 rfl rfl)
theorem dX5_feed_62 : decode cX5_feed 62 = .ok (.iload 6, 2) := dk_21 6 (dk_at dksX5_feed_2 15 rfl rfl)
theorem dX5_feed_64 : decode cX5_feed 64 = .ok (.bipush 16, 2) := dk_16 16 (dk_at dksX5_feed_2 17 rfl rfl)
theorem dX5_feed_66 : decode cX5_feed 66 = .ok (.if_icmp .ge 8, 3) := dk_162 0 8 (dk_at dksX5_feed_2 19 rfl rfl)
theorem dX5_feed_69 : decode cX5_feed 69 = .ok (.iload 4, 2) := dk_21 4 (dk_at dksX5_feed_2 22 rfl rfl)
theorem dX5_feed_71 : decode cX5_feed 71 = .ok (.goto 5, 3) := dk_167 0 5 (dk_at dksX5_feed_3 0 rfl rfl)
theorem dX5_feed_74 : decode cX5_feed 74 = .ok (.iload 5, 2) := dk_21 5 (dk_at dksX5_feed_3 3 rfl rfl)
theorem dX5_feed_76 : decode cX5_feed 76 = .ok (.istore 7, 2) := dk_54 7 (dk_at dksX5_feed_3 5 rfl rfl)
theorem dX5_feed_78 : decode cX5_feed 78 = .ok (.aload_n 0, 1) := dk_42 (dk_at dksX5_feed_3 7 rfl rfl)
theorem dX5_feed_79 : decode cX5_feed 79 = .ok (.getfield 106, 3) := dk_180 0 106 (dk_at dksX5_feed_3 8 rfl rfl)
theorem dX5_feed_82 : decode cX5_feed 82 = .ok (.aload_n 0, 1) := dk_42 (dk_at dksX5_feed_3 11 rfl rfl)
theorem dX5_feed_83 : decode cX5_feed 83 = .ok (.getfield 201, 3) := dk_180 0 201 (dk_at dksX5_feed_3 12 rfl rfl)
theorem dX5_feed_86 : decode cX5_feed 86 = .ok (.iload 7, 2) := dk_21 7 (dk_at dksX5_feed_3 15 rfl rfl)
theorem dX5_feed_88 : decode cX5_feed 88 = .ok (.bipush 24, 2) := dk_16 24 (dk_at dksX5_feed_3 17 rfl rfl)
theorem dX5_feed_90 : decode cX5_feed 90 = .ok (.bipush 8, 2) := dk_16 8 (dk_at dksX5_feed_3 19 rfl rfl)
theorem dX5_feed_92 : decode cX5_feed 92 = .ok (.iload 6, 2) := dk_21 6 (dk_at dksX5_feed_3 21 rfl rfl)
theorem dX5_feed_94 : decode cX5_feed 94 = .ok (.iconst 4, 1) := dk_7 (dk_at dksX5_feed_3 23 rfl rfl)
theorem dX5_feed_95 : decode cX5_feed 95 = .ok (.irem, 1) := dk_112 (dk_at dksX5_feed_4 0 rfl rfl)
theorem dX5_feed_96 : decode cX5_feed 96 = .ok (.imul, 1) := dk_104 (dk_at dksX5_feed_4 1 rfl rfl)
theorem dX5_feed_97 : decode cX5_feed 97 = .ok (.isub, 1) := dk_100 (dk_at dksX5_feed_4 2 rfl rfl)
theorem dX5_feed_98 : decode cX5_feed 98 = .ok (.ishr, 1) := dk_122 (dk_at dksX5_feed_4 3 rfl rfl)
theorem dX5_feed_99 : decode cX5_feed 99 = .ok (.sipush 255, 3) := dk_17 0 255 (dk_at dksX5_feed_4 4 rfl rfl)
theorem dX5_feed_102 : decode cX5_feed 102 = .ok (.iand, 1) := dk_126 (dk_at dksX5_feed_4 7 rfl rfl)
theorem dX5_feed_103 : decode cX5_feed 103 = .ok (.iastore, 1) := dk_79 (dk_at dksX5_feed_4 8 rfl rfl)
theorem dX5_feed_104 : decode cX5_feed 104 = .ok (.aload_n 0, 1) := dk_42 (dk_at dksX5_feed_4 9 rfl rfl)
theorem dX5_feed_105 : decode cX5_feed 105 = .ok (.dup, 1) := dk_89 (dk_at dksX5_feed_4 10 rfl rfl)
theorem dX5_feed_106 : decode cX5_feed 106 = .ok (.getfield 201, 3) := dk_180 0 201 (dk_at dksX5_feed_4 11 rfl rfl)
theorem dX5_feed_109 : decode cX5_feed 109 = .ok (.iconst 1, 1) := dk_4 (dk_at dksX5_feed_4 14 rfl rfl)
theorem dX5_feed_110 : decode cX5_feed 110 = .ok (.iadd, 1) := dk_96 (dk_at dksX5_feed_4 15 rfl rfl)
theorem dX5_feed_111 : decode cX5_feed 111 = .ok (.putfield 201, 3) := dk_181 0 201 (dk_at dksX5_feed_4 16 rfl rfl)
theorem dX5_feed_114 : decode cX5_feed 114 = .ok (.iinc 6 1, 3) := dk_132 6 1 (dk_at dksX5_feed_4 19 rfl rfl)
theorem dX5_feed_117 : decode cX5_feed 117 = .ok (.goto (-94), 3) := dk_167 255 162 (dk_at dksX5_feed_5 0 rfl rfl)
theorem dX5_feed_120 : decode cX5_feed 120 = .ok (.aload_n 0, 1) := dk_42 (dk_at dksX5_feed_5 3 rfl rfl)
theorem dX5_feed_121 : decode cX5_feed 121 = .ok (.getfield 201, 3) := dk_180 0 201 (dk_at dksX5_feed_5 4 rfl rfl)
theorem dX5_feed_124 : decode cX5_feed 124 = .ok (.ireturn, 1) := dk_172 (dk_at dksX5_feed_5 7 rfl rfl)
abbrev cX5_port : ByteArray := prog_23_method_31_code
def yX5_port : MethodName := ⟨RX5, "port", "(I)I"⟩
def dkwX5_port_9 : List UInt8 := [42, 180, 0, 239, 172, 42, 182, 1, 74, 3, 172]
abbrev dktX5_port_9 : List UInt8 := dkwX5_port_9 ++ []
def dkwX5_port_8 : List UInt8 := [180, 0, 239, 153, 0, 26, 42, 42, 180, 0, 242, 181, 0, 109, 42, 180, 0, 103, 3, 92, 46, 4, 96, 79]
abbrev dktX5_port_8 : List UInt8 := dkwX5_port_8 ++ dktX5_port_9
def dkwX5_port_7 : List UInt8 := [180, 0, 239, 154, 0, 19, 42, 180, 0, 217, 153, 0, 12, 42, 28, 182, 1, 70, 61, 167, 255, 236, 42]
abbrev dktX5_port_7 : List UInt8 := dkwX5_port_7 ++ dktX5_port_8
def dkwX5_port_6 : List UInt8 := [132, 2, 1, 167, 255, 229, 42, 3, 181, 1, 27, 42, 3, 181, 1, 30, 42, 182, 1, 1, 3, 61, 42]
abbrev dktX5_port_6 : List UInt8 := dkwX5_port_6 ++ dktX5_port_7
def dkwX5_port_5 : List UInt8 := [16, 10, 162, 0, 27, 42, 180, 0, 91, 16, 10, 28, 96, 28, 154, 0, 7, 4, 167, 0, 4, 3, 79]
abbrev dktX5_port_5 : List UInt8 := dkwX5_port_5 ++ dktX5_port_6
def dkwX5_port_4 : List UInt8 := [16, 24, 162, 0, 19, 42, 180, 0, 88, 16, 24, 28, 96, 3, 79, 132, 2, 1, 167, 255, 237, 3, 61, 28]
abbrev dktX5_port_4 : List UInt8 := dkwX5_port_4 ++ dktX5_port_5
def dkwX5_port_3 : List UInt8 := [167, 0, 13, 28, 8, 160, 0, 7, 4, 167, 0, 4, 3, 79, 132, 2, 1, 167, 255, 219, 3, 61, 28]
abbrev dktX5_port_3 : List UInt8 := dkwX5_port_3 ++ dktX5_port_4
def dkwX5_port_2 : List UInt8 := [3, 61, 28, 16, 6, 162, 0, 37, 42, 180, 0, 45, 16, 6, 28, 96, 28, 7, 160, 0, 7, 6]
abbrev dktX5_port_2 : List UInt8 := dkwX5_port_2 ++ dktX5_port_3
def dkwX5_port_1 : List UInt8 := [3, 181, 0, 201, 42, 27, 181, 0, 204, 42, 3, 181, 0, 207, 42, 3, 181, 0, 239, 42, 2, 181, 0, 109]
abbrev dktX5_port_1 : List UInt8 := dkwX5_port_1 ++ dktX5_port_2
def dkwX5_port_0 : List UInt8 := [42, 3, 181, 0, 194, 27, 155, 0, 11, 27, 42, 180, 0, 201, 164, 0, 9, 42, 4, 182, 1, 67, 172, 42]
abbrev dktX5_port_0 : List UInt8 := dkwX5_port_0 ++ dktX5_port_1
theorem dksX5_port_0 : cX5_port.data.toList.drop 0 = dktX5_port_0 := by decide +kernel
theorem dksX5_port_1 : cX5_port.data.toList.drop 24 = dktX5_port_1 := dk_seg dksX5_port_0 24 rfl rfl
theorem dksX5_port_2 : cX5_port.data.toList.drop 48 = dktX5_port_2 := dk_seg dksX5_port_1 24 rfl rfl
theorem dksX5_port_3 : cX5_port.data.toList.drop 70 = dktX5_port_3 := dk_seg dksX5_port_2 22 rfl rfl
theorem dksX5_port_4 : cX5_port.data.toList.drop 93 = dktX5_port_4 := dk_seg dksX5_port_3 23 rfl rfl
theorem dksX5_port_5 : cX5_port.data.toList.drop 117 = dktX5_port_5 := dk_seg dksX5_port_4 24 rfl rfl
theorem dksX5_port_6 : cX5_port.data.toList.drop 140 = dktX5_port_6 := dk_seg dksX5_port_5 23 rfl rfl
theorem dksX5_port_7 : cX5_port.data.toList.drop 163 = dktX5_port_7 := dk_seg dksX5_port_6 23 rfl rfl
theorem dksX5_port_8 : cX5_port.data.toList.drop 186 = dktX5_port_8 := dk_seg dksX5_port_7 23 rfl rfl
theorem dksX5_port_9 : cX5_port.data.toList.drop 210 = dktX5_port_9 := dk_seg dksX5_port_8 24 rfl rfl
theorem dX5_port_0 : decode cX5_port 0 = .ok (.aload_n 0, 1) := dk_42 (dk_at dksX5_port_0 0 rfl rfl)
theorem dX5_port_1 : decode cX5_port 1 = .ok (.iconst 0, 1) := dk_3 (dk_at dksX5_port_0 1 rfl rfl)
theorem dX5_port_2 : decode cX5_port 2 = .ok (.putfield 194, 3) := dk_181 0 194 (dk_at dksX5_port_0 2 rfl rfl)
theorem dX5_port_5 : decode cX5_port 5 = .ok (.iload_n 1, 1) := dk_27 (dk_at dksX5_port_0 5 rfl rfl)
theorem dX5_port_6 : decode cX5_port 6 = .ok (.ifCond .lt 11, 3) := dk_155 0 11 (dk_at dksX5_port_0 6 rfl rfl)
theorem dX5_port_9 : decode cX5_port 9 = .ok (.iload_n 1, 1) := dk_27 (dk_at dksX5_port_0 9 rfl rfl)
theorem dX5_port_10 : decode cX5_port 10 = .ok (.aload_n 0, 1) := dk_42 (dk_at dksX5_port_0 10 rfl rfl)
theorem dX5_port_11 : decode cX5_port 11 = .ok (.getfield 201, 3) := dk_180 0 201 (dk_at dksX5_port_0 11 rfl rfl)
theorem dX5_port_14 : decode cX5_port 14 = .ok (.if_icmp .le 9, 3) := dk_164 0 9 (dk_at dksX5_port_0 14 rfl rfl)
theorem dX5_port_17 : decode cX5_port 17 = .ok (.aload_n 0, 1) := dk_42 (dk_at dksX5_port_0 17 rfl rfl)
theorem dX5_port_18 : decode cX5_port 18 = .ok (.iconst 1, 1) := dk_4 (dk_at dksX5_port_0 18 rfl rfl)
theorem dX5_port_19 : decode cX5_port 19 = .ok (.invokevirtual 323, 3) := dk_182 1 67 (dk_at dksX5_port_0 19 rfl rfl)
theorem dX5_port_22 : decode cX5_port 22 = .ok (.ireturn, 1) := dk_172 (dk_at dksX5_port_0 22 rfl rfl)
theorem dX5_port_23 : decode cX5_port 23 = .ok (.aload_n 0, 1) := dk_42 (dk_at dksX5_port_0 23 rfl rfl)
theorem dX5_port_24 : decode cX5_port 24 = .ok (.iconst 0, 1) := dk_3 (dk_at dksX5_port_1 0 rfl rfl)
theorem dX5_port_25 : decode cX5_port 25 = .ok (.putfield 201, 3) := dk_181 0 201 (dk_at dksX5_port_1 1 rfl rfl)
theorem dX5_port_28 : decode cX5_port 28 = .ok (.aload_n 0, 1) := dk_42 (dk_at dksX5_port_1 4 rfl rfl)
theorem dX5_port_29 : decode cX5_port 29 = .ok (.iload_n 1, 1) := dk_27 (dk_at dksX5_port_1 5 rfl rfl)
theorem dX5_port_30 : decode cX5_port 30 = .ok (.putfield 204, 3) := dk_181 0 204 (dk_at dksX5_port_1 6 rfl rfl)
theorem dX5_port_33 : decode cX5_port 33 = .ok (.aload_n 0, 1) := dk_42 (dk_at dksX5_port_1 9 rfl rfl)
theorem dX5_port_34 : decode cX5_port 34 = .ok (.iconst 0, 1) := dk_3 (dk_at dksX5_port_1 10 rfl rfl)
theorem dX5_port_35 : decode cX5_port 35 = .ok (.putfield 207, 3) := dk_181 0 207 (dk_at dksX5_port_1 11 rfl rfl)
theorem dX5_port_38 : decode cX5_port 38 = .ok (.aload_n 0, 1) := dk_42 (dk_at dksX5_port_1 14 rfl rfl)
theorem dX5_port_39 : decode cX5_port 39 = .ok (.iconst 0, 1) := dk_3 (dk_at dksX5_port_1 15 rfl rfl)
theorem dX5_port_40 : decode cX5_port 40 = .ok (.putfield 239, 3) := dk_181 0 239 (dk_at dksX5_port_1 16 rfl rfl)
theorem dX5_port_43 : decode cX5_port 43 = .ok (.aload_n 0, 1) := dk_42 (dk_at dksX5_port_1 19 rfl rfl)
theorem dX5_port_44 : decode cX5_port 44 = .ok (.iconst (-1), 1) := dk_2 (dk_at dksX5_port_1 20 rfl rfl)
theorem dX5_port_45 : decode cX5_port 45 = .ok (.putfield 109, 3) := dk_181 0 109 (dk_at dksX5_port_1 21 rfl rfl)
theorem dX5_port_48 : decode cX5_port 48 = .ok (.iconst 0, 1) := dk_3 (dk_at dksX5_port_2 0 rfl rfl)
theorem dX5_port_49 : decode cX5_port 49 = .ok (.istore_n 2, 1) := dk_61 (dk_at dksX5_port_2 1 rfl rfl)
theorem dX5_port_50 : decode cX5_port 50 = .ok (.iload_n 2, 1) := dk_28 (dk_at dksX5_port_2 2 rfl rfl)
theorem dX5_port_51 : decode cX5_port 51 = .ok (.bipush 6, 2) := dk_16 6 (dk_at dksX5_port_2 3 rfl rfl)
theorem dX5_port_53 : decode cX5_port 53 = .ok (.if_icmp .ge 37, 3) := dk_162 0 37 (dk_at dksX5_port_2 5 rfl rfl)
theorem dX5_port_56 : decode cX5_port 56 = .ok (.aload_n 0, 1) := dk_42 (dk_at dksX5_port_2 8 rfl rfl)
theorem dX5_port_57 : decode cX5_port 57 = .ok (.getfield 45, 3) := dk_180 0 45 (dk_at dksX5_port_2 9 rfl rfl)
theorem dX5_port_60 : decode cX5_port 60 = .ok (.bipush 6, 2) := dk_16 6 (dk_at dksX5_port_2 12 rfl rfl)
theorem dX5_port_62 : decode cX5_port 62 = .ok (.iload_n 2, 1) := dk_28 (dk_at dksX5_port_2 14 rfl rfl)
theorem dX5_port_63 : decode cX5_port 63 = .ok (.iadd, 1) := dk_96 (dk_at dksX5_port_2 15 rfl rfl)
theorem dX5_port_64 : decode cX5_port 64 = .ok (.iload_n 2, 1) := dk_28 (dk_at dksX5_port_2 16 rfl rfl)
theorem dX5_port_65 : decode cX5_port 65 = .ok (.iconst 4, 1) := dk_7 (dk_at dksX5_port_2 17 rfl rfl)
theorem dX5_port_66 : decode cX5_port 66 = .ok (.if_icmp .ne 7, 3) := dk_160 0 7 (dk_at dksX5_port_2 18 rfl rfl)
theorem dX5_port_69 : decode cX5_port 69 = .ok (.iconst 3, 1) := dk_6 (dk_at dksX5_port_2 21 rfl rfl)
theorem dX5_port_70 : decode cX5_port 70 = .ok (.goto 13, 3) := dk_167 0 13 (dk_at dksX5_port_3 0 rfl rfl)
theorem dX5_port_73 : decode cX5_port 73 = .ok (.iload_n 2, 1) := dk_28 (dk_at dksX5_port_3 3 rfl rfl)
theorem dX5_port_74 : decode cX5_port 74 = .ok (.iconst 5, 1) := dk_8 (dk_at dksX5_port_3 4 rfl rfl)
theorem dX5_port_75 : decode cX5_port 75 = .ok (.if_icmp .ne 7, 3) := dk_160 0 7 (dk_at dksX5_port_3 5 rfl rfl)
theorem dX5_port_78 : decode cX5_port 78 = .ok (.iconst 1, 1) := dk_4 (dk_at dksX5_port_3 8 rfl rfl)
theorem dX5_port_79 : decode cX5_port 79 = .ok (.goto 4, 3) := dk_167 0 4 (dk_at dksX5_port_3 9 rfl rfl)
theorem dX5_port_82 : decode cX5_port 82 = .ok (.iconst 0, 1) := dk_3 (dk_at dksX5_port_3 12 rfl rfl)
theorem dX5_port_83 : decode cX5_port 83 = .ok (.iastore, 1) := dk_79 (dk_at dksX5_port_3 13 rfl rfl)
theorem dX5_port_84 : decode cX5_port 84 = .ok (.iinc 2 1, 3) := dk_132 2 1 (dk_at dksX5_port_3 14 rfl rfl)
theorem dX5_port_87 : decode cX5_port 87 = .ok (.goto (-37), 3) := dk_167 255 219 (dk_at dksX5_port_3 17 rfl rfl)
theorem dX5_port_90 : decode cX5_port 90 = .ok (.iconst 0, 1) := dk_3 (dk_at dksX5_port_3 20 rfl rfl)
theorem dX5_port_91 : decode cX5_port 91 = .ok (.istore_n 2, 1) := dk_61 (dk_at dksX5_port_3 21 rfl rfl)
theorem dX5_port_92 : decode cX5_port 92 = .ok (.iload_n 2, 1) := dk_28 (dk_at dksX5_port_3 22 rfl rfl)
theorem dX5_port_93 : decode cX5_port 93 = .ok (.bipush 24, 2) := dk_16 24 (dk_at dksX5_port_4 0 rfl rfl)
theorem dX5_port_95 : decode cX5_port 95 = .ok (.if_icmp .ge 19, 3) := dk_162 0 19 (dk_at dksX5_port_4 2 rfl rfl)
theorem dX5_port_98 : decode cX5_port 98 = .ok (.aload_n 0, 1) := dk_42 (dk_at dksX5_port_4 5 rfl rfl)
theorem dX5_port_99 : decode cX5_port 99 = .ok (.getfield 88, 3) := dk_180 0 88 (dk_at dksX5_port_4 6 rfl rfl)
theorem dX5_port_102 : decode cX5_port 102 = .ok (.bipush 24, 2) := dk_16 24 (dk_at dksX5_port_4 9 rfl rfl)
theorem dX5_port_104 : decode cX5_port 104 = .ok (.iload_n 2, 1) := dk_28 (dk_at dksX5_port_4 11 rfl rfl)
theorem dX5_port_105 : decode cX5_port 105 = .ok (.iadd, 1) := dk_96 (dk_at dksX5_port_4 12 rfl rfl)
theorem dX5_port_106 : decode cX5_port 106 = .ok (.iconst 0, 1) := dk_3 (dk_at dksX5_port_4 13 rfl rfl)
theorem dX5_port_107 : decode cX5_port 107 = .ok (.iastore, 1) := dk_79 (dk_at dksX5_port_4 14 rfl rfl)
theorem dX5_port_108 : decode cX5_port 108 = .ok (.iinc 2 1, 3) := dk_132 2 1 (dk_at dksX5_port_4 15 rfl rfl)
theorem dX5_port_111 : decode cX5_port 111 = .ok (.goto (-19), 3) := dk_167 255 237 (dk_at dksX5_port_4 18 rfl rfl)
theorem dX5_port_114 : decode cX5_port 114 = .ok (.iconst 0, 1) := dk_3 (dk_at dksX5_port_4 21 rfl rfl)
theorem dX5_port_115 : decode cX5_port 115 = .ok (.istore_n 2, 1) := dk_61 (dk_at dksX5_port_4 22 rfl rfl)
theorem dX5_port_116 : decode cX5_port 116 = .ok (.iload_n 2, 1) := dk_28 (dk_at dksX5_port_4 23 rfl rfl)
theorem dX5_port_117 : decode cX5_port 117 = .ok (.bipush 10, 2) := dk_16 10 (dk_at dksX5_port_5 0 rfl rfl)
theorem dX5_port_119 : decode cX5_port 119 = .ok (.if_icmp .ge 27, 3) := dk_162 0 27 (dk_at dksX5_port_5 2 rfl rfl)
theorem dX5_port_122 : decode cX5_port 122 = .ok (.aload_n 0, 1) := dk_42 (dk_at dksX5_port_5 5 rfl rfl)
theorem dX5_port_123 : decode cX5_port 123 = .ok (.getfield 91, 3) := dk_180 0 91 (dk_at dksX5_port_5 6 rfl rfl)
theorem dX5_port_126 : decode cX5_port 126 = .ok (.bipush 10, 2) := dk_16 10 (dk_at dksX5_port_5 9 rfl rfl)
theorem dX5_port_128 : decode cX5_port 128 = .ok (.iload_n 2, 1) := dk_28 (dk_at dksX5_port_5 11 rfl rfl)
theorem dX5_port_129 : decode cX5_port 129 = .ok (.iadd, 1) := dk_96 (dk_at dksX5_port_5 12 rfl rfl)
theorem dX5_port_130 : decode cX5_port 130 = .ok (.iload_n 2, 1) := dk_28 (dk_at dksX5_port_5 13 rfl rfl)
theorem dX5_port_131 : decode cX5_port 131 = .ok (.ifCond .ne 7, 3) := dk_154 0 7 (dk_at dksX5_port_5 14 rfl rfl)
theorem dX5_port_134 : decode cX5_port 134 = .ok (.iconst 1, 1) := dk_4 (dk_at dksX5_port_5 17 rfl rfl)
theorem dX5_port_135 : decode cX5_port 135 = .ok (.goto 4, 3) := dk_167 0 4 (dk_at dksX5_port_5 18 rfl rfl)
theorem dX5_port_138 : decode cX5_port 138 = .ok (.iconst 0, 1) := dk_3 (dk_at dksX5_port_5 21 rfl rfl)
theorem dX5_port_139 : decode cX5_port 139 = .ok (.iastore, 1) := dk_79 (dk_at dksX5_port_5 22 rfl rfl)
theorem dX5_port_140 : decode cX5_port 140 = .ok (.iinc 2 1, 3) := dk_132 2 1 (dk_at dksX5_port_6 0 rfl rfl)
theorem dX5_port_143 : decode cX5_port 143 = .ok (.goto (-27), 3) := dk_167 255 229 (dk_at dksX5_port_6 3 rfl rfl)
theorem dX5_port_146 : decode cX5_port 146 = .ok (.aload_n 0, 1) := dk_42 (dk_at dksX5_port_6 6 rfl rfl)
theorem dX5_port_147 : decode cX5_port 147 = .ok (.iconst 0, 1) := dk_3 (dk_at dksX5_port_6 7 rfl rfl)
theorem dX5_port_148 : decode cX5_port 148 = .ok (.putfield 283, 3) := dk_181 1 27 (dk_at dksX5_port_6 8 rfl rfl)
theorem dX5_port_151 : decode cX5_port 151 = .ok (.aload_n 0, 1) := dk_42 (dk_at dksX5_port_6 11 rfl rfl)
theorem dX5_port_152 : decode cX5_port 152 = .ok (.iconst 0, 1) := dk_3 (dk_at dksX5_port_6 12 rfl rfl)
theorem dX5_port_153 : decode cX5_port 153 = .ok (.putfield 286, 3) := dk_181 1 30 (dk_at dksX5_port_6 13 rfl rfl)
theorem dX5_port_156 : decode cX5_port 156 = .ok (.aload_n 0, 1) := dk_42 (dk_at dksX5_port_6 16 rfl rfl)
theorem dX5_port_157 : decode cX5_port 157 = .ok (.invokevirtual 257, 3) := dk_182 1 1 (dk_at dksX5_port_6 17 rfl rfl)
theorem dX5_port_160 : decode cX5_port 160 = .ok (.iconst 0, 1) := dk_3 (dk_at dksX5_port_6 20 rfl rfl)
theorem dX5_port_161 : decode cX5_port 161 = .ok (.istore_n 2, 1) := dk_61 (dk_at dksX5_port_6 21 rfl rfl)
theorem dX5_port_162 : decode cX5_port 162 = .ok (.aload_n 0, 1) := dk_42 (dk_at dksX5_port_6 22 rfl rfl)
theorem dX5_port_163 : decode cX5_port 163 = .ok (.getfield 239, 3) := dk_180 0 239 (dk_at dksX5_port_7 0 rfl rfl)
theorem dX5_port_166 : decode cX5_port 166 = .ok (.ifCond .ne 19, 3) := dk_154 0 19 (dk_at dksX5_port_7 3 rfl rfl)
theorem dX5_port_169 : decode cX5_port 169 = .ok (.aload_n 0, 1) := dk_42 (dk_at dksX5_port_7 6 rfl rfl)
theorem dX5_port_170 : decode cX5_port 170 = .ok (.getfield 217, 3) := dk_180 0 217 (dk_at dksX5_port_7 7 rfl rfl)
theorem dX5_port_173 : decode cX5_port 173 = .ok (.ifCond .eq 12, 3) := dk_153 0 12 (dk_at dksX5_port_7 10 rfl rfl)
theorem dX5_port_176 : decode cX5_port 176 = .ok (.aload_n 0, 1) := dk_42 (dk_at dksX5_port_7 13 rfl rfl)
theorem dX5_port_177 : decode cX5_port 177 = .ok (.iload_n 2, 1) := dk_28 (dk_at dksX5_port_7 14 rfl rfl)
theorem dX5_port_178 : decode cX5_port 178 = .ok (.invokevirtual 326, 3) := dk_182 1 70 (dk_at dksX5_port_7 15 rfl rfl)
theorem dX5_port_181 : decode cX5_port 181 = .ok (.istore_n 2, 1) := dk_61 (dk_at dksX5_port_7 18 rfl rfl)
theorem dX5_port_182 : decode cX5_port 182 = .ok (.goto (-20), 3) := dk_167 255 236 (dk_at dksX5_port_7 19 rfl rfl)
theorem dX5_port_185 : decode cX5_port 185 = .ok (.aload_n 0, 1) := dk_42 (dk_at dksX5_port_7 22 rfl rfl)
theorem dX5_port_186 : decode cX5_port 186 = .ok (.getfield 239, 3) := dk_180 0 239 (dk_at dksX5_port_8 0 rfl rfl)
theorem dX5_port_189 : decode cX5_port 189 = .ok (.ifCond .eq 26, 3) := dk_153 0 26 (dk_at dksX5_port_8 3 rfl rfl)
theorem dX5_port_192 : decode cX5_port 192 = .ok (.aload_n 0, 1) := dk_42 (dk_at dksX5_port_8 6 rfl rfl)
theorem dX5_port_193 : decode cX5_port 193 = .ok (.aload_n 0, 1) := dk_42 (dk_at dksX5_port_8 7 rfl rfl)
theorem dX5_port_194 : decode cX5_port 194 = .ok (.getfield 242, 3) := dk_180 0 242 (dk_at dksX5_port_8 8 rfl rfl)
theorem dX5_port_197 : decode cX5_port 197 = .ok (.putfield 109, 3) := dk_181 0 109 (dk_at dksX5_port_8 11 rfl rfl)
theorem dX5_port_200 : decode cX5_port 200 = .ok (.aload_n 0, 1) := dk_42 (dk_at dksX5_port_8 14 rfl rfl)
theorem dX5_port_201 : decode cX5_port 201 = .ok (.getfield 103, 3) := dk_180 0 103 (dk_at dksX5_port_8 15 rfl rfl)
theorem dX5_port_204 : decode cX5_port 204 = .ok (.iconst 0, 1) := dk_3 (dk_at dksX5_port_8 18 rfl rfl)
theorem dX5_port_205 : decode cX5_port 205 = .ok (.dup2, 1) := dk_92 (dk_at dksX5_port_8 19 rfl rfl)
theorem dX5_port_206 : decode cX5_port 206 = .ok (.iaload, 1) := dk_46 (dk_at dksX5_port_8 20 rfl rfl)
theorem dX5_port_207 : decode cX5_port 207 = .ok (.iconst 1, 1) := dk_4 (dk_at dksX5_port_8 21 rfl rfl)
theorem dX5_port_208 : decode cX5_port 208 = .ok (.iadd, 1) := dk_96 (dk_at dksX5_port_8 22 rfl rfl)
theorem dX5_port_209 : decode cX5_port 209 = .ok (.iastore, 1) := dk_79 (dk_at dksX5_port_8 23 rfl rfl)
theorem dX5_port_210 : decode cX5_port 210 = .ok (.aload_n 0, 1) := dk_42 (dk_at dksX5_port_9 0 rfl rfl)
theorem dX5_port_211 : decode cX5_port 211 = .ok (.getfield 239, 3) := dk_180 0 239 (dk_at dksX5_port_9 1 rfl rfl)
theorem dX5_port_214 : decode cX5_port 214 = .ok (.ireturn, 1) := dk_172 (dk_at dksX5_port_9 4 rfl rfl)
theorem dX5_port_215 : decode cX5_port 215 = .ok (.aload_n 0, 1) := dk_42 (dk_at dksX5_port_9 5 rfl rfl)
theorem dX5_port_216 : decode cX5_port 216 = .ok (.invokevirtual 330, 3) := dk_182 1 74 (dk_at dksX5_port_9 6 rfl rfl)
theorem dX5_port_219 : decode cX5_port 219 = .ok (.iconst 0, 1) := dk_3 (dk_at dksX5_port_9 9 rfl rfl)
theorem dX5_port_220 : decode cX5_port 220 = .ok (.ireturn, 1) := dk_172 (dk_at dksX5_port_9 10 rfl rfl)
abbrev cX5_fail : ByteArray := prog_23_method_3_code
def yX5_fail : MethodName := ⟨RX5, "fail", "(I)I"⟩
def dkwX5_fail_0 : List UInt8 := [42, 27, 181, 0, 194, 3, 172]
abbrev dktX5_fail_0 : List UInt8 := dkwX5_fail_0 ++ []
theorem dksX5_fail_0 : cX5_fail.data.toList.drop 0 = dktX5_fail_0 := by decide +kernel
theorem dX5_fail_0 : decode cX5_fail 0 = .ok (.aload_n 0, 1) := dk_42 (dk_at dksX5_fail_0 0 rfl rfl)
theorem dX5_fail_1 : decode cX5_fail 1 = .ok (.iload_n 1, 1) := dk_27 (dk_at dksX5_fail_0 1 rfl rfl)
theorem dX5_fail_2 : decode cX5_fail 2 = .ok (.putfield 194, 3) := dk_181 0 194 (dk_at dksX5_fail_0 2 rfl rfl)
theorem dX5_fail_5 : decode cX5_fail 5 = .ok (.iconst 0, 1) := dk_3 (dk_at dksX5_fail_0 5 rfl rfl)
theorem dX5_fail_6 : decode cX5_fail 6 = .ok (.ireturn, 1) := dk_172 (dk_at dksX5_fail_0 6 rfl rfl)
abbrev cX5_stepOn : ByteArray := prog_23_method_13_code
def yX5_stepOn : MethodName := ⟨RX5, "stepOn", "()V"⟩
def dkwX5_stepOn_9 : List UInt8 := [7, 181, 0, 217, 42, 42, 180, 0, 207, 181, 0, 236, 177]
abbrev dktX5_stepOn_9 : List UInt8 := dkwX5_stepOn_9 ++ []
def dkwX5_stepOn_8 : List UInt8 := [167, 0, 28, 42, 89, 180, 0, 207, 4, 96, 181, 0, 207, 42, 27, 16, 59, 160, 0, 7, 6, 167, 0, 4]
abbrev dktX5_stepOn_8 : List UInt8 := dkwX5_stepOn_8 ++ dktX5_stepOn_9
def dkwX5_stepOn_7 : List UInt8 := [184, 0, 230, 181, 0, 227, 42, 89, 180, 0, 207, 4, 96, 181, 0, 207, 167, 255, 203, 42, 5, 181, 0, 217]
abbrev dktX5_stepOn_7 : List UInt8 := dkwX5_stepOn_7 ++ dktX5_stepOn_8
def dkwX5_stepOn_6 : List UInt8 := [17, 39, 16, 16, 10, 42, 180, 0, 227, 104, 42, 42, 180, 0, 207, 182, 0, 210, 96, 16, 48, 100]
abbrev dktX5_stepOn_6 : List UInt8 := dkwX5_stepOn_6 ++ dktX5_stepOn_7
def dkwX5_stepOn_5 : List UInt8 := [153, 0, 72, 42, 3, 181, 0, 227, 42, 42, 180, 0, 207, 182, 0, 210, 184, 0, 224, 153, 0, 45, 42]
abbrev dktX5_stepOn_5 : List UInt8 := dkwX5_stepOn_5 ++ dktX5_stepOn_6
def dkwX5_stepOn_4 : List UInt8 := [180, 0, 207, 4, 96, 181, 0, 207, 167, 255, 232, 42, 4, 181, 0, 217, 167, 0, 104, 27, 184, 0, 224]
abbrev dktX5_stepOn_4 : List UInt8 := dkwX5_stepOn_4 ++ dktX5_stepOn_5
def dkwX5_stepOn_3 : List UInt8 := [184, 0, 220, 153, 0, 38, 42, 42, 180, 0, 207, 182, 0, 210, 184, 0, 220, 153, 0, 16, 42, 89]
abbrev dktX5_stepOn_3 : List UInt8 := dkwX5_stepOn_3 ++ dktX5_stepOn_4
def dkwX5_stepOn_2 : List UInt8 := [42, 42, 180, 0, 207, 182, 0, 210, 60, 27, 2, 160, 0, 11, 42, 3, 181, 0, 217, 167, 0, 146, 27]
abbrev dktX5_stepOn_2 : List UInt8 := dkwX5_stepOn_2 ++ dktX5_stepOn_3
def dkwX5_stepOn_1 : List UInt8 := [160, 0, 16, 42, 89, 180, 0, 207, 4, 96, 181, 0, 207, 167, 255, 220, 42, 42, 180, 0, 207, 181, 0, 214]
abbrev dktX5_stepOn_1 : List UInt8 := dkwX5_stepOn_1 ++ dktX5_stepOn_2
def dkwX5_stepOn_0 : List UInt8 := [42, 42, 180, 0, 207, 182, 0, 210, 16, 32, 159, 0, 16, 42, 42, 180, 0, 207, 182, 0, 210, 16, 10]
abbrev dktX5_stepOn_0 : List UInt8 := dkwX5_stepOn_0 ++ dktX5_stepOn_1
theorem dksX5_stepOn_0 : cX5_stepOn.data.toList.drop 0 = dktX5_stepOn_0 := by decide +kernel
theorem dksX5_stepOn_1 : cX5_stepOn.data.toList.drop 23 = dktX5_stepOn_1 := dk_seg dksX5_stepOn_0 23 rfl rfl
theorem dksX5_stepOn_2 : cX5_stepOn.data.toList.drop 47 = dktX5_stepOn_2 := dk_seg dksX5_stepOn_1 24 rfl rfl
theorem dksX5_stepOn_3 : cX5_stepOn.data.toList.drop 70 = dktX5_stepOn_3 := dk_seg dksX5_stepOn_2 23 rfl rfl
theorem dksX5_stepOn_4 : cX5_stepOn.data.toList.drop 92 = dktX5_stepOn_4 := dk_seg dksX5_stepOn_3 22 rfl rfl
theorem dksX5_stepOn_5 : cX5_stepOn.data.toList.drop 115 = dktX5_stepOn_5 := dk_seg dksX5_stepOn_4 23 rfl rfl
theorem dksX5_stepOn_6 : cX5_stepOn.data.toList.drop 138 = dktX5_stepOn_6 := dk_seg dksX5_stepOn_5 23 rfl rfl
theorem dksX5_stepOn_7 : cX5_stepOn.data.toList.drop 160 = dktX5_stepOn_7 := dk_seg dksX5_stepOn_6 22 rfl rfl
theorem dksX5_stepOn_8 : cX5_stepOn.data.toList.drop 184 = dktX5_stepOn_8 := dk_seg dksX5_stepOn_7 24 rfl rfl
theorem dksX5_stepOn_9 : cX5_stepOn.data.toList.drop 208 = dktX5_stepOn_9 := dk_seg dksX5_stepOn_8 24 rfl rfl
theorem dX5_stepOn_0 : decode cX5_stepOn 0 = .ok (.aload_n 0, 1) := dk_42 (dk_at dksX5_stepOn_0 0 rfl rfl)
theorem dX5_stepOn_1 : decode cX5_stepOn 1 = .ok (.aload_n 0, 1) := dk_42 (dk_at dksX5_stepOn_0 1 rfl rfl)
theorem dX5_stepOn_2 : decode cX5_stepOn 2 = .ok (.getfield 207, 3) := dk_180 0 207 (dk_at dksX5_stepOn_0 2 rfl rfl)
theorem dX5_stepOn_5 : decode cX5_stepOn 5 = .ok (.invokevirtual 210, 3) := dk_182 0 210 (dk_at dksX5_stepOn_0 5 rfl rfl)
theorem dX5_stepOn_8 : decode cX5_stepOn 8 = .ok (.bipush 32, 2) := dk_16 32 (dk_at dksX5_stepOn_0 8 rfl rfl)
theorem dX5_stepOn_10 : decode cX5_stepOn 10 = .ok (.if_icmp .eq 16, 3) := dk_159 0 16 (dk_at dksX5_stepOn_0 10 rfl rfl)
theorem dX5_stepOn_13 : decode cX5_stepOn 13 = .ok (.aload_n 0, 1) := dk_42 (dk_at dksX5_stepOn_0 13 rfl rfl)
theorem dX5_stepOn_14 : decode cX5_stepOn 14 = .ok (.aload_n 0, 1) := dk_42 (dk_at dksX5_stepOn_0 14 rfl rfl)
theorem dX5_stepOn_15 : decode cX5_stepOn 15 = .ok (.getfield 207, 3) := dk_180 0 207 (dk_at dksX5_stepOn_0 15 rfl rfl)
theorem dX5_stepOn_18 : decode cX5_stepOn 18 = .ok (.invokevirtual 210, 3) := dk_182 0 210 (dk_at dksX5_stepOn_0 18 rfl rfl)
theorem dX5_stepOn_21 : decode cX5_stepOn 21 = .ok (.bipush 10, 2) := dk_16 10 (dk_at dksX5_stepOn_0 21 rfl rfl)
theorem dX5_stepOn_23 : decode cX5_stepOn 23 = .ok (.if_icmp .ne 16, 3) := dk_160 0 16 (dk_at dksX5_stepOn_1 0 rfl rfl)
theorem dX5_stepOn_26 : decode cX5_stepOn 26 = .ok (.aload_n 0, 1) := dk_42 (dk_at dksX5_stepOn_1 3 rfl rfl)
theorem dX5_stepOn_27 : decode cX5_stepOn 27 = .ok (.dup, 1) := dk_89 (dk_at dksX5_stepOn_1 4 rfl rfl)
theorem dX5_stepOn_28 : decode cX5_stepOn 28 = .ok (.getfield 207, 3) := dk_180 0 207 (dk_at dksX5_stepOn_1 5 rfl rfl)
theorem dX5_stepOn_31 : decode cX5_stepOn 31 = .ok (.iconst 1, 1) := dk_4 (dk_at dksX5_stepOn_1 8 rfl rfl)
theorem dX5_stepOn_32 : decode cX5_stepOn 32 = .ok (.iadd, 1) := dk_96 (dk_at dksX5_stepOn_1 9 rfl rfl)
theorem dX5_stepOn_33 : decode cX5_stepOn 33 = .ok (.putfield 207, 3) := dk_181 0 207 (dk_at dksX5_stepOn_1 10 rfl rfl)
theorem dX5_stepOn_36 : decode cX5_stepOn 36 = .ok (.goto (-36), 3) := dk_167 255 220 (dk_at dksX5_stepOn_1 13 rfl rfl)
theorem dX5_stepOn_39 : decode cX5_stepOn 39 = .ok (.aload_n 0, 1) := dk_42 (dk_at dksX5_stepOn_1 16 rfl rfl)
theorem dX5_stepOn_40 : decode cX5_stepOn 40 = .ok (.aload_n 0, 1) := dk_42 (dk_at dksX5_stepOn_1 17 rfl rfl)
theorem dX5_stepOn_41 : decode cX5_stepOn 41 = .ok (.getfield 207, 3) := dk_180 0 207 (dk_at dksX5_stepOn_1 18 rfl rfl)
theorem dX5_stepOn_44 : decode cX5_stepOn 44 = .ok (.putfield 214, 3) := dk_181 0 214 (dk_at dksX5_stepOn_1 21 rfl rfl)
theorem dX5_stepOn_47 : decode cX5_stepOn 47 = .ok (.aload_n 0, 1) := dk_42 (dk_at dksX5_stepOn_2 0 rfl rfl)
theorem dX5_stepOn_48 : decode cX5_stepOn 48 = .ok (.aload_n 0, 1) := dk_42 (dk_at dksX5_stepOn_2 1 rfl rfl)
theorem dX5_stepOn_49 : decode cX5_stepOn 49 = .ok (.getfield 207, 3) := dk_180 0 207 (dk_at dksX5_stepOn_2 2 rfl rfl)
theorem dX5_stepOn_52 : decode cX5_stepOn 52 = .ok (.invokevirtual 210, 3) := dk_182 0 210 (dk_at dksX5_stepOn_2 5 rfl rfl)
theorem dX5_stepOn_55 : decode cX5_stepOn 55 = .ok (.istore_n 1, 1) := dk_60 (dk_at dksX5_stepOn_2 8 rfl rfl)
theorem dX5_stepOn_56 : decode cX5_stepOn 56 = .ok (.iload_n 1, 1) := dk_27 (dk_at dksX5_stepOn_2 9 rfl rfl)
theorem dX5_stepOn_57 : decode cX5_stepOn 57 = .ok (.iconst (-1), 1) := dk_2 (dk_at dksX5_stepOn_2 10 rfl rfl)
theorem dX5_stepOn_58 : decode cX5_stepOn 58 = .ok (.if_icmp .ne 11, 3) := dk_160 0 11 (dk_at dksX5_stepOn_2 11 rfl rfl)
theorem dX5_stepOn_61 : decode cX5_stepOn 61 = .ok (.aload_n 0, 1) := dk_42 (dk_at dksX5_stepOn_2 14 rfl rfl)
theorem dX5_stepOn_62 : decode cX5_stepOn 62 = .ok (.iconst 0, 1) := dk_3 (dk_at dksX5_stepOn_2 15 rfl rfl)
theorem dX5_stepOn_63 : decode cX5_stepOn 63 = .ok (.putfield 217, 3) := dk_181 0 217 (dk_at dksX5_stepOn_2 16 rfl rfl)
theorem dX5_stepOn_66 : decode cX5_stepOn 66 = .ok (.goto 146, 3) := dk_167 0 146 (dk_at dksX5_stepOn_2 19 rfl rfl)
theorem dX5_stepOn_69 : decode cX5_stepOn 69 = .ok (.iload_n 1, 1) := dk_27 (dk_at dksX5_stepOn_2 22 rfl rfl)
theorem dX5_stepOn_70 : decode cX5_stepOn 70 = .ok (.invokestatic 220, 3) := dk_184 0 220 (dk_at dksX5_stepOn_3 0 rfl rfl)
theorem dX5_stepOn_73 : decode cX5_stepOn 73 = .ok (.ifCond .eq 38, 3) := dk_153 0 38 (dk_at dksX5_stepOn_3 3 rfl rfl)
theorem dX5_stepOn_76 : decode cX5_stepOn 76 = .ok (.aload_n 0, 1) := dk_42 (dk_at dksX5_stepOn_3 6 rfl rfl)
theorem dX5_stepOn_77 : decode cX5_stepOn 77 = .ok (.aload_n 0, 1) := dk_42 (dk_at dksX5_stepOn_3 7 rfl rfl)
theorem dX5_stepOn_78 : decode cX5_stepOn 78 = .ok (.getfield 207, 3) := dk_180 0 207 (dk_at dksX5_stepOn_3 8 rfl rfl)
theorem dX5_stepOn_81 : decode cX5_stepOn 81 = .ok (.invokevirtual 210, 3) := dk_182 0 210 (dk_at dksX5_stepOn_3 11 rfl rfl)
theorem dX5_stepOn_84 : decode cX5_stepOn 84 = .ok (.invokestatic 220, 3) := dk_184 0 220 (dk_at dksX5_stepOn_3 14 rfl rfl)
theorem dX5_stepOn_87 : decode cX5_stepOn 87 = .ok (.ifCond .eq 16, 3) := dk_153 0 16 (dk_at dksX5_stepOn_3 17 rfl rfl)
theorem dX5_stepOn_90 : decode cX5_stepOn 90 = .ok (.aload_n 0, 1) := dk_42 (dk_at dksX5_stepOn_3 20 rfl rfl)
theorem dX5_stepOn_91 : decode cX5_stepOn 91 = .ok (.dup, 1) := dk_89 (dk_at dksX5_stepOn_3 21 rfl rfl)
theorem dX5_stepOn_92 : decode cX5_stepOn 92 = .ok (.getfield 207, 3) := dk_180 0 207 (dk_at dksX5_stepOn_4 0 rfl rfl)
theorem dX5_stepOn_95 : decode cX5_stepOn 95 = .ok (.iconst 1, 1) := dk_4 (dk_at dksX5_stepOn_4 3 rfl rfl)
theorem dX5_stepOn_96 : decode cX5_stepOn 96 = .ok (.iadd, 1) := dk_96 (dk_at dksX5_stepOn_4 4 rfl rfl)
theorem dX5_stepOn_97 : decode cX5_stepOn 97 = .ok (.putfield 207, 3) := dk_181 0 207 (dk_at dksX5_stepOn_4 5 rfl rfl)
theorem dX5_stepOn_100 : decode cX5_stepOn 100 = .ok (.goto (-24), 3) := dk_167 255 232 (dk_at dksX5_stepOn_4 8 rfl rfl)
theorem dX5_stepOn_103 : decode cX5_stepOn 103 = .ok (.aload_n 0, 1) := dk_42 (dk_at dksX5_stepOn_4 11 rfl rfl)
theorem dX5_stepOn_104 : decode cX5_stepOn 104 = .ok (.iconst 1, 1) := dk_4 (dk_at dksX5_stepOn_4 12 rfl rfl)
theorem dX5_stepOn_105 : decode cX5_stepOn 105 = .ok (.putfield 217, 3) := dk_181 0 217 (dk_at dksX5_stepOn_4 13 rfl rfl)
theorem dX5_stepOn_108 : decode cX5_stepOn 108 = .ok (.goto 104, 3) := dk_167 0 104 (dk_at dksX5_stepOn_4 16 rfl rfl)
theorem dX5_stepOn_111 : decode cX5_stepOn 111 = .ok (.iload_n 1, 1) := dk_27 (dk_at dksX5_stepOn_4 19 rfl rfl)
theorem dX5_stepOn_112 : decode cX5_stepOn 112 = .ok (.invokestatic 224, 3) := dk_184 0 224 (dk_at dksX5_stepOn_4 20 rfl rfl)
theorem dX5_stepOn_115 : decode cX5_stepOn 115 = .ok (.ifCond .eq 72, 3) := dk_153 0 72 (dk_at dksX5_stepOn_5 0 rfl rfl)
theorem dX5_stepOn_118 : decode cX5_stepOn 118 = .ok (.aload_n 0, 1) := dk_42 (dk_at dksX5_stepOn_5 3 rfl rfl)
theorem dX5_stepOn_119 : decode cX5_stepOn 119 = .ok (.iconst 0, 1) := dk_3 (dk_at dksX5_stepOn_5 4 rfl rfl)
theorem dX5_stepOn_120 : decode cX5_stepOn 120 = .ok (.putfield 227, 3) := dk_181 0 227 (dk_at dksX5_stepOn_5 5 rfl rfl)
theorem dX5_stepOn_123 : decode cX5_stepOn 123 = .ok (.aload_n 0, 1) := dk_42 (dk_at dksX5_stepOn_5 8 rfl rfl)
theorem dX5_stepOn_124 : decode cX5_stepOn 124 = .ok (.aload_n 0, 1) := dk_42 (dk_at dksX5_stepOn_5 9 rfl rfl)
theorem dX5_stepOn_125 : decode cX5_stepOn 125 = .ok (.getfield 207, 3) := dk_180 0 207 (dk_at dksX5_stepOn_5 10 rfl rfl)
theorem dX5_stepOn_128 : decode cX5_stepOn 128 = .ok (.invokevirtual 210, 3) := dk_182 0 210 (dk_at dksX5_stepOn_5 13 rfl rfl)
theorem dX5_stepOn_131 : decode cX5_stepOn 131 = .ok (.invokestatic 224, 3) := dk_184 0 224 (dk_at dksX5_stepOn_5 16 rfl rfl)
theorem dX5_stepOn_134 : decode cX5_stepOn 134 = .ok (.ifCond .eq 45, 3) := dk_153 0 45 (dk_at dksX5_stepOn_5 19 rfl rfl)
theorem dX5_stepOn_137 : decode cX5_stepOn 137 = .ok (.aload_n 0, 1) := dk_42 (dk_at dksX5_stepOn_5 22 rfl rfl)
theorem dX5_stepOn_138 : decode cX5_stepOn 138 = .ok (.sipush 10000, 3) := dk_17 39 16 (dk_at dksX5_stepOn_6 0 rfl rfl)
theorem dX5_stepOn_141 : decode cX5_stepOn 141 = .ok (.bipush 10, 2) := dk_16 10 (dk_at dksX5_stepOn_6 3 rfl rfl)
theorem dX5_stepOn_143 : decode cX5_stepOn 143 = .ok (.aload_n 0, 1) := dk_42 (dk_at dksX5_stepOn_6 5 rfl rfl)
theorem dX5_stepOn_144 : decode cX5_stepOn 144 = .ok (.getfield 227, 3) := dk_180 0 227 (dk_at dksX5_stepOn_6 6 rfl rfl)
theorem dX5_stepOn_147 : decode cX5_stepOn 147 = .ok (.imul, 1) := dk_104 (dk_at dksX5_stepOn_6 9 rfl rfl)
theorem dX5_stepOn_148 : decode cX5_stepOn 148 = .ok (.aload_n 0, 1) := dk_42 (dk_at dksX5_stepOn_6 10 rfl rfl)
theorem dX5_stepOn_149 : decode cX5_stepOn 149 = .ok (.aload_n 0, 1) := dk_42 (dk_at dksX5_stepOn_6 11 rfl rfl)
theorem dX5_stepOn_150 : decode cX5_stepOn 150 = .ok (.getfield 207, 3) := dk_180 0 207 (dk_at dksX5_stepOn_6 12 rfl rfl)
theorem dX5_stepOn_153 : decode cX5_stepOn 153 = .ok (.invokevirtual 210, 3) := dk_182 0 210 (dk_at dksX5_stepOn_6 15 rfl rfl)
theorem dX5_stepOn_156 : decode cX5_stepOn 156 = .ok (.iadd, 1) := dk_96 (dk_at dksX5_stepOn_6 18 rfl rfl)
theorem dX5_stepOn_157 : decode cX5_stepOn 157 = .ok (.bipush 48, 2) := dk_16 48 (dk_at dksX5_stepOn_6 19 rfl rfl)
theorem dX5_stepOn_159 : decode cX5_stepOn 159 = .ok (.isub, 1) := dk_100 (dk_at dksX5_stepOn_6 21 rfl rfl)
theorem dX5_stepOn_160 : decode cX5_stepOn 160 = .ok (.invokestatic 230, 3) := dk_184 0 230 (dk_at dksX5_stepOn_7 0 rfl rfl)
theorem dX5_stepOn_163 : decode cX5_stepOn 163 = .ok (.putfield 227, 3) := dk_181 0 227 (dk_at dksX5_stepOn_7 3 rfl rfl)
theorem dX5_stepOn_166 : decode cX5_stepOn 166 = .ok (.aload_n 0, 1) := dk_42 (dk_at dksX5_stepOn_7 6 rfl rfl)
theorem dX5_stepOn_167 : decode cX5_stepOn 167 = .ok (.dup, 1) := dk_89 (dk_at dksX5_stepOn_7 7 rfl rfl)
theorem dX5_stepOn_168 : decode cX5_stepOn 168 = .ok (.getfield 207, 3) := dk_180 0 207 (dk_at dksX5_stepOn_7 8 rfl rfl)
theorem dX5_stepOn_171 : decode cX5_stepOn 171 = .ok (.iconst 1, 1) := dk_4 (dk_at dksX5_stepOn_7 11 rfl rfl)
theorem dX5_stepOn_172 : decode cX5_stepOn 172 = .ok (.iadd, 1) := dk_96 (dk_at dksX5_stepOn_7 12 rfl rfl)
theorem dX5_stepOn_173 : decode cX5_stepOn 173 = .ok (.putfield 207, 3) := dk_181 0 207 (dk_at dksX5_stepOn_7 13 rfl rfl)
theorem dX5_stepOn_176 : decode cX5_stepOn 176 = .ok (.goto (-53), 3) := dk_167 255 203 (dk_at dksX5_stepOn_7 16 rfl rfl)
theorem dX5_stepOn_179 : decode cX5_stepOn 179 = .ok (.aload_n 0, 1) := dk_42 (dk_at dksX5_stepOn_7 19 rfl rfl)
theorem dX5_stepOn_180 : decode cX5_stepOn 180 = .ok (.iconst 2, 1) := dk_5 (dk_at dksX5_stepOn_7 20 rfl rfl)
theorem dX5_stepOn_181 : decode cX5_stepOn 181 = .ok (.putfield 217, 3) := dk_181 0 217 (dk_at dksX5_stepOn_7 21 rfl rfl)
theorem dX5_stepOn_184 : decode cX5_stepOn 184 = .ok (.goto 28, 3) := dk_167 0 28 (dk_at dksX5_stepOn_8 0 rfl rfl)
theorem dX5_stepOn_187 : decode cX5_stepOn 187 = .ok (.aload_n 0, 1) := dk_42 (dk_at dksX5_stepOn_8 3 rfl rfl)
theorem dX5_stepOn_188 : decode cX5_stepOn 188 = .ok (.dup, 1) := dk_89 (dk_at dksX5_stepOn_8 4 rfl rfl)
theorem dX5_stepOn_189 : decode cX5_stepOn 189 = .ok (.getfield 207, 3) := dk_180 0 207 (dk_at dksX5_stepOn_8 5 rfl rfl)
theorem dX5_stepOn_192 : decode cX5_stepOn 192 = .ok (.iconst 1, 1) := dk_4 (dk_at dksX5_stepOn_8 8 rfl rfl)
theorem dX5_stepOn_193 : decode cX5_stepOn 193 = .ok (.iadd, 1) := dk_96 (dk_at dksX5_stepOn_8 9 rfl rfl)
theorem dX5_stepOn_194 : decode cX5_stepOn 194 = .ok (.putfield 207, 3) := dk_181 0 207 (dk_at dksX5_stepOn_8 10 rfl rfl)
theorem dX5_stepOn_197 : decode cX5_stepOn 197 = .ok (.aload_n 0, 1) := dk_42 (dk_at dksX5_stepOn_8 13 rfl rfl)
theorem dX5_stepOn_198 : decode cX5_stepOn 198 = .ok (.iload_n 1, 1) := dk_27 (dk_at dksX5_stepOn_8 14 rfl rfl)
theorem dX5_stepOn_199 : decode cX5_stepOn 199 = .ok (.bipush 59, 2) := dk_16 59 (dk_at dksX5_stepOn_8 15 rfl rfl)
theorem dX5_stepOn_201 : decode cX5_stepOn 201 = .ok (.if_icmp .ne 7, 3) := dk_160 0 7 (dk_at dksX5_stepOn_8 17 rfl rfl)
theorem dX5_stepOn_204 : decode cX5_stepOn 204 = .ok (.iconst 3, 1) := dk_6 (dk_at dksX5_stepOn_8 20 rfl rfl)
theorem dX5_stepOn_205 : decode cX5_stepOn 205 = .ok (.goto 4, 3) := dk_167 0 4 (dk_at dksX5_stepOn_8 21 rfl rfl)
theorem dX5_stepOn_208 : decode cX5_stepOn 208 = .ok (.iconst 4, 1) := dk_7 (dk_at dksX5_stepOn_9 0 rfl rfl)
theorem dX5_stepOn_209 : decode cX5_stepOn 209 = .ok (.putfield 217, 3) := dk_181 0 217 (dk_at dksX5_stepOn_9 1 rfl rfl)
theorem dX5_stepOn_212 : decode cX5_stepOn 212 = .ok (.aload_n 0, 1) := dk_42 (dk_at dksX5_stepOn_9 4 rfl rfl)
theorem dX5_stepOn_213 : decode cX5_stepOn 213 = .ok (.aload_n 0, 1) := dk_42 (dk_at dksX5_stepOn_9 5 rfl rfl)
theorem dX5_stepOn_214 : decode cX5_stepOn 214 = .ok (.getfield 207, 3) := dk_180 0 207 (dk_at dksX5_stepOn_9 6 rfl rfl)
theorem dX5_stepOn_217 : decode cX5_stepOn 217 = .ok (.putfield 236, 3) := dk_181 0 236 (dk_at dksX5_stepOn_9 9 rfl rfl)
theorem dX5_stepOn_220 : decode cX5_stepOn 220 = .ok (.return_, 1) := dk_177 (dk_at dksX5_stepOn_9 12 rfl rfl)
abbrev cX5_byteAt : ByteArray := prog_23_method_10_code
def yX5_byteAt : MethodName := ⟨RX5, "byteAt", "(I)I"⟩
def dkwX5_byteAt_0 : List UInt8 := [27, 42, 180, 0, 204, 162, 0, 12, 42, 180, 0, 106, 27, 46, 167, 0, 4, 2, 172]
abbrev dktX5_byteAt_0 : List UInt8 := dkwX5_byteAt_0 ++ []
theorem dksX5_byteAt_0 : cX5_byteAt.data.toList.drop 0 = dktX5_byteAt_0 := by decide +kernel
theorem dX5_byteAt_0 : decode cX5_byteAt 0 = .ok (.iload_n 1, 1) := dk_27 (dk_at dksX5_byteAt_0 0 rfl rfl)
theorem dX5_byteAt_1 : decode cX5_byteAt 1 = .ok (.aload_n 0, 1) := dk_42 (dk_at dksX5_byteAt_0 1 rfl rfl)
theorem dX5_byteAt_2 : decode cX5_byteAt 2 = .ok (.getfield 204, 3) := dk_180 0 204 (dk_at dksX5_byteAt_0 2 rfl rfl)
theorem dX5_byteAt_5 : decode cX5_byteAt 5 = .ok (.if_icmp .ge 12, 3) := dk_162 0 12 (dk_at dksX5_byteAt_0 5 rfl rfl)
theorem dX5_byteAt_8 : decode cX5_byteAt 8 = .ok (.aload_n 0, 1) := dk_42 (dk_at dksX5_byteAt_0 8 rfl rfl)
theorem dX5_byteAt_9 : decode cX5_byteAt 9 = .ok (.getfield 106, 3) := dk_180 0 106 (dk_at dksX5_byteAt_0 9 rfl rfl)
theorem dX5_byteAt_12 : decode cX5_byteAt 12 = .ok (.iload_n 1, 1) := dk_27 (dk_at dksX5_byteAt_0 12 rfl rfl)
theorem dX5_byteAt_13 : decode cX5_byteAt 13 = .ok (.iaload, 1) := dk_46 (dk_at dksX5_byteAt_0 13 rfl rfl)
theorem dX5_byteAt_14 : decode cX5_byteAt 14 = .ok (.goto 4, 3) := dk_167 0 4 (dk_at dksX5_byteAt_0 14 rfl rfl)
theorem dX5_byteAt_17 : decode cX5_byteAt 17 = .ok (.iconst (-1), 1) := dk_2 (dk_at dksX5_byteAt_0 17 rfl rfl)
theorem dX5_byteAt_18 : decode cX5_byteAt 18 = .ok (.ireturn, 1) := dk_172 (dk_at dksX5_byteAt_0 18 rfl rfl)
abbrev cX5_isLetter : ByteArray := prog_23_method_11_code
def yX5_isLetter : MethodName := ⟨RX5, "isLetter", "(I)Z"⟩
def dkwX5_isLetter_0 : List UInt8 := [26, 16, 97, 161, 0, 13, 26, 16, 122, 163, 0, 7, 4, 167, 0, 4, 3, 172]
abbrev dktX5_isLetter_0 : List UInt8 := dkwX5_isLetter_0 ++ []
theorem dksX5_isLetter_0 : cX5_isLetter.data.toList.drop 0 = dktX5_isLetter_0 := by decide +kernel
theorem dX5_isLetter_0 : decode cX5_isLetter 0 = .ok (.iload_n 0, 1) := dk_26 (dk_at dksX5_isLetter_0 0 rfl rfl)
theorem dX5_isLetter_1 : decode cX5_isLetter 1 = .ok (.bipush 97, 2) := dk_16 97 (dk_at dksX5_isLetter_0 1 rfl rfl)
theorem dX5_isLetter_3 : decode cX5_isLetter 3 = .ok (.if_icmp .lt 13, 3) := dk_161 0 13 (dk_at dksX5_isLetter_0 3 rfl rfl)
theorem dX5_isLetter_6 : decode cX5_isLetter 6 = .ok (.iload_n 0, 1) := dk_26 (dk_at dksX5_isLetter_0 6 rfl rfl)
theorem dX5_isLetter_7 : decode cX5_isLetter 7 = .ok (.bipush 122, 2) := dk_16 122 (dk_at dksX5_isLetter_0 7 rfl rfl)
theorem dX5_isLetter_9 : decode cX5_isLetter 9 = .ok (.if_icmp .gt 7, 3) := dk_163 0 7 (dk_at dksX5_isLetter_0 9 rfl rfl)
theorem dX5_isLetter_12 : decode cX5_isLetter 12 = .ok (.iconst 1, 1) := dk_4 (dk_at dksX5_isLetter_0 12 rfl rfl)
theorem dX5_isLetter_13 : decode cX5_isLetter 13 = .ok (.goto 4, 3) := dk_167 0 4 (dk_at dksX5_isLetter_0 13 rfl rfl)
theorem dX5_isLetter_16 : decode cX5_isLetter 16 = .ok (.iconst 0, 1) := dk_3 (dk_at dksX5_isLetter_0 16 rfl rfl)
theorem dX5_isLetter_17 : decode cX5_isLetter 17 = .ok (.ireturn, 1) := dk_172 (dk_at dksX5_isLetter_0 17 rfl rfl)
abbrev cX5_isDigit : ByteArray := prog_23_method_12_code
def yX5_isDigit : MethodName := ⟨RX5, "isDigit", "(I)Z"⟩
def dkwX5_isDigit_0 : List UInt8 := [26, 16, 48, 161, 0, 13, 26, 16, 57, 163, 0, 7, 4, 167, 0, 4, 3, 172]
abbrev dktX5_isDigit_0 : List UInt8 := dkwX5_isDigit_0 ++ []
theorem dksX5_isDigit_0 : cX5_isDigit.data.toList.drop 0 = dktX5_isDigit_0 := by decide +kernel
theorem dX5_isDigit_0 : decode cX5_isDigit 0 = .ok (.iload_n 0, 1) := dk_26 (dk_at dksX5_isDigit_0 0 rfl rfl)
theorem dX5_isDigit_1 : decode cX5_isDigit 1 = .ok (.bipush 48, 2) := dk_16 48 (dk_at dksX5_isDigit_0 1 rfl rfl)
theorem dX5_isDigit_3 : decode cX5_isDigit 3 = .ok (.if_icmp .lt 13, 3) := dk_161 0 13 (dk_at dksX5_isDigit_0 3 rfl rfl)
theorem dX5_isDigit_6 : decode cX5_isDigit 6 = .ok (.iload_n 0, 1) := dk_26 (dk_at dksX5_isDigit_0 6 rfl rfl)
theorem dX5_isDigit_7 : decode cX5_isDigit 7 = .ok (.bipush 57, 2) := dk_16 57 (dk_at dksX5_isDigit_0 7 rfl rfl)
theorem dX5_isDigit_9 : decode cX5_isDigit 9 = .ok (.if_icmp .gt 7, 3) := dk_163 0 7 (dk_at dksX5_isDigit_0 9 rfl rfl)
theorem dX5_isDigit_12 : decode cX5_isDigit 12 = .ok (.iconst 1, 1) := dk_4 (dk_at dksX5_isDigit_0 12 rfl rfl)
theorem dX5_isDigit_13 : decode cX5_isDigit 13 = .ok (.goto 4, 3) := dk_167 0 4 (dk_at dksX5_isDigit_0 13 rfl rfl)
theorem dX5_isDigit_16 : decode cX5_isDigit 16 = .ok (.iconst 0, 1) := dk_3 (dk_at dksX5_isDigit_0 16 rfl rfl)
theorem dX5_isDigit_17 : decode cX5_isDigit 17 = .ok (.ireturn, 1) := dk_172 (dk_at dksX5_isDigit_0 17 rfl rfl)
abbrev cX5_readLine : ByteArray := prog_23_method_30_code
def yX5_readLine : MethodName := ⟨RX5, "readLine", "(Z)Z"⟩
def dkwX5_readLine_10 : List UInt8 := [182, 1, 1, 27, 154, 0, 7, 28, 153, 0, 7, 4, 167, 0, 4, 3, 172]
abbrev dktX5_readLine_10 : List UInt8 := dkwX5_readLine_10 ++ []
def dkwX5_readLine_9 : List UInt8 := [154, 0, 16, 42, 180, 0, 217, 6, 159, 0, 8, 42, 4, 182, 1, 4, 42, 180, 0, 239, 154, 0, 7, 42]
abbrev dktX5_readLine_9 : List UInt8 := dkwX5_readLine_9 ++ dktX5_readLine_10
def dkwX5_readLine_8 : List UInt8 := [16, 99, 182, 1, 17, 79, 42, 180, 0, 45, 16, 11, 42, 3, 16, 99, 182, 1, 17, 79, 42, 180, 0, 239]
abbrev dktX5_readLine_8 : List UInt8 := dkwX5_readLine_8 ++ dktX5_readLine_9
def dkwX5_readLine_7 : List UInt8 := [42, 4, 182, 1, 4, 42, 180, 0, 239, 154, 0, 7, 42, 182, 1, 1, 42, 180, 0, 45, 16, 10, 42, 3]
abbrev dktX5_readLine_7 : List UInt8 := dkwX5_readLine_7 ++ dktX5_readLine_8
def dkwX5_readLine_6 : List UInt8 := [167, 0, 68, 42, 19, 1, 62, 182, 0, 253, 153, 0, 10, 42, 182, 1, 64, 167, 0, 51, 28, 154, 0, 8]
abbrev dktX5_readLine_6 : List UInt8 := dkwX5_readLine_6 ++ dktX5_readLine_7
def dkwX5_readLine_5 : List UInt8 := [153, 0, 10, 42, 182, 1, 54, 167, 0, 85, 42, 19, 1, 57, 182, 1, 21, 153, 0, 10, 42, 182, 1, 59]
abbrev dktX5_readLine_5 : List UInt8 := dkwX5_readLine_5 ++ dktX5_readLine_6
def dkwX5_readLine_4 : List UInt8 := [42, 19, 1, 48, 182, 1, 21, 153, 0, 10, 42, 182, 1, 50, 167, 0, 102, 42, 19, 1, 53, 182, 1, 21]
abbrev dktX5_readLine_4 : List UInt8 := dkwX5_readLine_4 ++ dktX5_readLine_5
def dkwX5_readLine_3 : List UInt8 := [42, 21, 4, 182, 1, 42, 167, 0, 134, 21, 5, 2, 159, 0, 12, 42, 21, 5, 182, 1, 45, 167, 0, 119]
abbrev dktX5_readLine_3 : List UInt8 := dkwX5_readLine_3 ++ dktX5_readLine_4
def dkwX5_readLine_2 : List UInt8 := [182, 1, 35, 54, 5, 29, 2, 159, 0, 11, 42, 29, 182, 1, 39, 167, 0, 149, 21, 4, 2, 159, 0, 12]
abbrev dktX5_readLine_2 : List UInt8 := dkwX5_readLine_2 ++ dktX5_readLine_3
def dkwX5_readLine_1 : List UInt8 := [180, 0, 19, 182, 1, 35, 62, 42, 42, 180, 0, 31, 182, 1, 35, 54, 4, 42, 42, 180, 0, 42]
abbrev dktX5_readLine_1 : List UInt8 := dkwX5_readLine_1 ++ dktX5_readLine_2
def dkwX5_readLine_0 : List UInt8 := [42, 19, 1, 33, 182, 0, 253, 61, 28, 153, 0, 12, 27, 153, 0, 8, 42, 8, 182, 1, 4, 42, 42]
abbrev dktX5_readLine_0 : List UInt8 := dkwX5_readLine_0 ++ dktX5_readLine_1
theorem dksX5_readLine_0 : cX5_readLine.data.toList.drop 0 = dktX5_readLine_0 := by decide +kernel
theorem dksX5_readLine_1 : cX5_readLine.data.toList.drop 23 = dktX5_readLine_1 := dk_seg dksX5_readLine_0 23 rfl rfl
theorem dksX5_readLine_2 : cX5_readLine.data.toList.drop 45 = dktX5_readLine_2 := dk_seg dksX5_readLine_1 22 rfl rfl
theorem dksX5_readLine_3 : cX5_readLine.data.toList.drop 69 = dktX5_readLine_3 := dk_seg dksX5_readLine_2 24 rfl rfl
theorem dksX5_readLine_4 : cX5_readLine.data.toList.drop 93 = dktX5_readLine_4 := dk_seg dksX5_readLine_3 24 rfl rfl
theorem dksX5_readLine_5 : cX5_readLine.data.toList.drop 117 = dktX5_readLine_5 := dk_seg dksX5_readLine_4 24 rfl rfl
theorem dksX5_readLine_6 : cX5_readLine.data.toList.drop 141 = dktX5_readLine_6 := dk_seg dksX5_readLine_5 24 rfl rfl
theorem dksX5_readLine_7 : cX5_readLine.data.toList.drop 165 = dktX5_readLine_7 := dk_seg dksX5_readLine_6 24 rfl rfl
theorem dksX5_readLine_8 : cX5_readLine.data.toList.drop 189 = dktX5_readLine_8 := dk_seg dksX5_readLine_7 24 rfl rfl
theorem dksX5_readLine_9 : cX5_readLine.data.toList.drop 213 = dktX5_readLine_9 := dk_seg dksX5_readLine_8 24 rfl rfl
theorem dksX5_readLine_10 : cX5_readLine.data.toList.drop 237 = dktX5_readLine_10 := dk_seg dksX5_readLine_9 24 rfl rfl
theorem dX5_readLine_0 : decode cX5_readLine 0 = .ok (.aload_n 0, 1) := dk_42 (dk_at dksX5_readLine_0 0 rfl rfl)
theorem dX5_readLine_1 : decode cX5_readLine 1 = .ok (.ldc_w 289, 3) := dk_19 1 33 (dk_at dksX5_readLine_0 1 rfl rfl)
theorem dX5_readLine_4 : decode cX5_readLine 4 = .ok (.invokevirtual 253, 3) := dk_182 0 253 (dk_at dksX5_readLine_0 4 rfl rfl)
theorem dX5_readLine_7 : decode cX5_readLine 7 = .ok (.istore_n 2, 1) := dk_61 (dk_at dksX5_readLine_0 7 rfl rfl)
theorem dX5_readLine_8 : decode cX5_readLine 8 = .ok (.iload_n 2, 1) := dk_28 (dk_at dksX5_readLine_0 8 rfl rfl)
theorem dX5_readLine_9 : decode cX5_readLine 9 = .ok (.ifCond .eq 12, 3) := dk_153 0 12 (dk_at dksX5_readLine_0 9 rfl rfl)
theorem dX5_readLine_12 : decode cX5_readLine 12 = .ok (.iload_n 1, 1) := dk_27 (dk_at dksX5_readLine_0 12 rfl rfl)
theorem dX5_readLine_13 : decode cX5_readLine 13 = .ok (.ifCond .eq 8, 3) := dk_153 0 8 (dk_at dksX5_readLine_0 13 rfl rfl)
theorem dX5_readLine_16 : decode cX5_readLine 16 = .ok (.aload_n 0, 1) := dk_42 (dk_at dksX5_readLine_0 16 rfl rfl)
theorem dX5_readLine_17 : decode cX5_readLine 17 = .ok (.iconst 5, 1) := dk_8 (dk_at dksX5_readLine_0 17 rfl rfl)
theorem dX5_readLine_18 : decode cX5_readLine 18 = .ok (.invokevirtual 260, 3) := dk_182 1 4 (dk_at dksX5_readLine_0 18 rfl rfl)
theorem dX5_readLine_21 : decode cX5_readLine 21 = .ok (.aload_n 0, 1) := dk_42 (dk_at dksX5_readLine_0 21 rfl rfl)
theorem dX5_readLine_22 : decode cX5_readLine 22 = .ok (.aload_n 0, 1) := dk_42 (dk_at dksX5_readLine_0 22 rfl rfl)
theorem dX5_readLine_23 : decode cX5_readLine 23 = .ok (.getfield 19, 3) := dk_180 0 19 (dk_at dksX5_readLine_1 0 rfl rfl)
theorem dX5_readLine_26 : decode cX5_readLine 26 = .ok (.invokevirtual 291, 3) := dk_182 1 35 (dk_at dksX5_readLine_1 3 rfl rfl)
theorem dX5_readLine_29 : decode cX5_readLine 29 = .ok (.istore_n 3, 1) := dk_62 (dk_at dksX5_readLine_1 6 rfl rfl)
theorem dX5_readLine_30 : decode cX5_readLine 30 = .ok (.aload_n 0, 1) := dk_42 (dk_at dksX5_readLine_1 7 rfl rfl)
theorem dX5_readLine_31 : decode cX5_readLine 31 = .ok (.aload_n 0, 1) := dk_42 (dk_at dksX5_readLine_1 8 rfl rfl)
theorem dX5_readLine_32 : decode cX5_readLine 32 = .ok (.getfield 31, 3) := dk_180 0 31 (dk_at dksX5_readLine_1 9 rfl rfl)
theorem dX5_readLine_35 : decode cX5_readLine 35 = .ok (.invokevirtual 291, 3) := dk_182 1 35 (dk_at dksX5_readLine_1 12 rfl rfl)
theorem dX5_readLine_38 : decode cX5_readLine 38 = .ok (.istore 4, 2) := dk_54 4 (dk_at dksX5_readLine_1 15 rfl rfl)
theorem dX5_readLine_40 : decode cX5_readLine 40 = .ok (.aload_n 0, 1) := dk_42 (dk_at dksX5_readLine_1 17 rfl rfl)
theorem dX5_readLine_41 : decode cX5_readLine 41 = .ok (.aload_n 0, 1) := dk_42 (dk_at dksX5_readLine_1 18 rfl rfl)
theorem dX5_readLine_42 : decode cX5_readLine 42 = .ok (.getfield 42, 3) := dk_180 0 42 (dk_at dksX5_readLine_1 19 rfl rfl)
theorem dX5_readLine_45 : decode cX5_readLine 45 = .ok (.invokevirtual 291, 3) := dk_182 1 35 (dk_at dksX5_readLine_2 0 rfl rfl)
theorem dX5_readLine_48 : decode cX5_readLine 48 = .ok (.istore 5, 2) := dk_54 5 (dk_at dksX5_readLine_2 3 rfl rfl)
theorem dX5_readLine_50 : decode cX5_readLine 50 = .ok (.iload_n 3, 1) := dk_29 (dk_at dksX5_readLine_2 5 rfl rfl)
theorem dX5_readLine_51 : decode cX5_readLine 51 = .ok (.iconst (-1), 1) := dk_2 (dk_at dksX5_readLine_2 6 rfl rfl)
theorem dX5_readLine_52 : decode cX5_readLine 52 = .ok (.if_icmp .eq 11, 3) := dk_159 0 11 (dk_at dksX5_readLine_2 7 rfl rfl)
theorem dX5_readLine_55 : decode cX5_readLine 55 = .ok (.aload_n 0, 1) := dk_42 (dk_at dksX5_readLine_2 10 rfl rfl)
theorem dX5_readLine_56 : decode cX5_readLine 56 = .ok (.iload_n 3, 1) := dk_29 (dk_at dksX5_readLine_2 11 rfl rfl)
theorem dX5_readLine_57 : decode cX5_readLine 57 = .ok (.invokevirtual 295, 3) := dk_182 1 39 (dk_at dksX5_readLine_2 12 rfl rfl)
theorem dX5_readLine_60 : decode cX5_readLine 60 = .ok (.goto 149, 3) := dk_167 0 149 (dk_at dksX5_readLine_2 15 rfl rfl)
theorem dX5_readLine_63 : decode cX5_readLine 63 = .ok (.iload 4, 2) := dk_21 4 (dk_at dksX5_readLine_2 18 rfl rfl)
theorem dX5_readLine_65 : decode cX5_readLine 65 = .ok (.iconst (-1), 1) := dk_2 (dk_at dksX5_readLine_2 20 rfl rfl)
theorem dX5_readLine_66 : decode cX5_readLine 66 = .ok (.if_icmp .eq 12, 3) := dk_159 0 12 (dk_at dksX5_readLine_2 21 rfl rfl)
theorem dX5_readLine_69 : decode cX5_readLine 69 = .ok (.aload_n 0, 1) := dk_42 (dk_at dksX5_readLine_3 0 rfl rfl)
theorem dX5_readLine_70 : decode cX5_readLine 70 = .ok (.iload 4, 2) := dk_21 4 (dk_at dksX5_readLine_3 1 rfl rfl)
theorem dX5_readLine_72 : decode cX5_readLine 72 = .ok (.invokevirtual 298, 3) := dk_182 1 42 (dk_at dksX5_readLine_3 3 rfl rfl)
theorem dX5_readLine_75 : decode cX5_readLine 75 = .ok (.goto 134, 3) := dk_167 0 134 (dk_at dksX5_readLine_3 6 rfl rfl)
theorem dX5_readLine_78 : decode cX5_readLine 78 = .ok (.iload 5, 2) := dk_21 5 (dk_at dksX5_readLine_3 9 rfl rfl)
theorem dX5_readLine_80 : decode cX5_readLine 80 = .ok (.iconst (-1), 1) := dk_2 (dk_at dksX5_readLine_3 11 rfl rfl)
theorem dX5_readLine_81 : decode cX5_readLine 81 = .ok (.if_icmp .eq 12, 3) := dk_159 0 12 (dk_at dksX5_readLine_3 12 rfl rfl)
theorem dX5_readLine_84 : decode cX5_readLine 84 = .ok (.aload_n 0, 1) := dk_42 (dk_at dksX5_readLine_3 15 rfl rfl)
theorem dX5_readLine_85 : decode cX5_readLine 85 = .ok (.iload 5, 2) := dk_21 5 (dk_at dksX5_readLine_3 16 rfl rfl)
theorem dX5_readLine_87 : decode cX5_readLine 87 = .ok (.invokevirtual 301, 3) := dk_182 1 45 (dk_at dksX5_readLine_3 18 rfl rfl)
theorem dX5_readLine_90 : decode cX5_readLine 90 = .ok (.goto 119, 3) := dk_167 0 119 (dk_at dksX5_readLine_3 21 rfl rfl)
theorem dX5_readLine_93 : decode cX5_readLine 93 = .ok (.aload_n 0, 1) := dk_42 (dk_at dksX5_readLine_4 0 rfl rfl)
theorem dX5_readLine_94 : decode cX5_readLine 94 = .ok (.ldc_w 304, 3) := dk_19 1 48 (dk_at dksX5_readLine_4 1 rfl rfl)
theorem dX5_readLine_97 : decode cX5_readLine 97 = .ok (.invokevirtual 277, 3) := dk_182 1 21 (dk_at dksX5_readLine_4 4 rfl rfl)
theorem dX5_readLine_100 : decode cX5_readLine 100 = .ok (.ifCond .eq 10, 3) := dk_153 0 10 (dk_at dksX5_readLine_4 7 rfl rfl)
theorem dX5_readLine_103 : decode cX5_readLine 103 = .ok (.aload_n 0, 1) := dk_42 (dk_at dksX5_readLine_4 10 rfl rfl)
theorem dX5_readLine_104 : decode cX5_readLine 104 = .ok (.invokevirtual 306, 3) := dk_182 1 50 (dk_at dksX5_readLine_4 11 rfl rfl)
theorem dX5_readLine_107 : decode cX5_readLine 107 = .ok (.goto 102, 3) := dk_167 0 102 (dk_at dksX5_readLine_4 14 rfl rfl)
theorem dX5_readLine_110 : decode cX5_readLine 110 = .ok (.aload_n 0, 1) := dk_42 (dk_at dksX5_readLine_4 17 rfl rfl)
theorem dX5_readLine_111 : decode cX5_readLine 111 = .ok (.ldc_w 309, 3) := dk_19 1 53 (dk_at dksX5_readLine_4 18 rfl rfl)
theorem dX5_readLine_114 : decode cX5_readLine 114 = .ok (.invokevirtual 277, 3) := dk_182 1 21 (dk_at dksX5_readLine_4 21 rfl rfl)
theorem dX5_readLine_117 : decode cX5_readLine 117 = .ok (.ifCond .eq 10, 3) := dk_153 0 10 (dk_at dksX5_readLine_5 0 rfl rfl)
theorem dX5_readLine_120 : decode cX5_readLine 120 = .ok (.aload_n 0, 1) := dk_42 (dk_at dksX5_readLine_5 3 rfl rfl)
theorem dX5_readLine_121 : decode cX5_readLine 121 = .ok (.invokevirtual 310, 3) := dk_182 1 54 (dk_at dksX5_readLine_5 4 rfl rfl)
theorem dX5_readLine_124 : decode cX5_readLine 124 = .ok (.goto 85, 3) := dk_167 0 85 (dk_at dksX5_readLine_5 7 rfl rfl)
theorem dX5_readLine_127 : decode cX5_readLine 127 = .ok (.aload_n 0, 1) := dk_42 (dk_at dksX5_readLine_5 10 rfl rfl)
theorem dX5_readLine_128 : decode cX5_readLine 128 = .ok (.ldc_w 313, 3) := dk_19 1 57 (dk_at dksX5_readLine_5 11 rfl rfl)
theorem dX5_readLine_131 : decode cX5_readLine 131 = .ok (.invokevirtual 277, 3) := dk_182 1 21 (dk_at dksX5_readLine_5 14 rfl rfl)
theorem dX5_readLine_134 : decode cX5_readLine 134 = .ok (.ifCond .eq 10, 3) := dk_153 0 10 (dk_at dksX5_readLine_5 17 rfl rfl)
theorem dX5_readLine_137 : decode cX5_readLine 137 = .ok (.aload_n 0, 1) := dk_42 (dk_at dksX5_readLine_5 20 rfl rfl)
theorem dX5_readLine_138 : decode cX5_readLine 138 = .ok (.invokevirtual 315, 3) := dk_182 1 59 (dk_at dksX5_readLine_5 21 rfl rfl)
theorem dX5_readLine_141 : decode cX5_readLine 141 = .ok (.goto 68, 3) := dk_167 0 68 (dk_at dksX5_readLine_6 0 rfl rfl)
theorem dX5_readLine_144 : decode cX5_readLine 144 = .ok (.aload_n 0, 1) := dk_42 (dk_at dksX5_readLine_6 3 rfl rfl)
theorem dX5_readLine_145 : decode cX5_readLine 145 = .ok (.ldc_w 318, 3) := dk_19 1 62 (dk_at dksX5_readLine_6 4 rfl rfl)
theorem dX5_readLine_148 : decode cX5_readLine 148 = .ok (.invokevirtual 253, 3) := dk_182 0 253 (dk_at dksX5_readLine_6 7 rfl rfl)
theorem dX5_readLine_151 : decode cX5_readLine 151 = .ok (.ifCond .eq 10, 3) := dk_153 0 10 (dk_at dksX5_readLine_6 10 rfl rfl)
theorem dX5_readLine_154 : decode cX5_readLine 154 = .ok (.aload_n 0, 1) := dk_42 (dk_at dksX5_readLine_6 13 rfl rfl)
theorem dX5_readLine_155 : decode cX5_readLine 155 = .ok (.invokevirtual 320, 3) := dk_182 1 64 (dk_at dksX5_readLine_6 14 rfl rfl)
theorem dX5_readLine_158 : decode cX5_readLine 158 = .ok (.goto 51, 3) := dk_167 0 51 (dk_at dksX5_readLine_6 17 rfl rfl)
theorem dX5_readLine_161 : decode cX5_readLine 161 = .ok (.iload_n 2, 1) := dk_28 (dk_at dksX5_readLine_6 20 rfl rfl)
theorem dX5_readLine_162 : decode cX5_readLine 162 = .ok (.ifCond .ne 8, 3) := dk_154 0 8 (dk_at dksX5_readLine_6 21 rfl rfl)
theorem dX5_readLine_165 : decode cX5_readLine 165 = .ok (.aload_n 0, 1) := dk_42 (dk_at dksX5_readLine_7 0 rfl rfl)
theorem dX5_readLine_166 : decode cX5_readLine 166 = .ok (.iconst 1, 1) := dk_4 (dk_at dksX5_readLine_7 1 rfl rfl)
theorem dX5_readLine_167 : decode cX5_readLine 167 = .ok (.invokevirtual 260, 3) := dk_182 1 4 (dk_at dksX5_readLine_7 2 rfl rfl)
theorem dX5_readLine_170 : decode cX5_readLine 170 = .ok (.aload_n 0, 1) := dk_42 (dk_at dksX5_readLine_7 5 rfl rfl)
theorem dX5_readLine_171 : decode cX5_readLine 171 = .ok (.getfield 239, 3) := dk_180 0 239 (dk_at dksX5_readLine_7 6 rfl rfl)
theorem dX5_readLine_174 : decode cX5_readLine 174 = .ok (.ifCond .ne 7, 3) := dk_154 0 7 (dk_at dksX5_readLine_7 9 rfl rfl)
theorem dX5_readLine_177 : decode cX5_readLine 177 = .ok (.aload_n 0, 1) := dk_42 (dk_at dksX5_readLine_7 12 rfl rfl)
theorem dX5_readLine_178 : decode cX5_readLine 178 = .ok (.invokevirtual 257, 3) := dk_182 1 1 (dk_at dksX5_readLine_7 13 rfl rfl)
theorem dX5_readLine_181 : decode cX5_readLine 181 = .ok (.aload_n 0, 1) := dk_42 (dk_at dksX5_readLine_7 16 rfl rfl)
theorem dX5_readLine_182 : decode cX5_readLine 182 = .ok (.getfield 45, 3) := dk_180 0 45 (dk_at dksX5_readLine_7 17 rfl rfl)
theorem dX5_readLine_185 : decode cX5_readLine 185 = .ok (.bipush 10, 2) := dk_16 10 (dk_at dksX5_readLine_7 20 rfl rfl)
theorem dX5_readLine_187 : decode cX5_readLine 187 = .ok (.aload_n 0, 1) := dk_42 (dk_at dksX5_readLine_7 22 rfl rfl)
theorem dX5_readLine_188 : decode cX5_readLine 188 = .ok (.iconst 0, 1) := dk_3 (dk_at dksX5_readLine_7 23 rfl rfl)
theorem dX5_readLine_189 : decode cX5_readLine 189 = .ok (.bipush 99, 2) := dk_16 99 (dk_at dksX5_readLine_8 0 rfl rfl)
theorem dX5_readLine_191 : decode cX5_readLine 191 = .ok (.invokevirtual 273, 3) := dk_182 1 17 (dk_at dksX5_readLine_8 2 rfl rfl)
theorem dX5_readLine_194 : decode cX5_readLine 194 = .ok (.iastore, 1) := dk_79 (dk_at dksX5_readLine_8 5 rfl rfl)
theorem dX5_readLine_195 : decode cX5_readLine 195 = .ok (.aload_n 0, 1) := dk_42 (dk_at dksX5_readLine_8 6 rfl rfl)
theorem dX5_readLine_196 : decode cX5_readLine 196 = .ok (.getfield 45, 3) := dk_180 0 45 (dk_at dksX5_readLine_8 7 rfl rfl)
theorem dX5_readLine_199 : decode cX5_readLine 199 = .ok (.bipush 11, 2) := dk_16 11 (dk_at dksX5_readLine_8 10 rfl rfl)
theorem dX5_readLine_201 : decode cX5_readLine 201 = .ok (.aload_n 0, 1) := dk_42 (dk_at dksX5_readLine_8 12 rfl rfl)
theorem dX5_readLine_202 : decode cX5_readLine 202 = .ok (.iconst 0, 1) := dk_3 (dk_at dksX5_readLine_8 13 rfl rfl)
theorem dX5_readLine_203 : decode cX5_readLine 203 = .ok (.bipush 99, 2) := dk_16 99 (dk_at dksX5_readLine_8 14 rfl rfl)
theorem dX5_readLine_205 : decode cX5_readLine 205 = .ok (.invokevirtual 273, 3) := dk_182 1 17 (dk_at dksX5_readLine_8 16 rfl rfl)
theorem dX5_readLine_208 : decode cX5_readLine 208 = .ok (.iastore, 1) := dk_79 (dk_at dksX5_readLine_8 19 rfl rfl)
theorem dX5_readLine_209 : decode cX5_readLine 209 = .ok (.aload_n 0, 1) := dk_42 (dk_at dksX5_readLine_8 20 rfl rfl)
theorem dX5_readLine_210 : decode cX5_readLine 210 = .ok (.getfield 239, 3) := dk_180 0 239 (dk_at dksX5_readLine_8 21 rfl rfl)
theorem dX5_readLine_213 : decode cX5_readLine 213 = .ok (.ifCond .ne 16, 3) := dk_154 0 16 (dk_at dksX5_readLine_9 0 rfl rfl)
theorem dX5_readLine_216 : decode cX5_readLine 216 = .ok (.aload_n 0, 1) := dk_42 (dk_at dksX5_readLine_9 3 rfl rfl)
theorem dX5_readLine_217 : decode cX5_readLine 217 = .ok (.getfield 217, 3) := dk_180 0 217 (dk_at dksX5_readLine_9 4 rfl rfl)
theorem dX5_readLine_220 : decode cX5_readLine 220 = .ok (.iconst 3, 1) := dk_6 (dk_at dksX5_readLine_9 7 rfl rfl)
theorem dX5_readLine_221 : decode cX5_readLine 221 = .ok (.if_icmp .eq 8, 3) := dk_159 0 8 (dk_at dksX5_readLine_9 8 rfl rfl)
theorem dX5_readLine_224 : decode cX5_readLine 224 = .ok (.aload_n 0, 1) := dk_42 (dk_at dksX5_readLine_9 11 rfl rfl)
theorem dX5_readLine_225 : decode cX5_readLine 225 = .ok (.iconst 1, 1) := dk_4 (dk_at dksX5_readLine_9 12 rfl rfl)
theorem dX5_readLine_226 : decode cX5_readLine 226 = .ok (.invokevirtual 260, 3) := dk_182 1 4 (dk_at dksX5_readLine_9 13 rfl rfl)
theorem dX5_readLine_229 : decode cX5_readLine 229 = .ok (.aload_n 0, 1) := dk_42 (dk_at dksX5_readLine_9 16 rfl rfl)
theorem dX5_readLine_230 : decode cX5_readLine 230 = .ok (.getfield 239, 3) := dk_180 0 239 (dk_at dksX5_readLine_9 17 rfl rfl)
theorem dX5_readLine_233 : decode cX5_readLine 233 = .ok (.ifCond .ne 7, 3) := dk_154 0 7 (dk_at dksX5_readLine_9 20 rfl rfl)
theorem dX5_readLine_236 : decode cX5_readLine 236 = .ok (.aload_n 0, 1) := dk_42 (dk_at dksX5_readLine_9 23 rfl rfl)
theorem dX5_readLine_237 : decode cX5_readLine 237 = .ok (.invokevirtual 257, 3) := dk_182 1 1 (dk_at dksX5_readLine_10 0 rfl rfl)
theorem dX5_readLine_240 : decode cX5_readLine 240 = .ok (.iload_n 1, 1) := dk_27 (dk_at dksX5_readLine_10 3 rfl rfl)
theorem dX5_readLine_241 : decode cX5_readLine 241 = .ok (.ifCond .ne 7, 3) := dk_154 0 7 (dk_at dksX5_readLine_10 4 rfl rfl)
theorem dX5_readLine_244 : decode cX5_readLine 244 = .ok (.iload_n 2, 1) := dk_28 (dk_at dksX5_readLine_10 7 rfl rfl)
theorem dX5_readLine_245 : decode cX5_readLine 245 = .ok (.ifCond .eq 7, 3) := dk_153 0 7 (dk_at dksX5_readLine_10 8 rfl rfl)
theorem dX5_readLine_248 : decode cX5_readLine 248 = .ok (.iconst 1, 1) := dk_4 (dk_at dksX5_readLine_10 11 rfl rfl)
theorem dX5_readLine_249 : decode cX5_readLine 249 = .ok (.goto 4, 3) := dk_167 0 4 (dk_at dksX5_readLine_10 12 rfl rfl)
theorem dX5_readLine_252 : decode cX5_readLine 252 = .ok (.iconst 0, 1) := dk_3 (dk_at dksX5_readLine_10 15 rfl rfl)
theorem dX5_readLine_253 : decode cX5_readLine 253 = .ok (.ireturn, 1) := dk_172 (dk_at dksX5_readLine_10 16 rfl rfl)
abbrev cX5_is : ByteArray := prog_23_method_15_code
def yX5_is : MethodName := ⟨RX5, "is", "(Ljava/lang/String;)Z"⟩
def dkwX5_is_3 : List UInt8 := [167, 0, 4, 3, 61, 132, 3, 1, 167, 255, 216, 28, 172]
abbrev dktX5_is_3 : List UInt8 := dkwX5_is_3 ++ []
def dkwX5_is_2 : List UInt8 := [162, 0, 34, 43, 29, 182, 0, 249, 42, 180, 0, 106, 42, 180, 0, 214, 29, 96, 46, 160, 0, 7, 4]
abbrev dktX5_is_2 : List UInt8 := dkwX5_is_2 ++ dktX5_is_3
def dkwX5_is_1 : List UInt8 := [180, 0, 214, 100, 160, 0, 7, 4, 167, 0, 4, 3, 61, 3, 62, 28, 153, 0, 42, 29, 43, 182, 0, 245]
abbrev dktX5_is_1 : List UInt8 := dkwX5_is_1 ++ dktX5_is_2
def dkwX5_is_0 : List UInt8 := [42, 180, 0, 239, 154, 0, 31, 42, 180, 0, 217, 4, 160, 0, 23, 43, 182, 0, 245, 42, 180, 0, 236, 42]
abbrev dktX5_is_0 : List UInt8 := dkwX5_is_0 ++ dktX5_is_1
theorem dksX5_is_0 : cX5_is.data.toList.drop 0 = dktX5_is_0 := by decide +kernel
theorem dksX5_is_1 : cX5_is.data.toList.drop 24 = dktX5_is_1 := dk_seg dksX5_is_0 24 rfl rfl
theorem dksX5_is_2 : cX5_is.data.toList.drop 48 = dktX5_is_2 := dk_seg dksX5_is_1 24 rfl rfl
theorem dksX5_is_3 : cX5_is.data.toList.drop 71 = dktX5_is_3 := dk_seg dksX5_is_2 23 rfl rfl
theorem dX5_is_0 : decode cX5_is 0 = .ok (.aload_n 0, 1) := dk_42 (dk_at dksX5_is_0 0 rfl rfl)
theorem dX5_is_1 : decode cX5_is 1 = .ok (.getfield 239, 3) := dk_180 0 239 (dk_at dksX5_is_0 1 rfl rfl)
theorem dX5_is_4 : decode cX5_is 4 = .ok (.ifCond .ne 31, 3) := dk_154 0 31 (dk_at dksX5_is_0 4 rfl rfl)
theorem dX5_is_7 : decode cX5_is 7 = .ok (.aload_n 0, 1) := dk_42 (dk_at dksX5_is_0 7 rfl rfl)
theorem dX5_is_8 : decode cX5_is 8 = .ok (.getfield 217, 3) := dk_180 0 217 (dk_at dksX5_is_0 8 rfl rfl)
theorem dX5_is_11 : decode cX5_is 11 = .ok (.iconst 1, 1) := dk_4 (dk_at dksX5_is_0 11 rfl rfl)
theorem dX5_is_12 : decode cX5_is 12 = .ok (.if_icmp .ne 23, 3) := dk_160 0 23 (dk_at dksX5_is_0 12 rfl rfl)
theorem dX5_is_15 : decode cX5_is 15 = .ok (.aload_n 1, 1) := dk_43 (dk_at dksX5_is_0 15 rfl rfl)
theorem dX5_is_16 : decode cX5_is 16 = .ok (.invokevirtual 245, 3) := dk_182 0 245 (dk_at dksX5_is_0 16 rfl rfl)
theorem dX5_is_19 : decode cX5_is 19 = .ok (.aload_n 0, 1) := dk_42 (dk_at dksX5_is_0 19 rfl rfl)
theorem dX5_is_20 : decode cX5_is 20 = .ok (.getfield 236, 3) := dk_180 0 236 (dk_at dksX5_is_0 20 rfl rfl)
theorem dX5_is_23 : decode cX5_is 23 = .ok (.aload_n 0, 1) := dk_42 (dk_at dksX5_is_0 23 rfl rfl)
theorem dX5_is_24 : decode cX5_is 24 = .ok (.getfield 214, 3) := dk_180 0 214 (dk_at dksX5_is_1 0 rfl rfl)
theorem dX5_is_27 : decode cX5_is 27 = .ok (.isub, 1) := dk_100 (dk_at dksX5_is_1 3 rfl rfl)
theorem dX5_is_28 : decode cX5_is 28 = .ok (.if_icmp .ne 7, 3) := dk_160 0 7 (dk_at dksX5_is_1 4 rfl rfl)
theorem dX5_is_31 : decode cX5_is 31 = .ok (.iconst 1, 1) := dk_4 (dk_at dksX5_is_1 7 rfl rfl)
theorem dX5_is_32 : decode cX5_is 32 = .ok (.goto 4, 3) := dk_167 0 4 (dk_at dksX5_is_1 8 rfl rfl)
theorem dX5_is_35 : decode cX5_is 35 = .ok (.iconst 0, 1) := dk_3 (dk_at dksX5_is_1 11 rfl rfl)
theorem dX5_is_36 : decode cX5_is 36 = .ok (.istore_n 2, 1) := dk_61 (dk_at dksX5_is_1 12 rfl rfl)
theorem dX5_is_37 : decode cX5_is 37 = .ok (.iconst 0, 1) := dk_3 (dk_at dksX5_is_1 13 rfl rfl)
theorem dX5_is_38 : decode cX5_is 38 = .ok (.istore_n 3, 1) := dk_62 (dk_at dksX5_is_1 14 rfl rfl)
theorem dX5_is_39 : decode cX5_is 39 = .ok (.iload_n 2, 1) := dk_28 (dk_at dksX5_is_1 15 rfl rfl)
theorem dX5_is_40 : decode cX5_is 40 = .ok (.ifCond .eq 42, 3) := dk_153 0 42 (dk_at dksX5_is_1 16 rfl rfl)
theorem dX5_is_43 : decode cX5_is 43 = .ok (.iload_n 3, 1) := dk_29 (dk_at dksX5_is_1 19 rfl rfl)
theorem dX5_is_44 : decode cX5_is 44 = .ok (.aload_n 1, 1) := dk_43 (dk_at dksX5_is_1 20 rfl rfl)
theorem dX5_is_45 : decode cX5_is 45 = .ok (.invokevirtual 245, 3) := dk_182 0 245 (dk_at dksX5_is_1 21 rfl rfl)
theorem dX5_is_48 : decode cX5_is 48 = .ok (.if_icmp .ge 34, 3) := dk_162 0 34 (dk_at dksX5_is_2 0 rfl rfl)
theorem dX5_is_51 : decode cX5_is 51 = .ok (.aload_n 1, 1) := dk_43 (dk_at dksX5_is_2 3 rfl rfl)
theorem dX5_is_52 : decode cX5_is 52 = .ok (.iload_n 3, 1) := dk_29 (dk_at dksX5_is_2 4 rfl rfl)
theorem dX5_is_53 : decode cX5_is 53 = .ok (.invokevirtual 249, 3) := dk_182 0 249 (dk_at dksX5_is_2 5 rfl rfl)
theorem dX5_is_56 : decode cX5_is 56 = .ok (.aload_n 0, 1) := dk_42 (dk_at dksX5_is_2 8 rfl rfl)
theorem dX5_is_57 : decode cX5_is 57 = .ok (.getfield 106, 3) := dk_180 0 106 (dk_at dksX5_is_2 9 rfl rfl)
theorem dX5_is_60 : decode cX5_is 60 = .ok (.aload_n 0, 1) := dk_42 (dk_at dksX5_is_2 12 rfl rfl)
theorem dX5_is_61 : decode cX5_is 61 = .ok (.getfield 214, 3) := dk_180 0 214 (dk_at dksX5_is_2 13 rfl rfl)
theorem dX5_is_64 : decode cX5_is 64 = .ok (.iload_n 3, 1) := dk_29 (dk_at dksX5_is_2 16 rfl rfl)
theorem dX5_is_65 : decode cX5_is 65 = .ok (.iadd, 1) := dk_96 (dk_at dksX5_is_2 17 rfl rfl)
theorem dX5_is_66 : decode cX5_is 66 = .ok (.iaload, 1) := dk_46 (dk_at dksX5_is_2 18 rfl rfl)
theorem dX5_is_67 : decode cX5_is 67 = .ok (.if_icmp .ne 7, 3) := dk_160 0 7 (dk_at dksX5_is_2 19 rfl rfl)
theorem dX5_is_70 : decode cX5_is 70 = .ok (.iconst 1, 1) := dk_4 (dk_at dksX5_is_2 22 rfl rfl)
theorem dX5_is_71 : decode cX5_is 71 = .ok (.goto 4, 3) := dk_167 0 4 (dk_at dksX5_is_3 0 rfl rfl)
theorem dX5_is_74 : decode cX5_is 74 = .ok (.iconst 0, 1) := dk_3 (dk_at dksX5_is_3 3 rfl rfl)
theorem dX5_is_75 : decode cX5_is 75 = .ok (.istore_n 2, 1) := dk_61 (dk_at dksX5_is_3 4 rfl rfl)
theorem dX5_is_76 : decode cX5_is 76 = .ok (.iinc 3 1, 3) := dk_132 3 1 (dk_at dksX5_is_3 5 rfl rfl)
theorem dX5_is_79 : decode cX5_is 79 = .ok (.goto (-40), 3) := dk_167 255 216 (dk_at dksX5_is_3 8 rfl rfl)
theorem dX5_is_82 : decode cX5_is 82 = .ok (.iload_n 2, 1) := dk_28 (dk_at dksX5_is_3 11 rfl rfl)
theorem dX5_is_83 : decode cX5_is 83 = .ok (.ireturn, 1) := dk_172 (dk_at dksX5_is_3 12 rfl rfl)
abbrev cX5_wrong : ByteArray := prog_23_method_14_code
def yX5_wrong : MethodName := ⟨RX5, "wrong", "(I)V"⟩
def dkwX5_wrong_0 : List UInt8 := [42, 180, 0, 239, 153, 0, 4, 177, 42, 27, 181, 0, 239, 42, 42, 180, 0, 214, 181, 0, 242, 177]
abbrev dktX5_wrong_0 : List UInt8 := dkwX5_wrong_0 ++ []
theorem dksX5_wrong_0 : cX5_wrong.data.toList.drop 0 = dktX5_wrong_0 := by decide +kernel
theorem dX5_wrong_0 : decode cX5_wrong 0 = .ok (.aload_n 0, 1) := dk_42 (dk_at dksX5_wrong_0 0 rfl rfl)
theorem dX5_wrong_1 : decode cX5_wrong 1 = .ok (.getfield 239, 3) := dk_180 0 239 (dk_at dksX5_wrong_0 1 rfl rfl)
theorem dX5_wrong_4 : decode cX5_wrong 4 = .ok (.ifCond .eq 4, 3) := dk_153 0 4 (dk_at dksX5_wrong_0 4 rfl rfl)
theorem dX5_wrong_7 : decode cX5_wrong 7 = .ok (.return_, 1) := dk_177 (dk_at dksX5_wrong_0 7 rfl rfl)
theorem dX5_wrong_8 : decode cX5_wrong 8 = .ok (.aload_n 0, 1) := dk_42 (dk_at dksX5_wrong_0 8 rfl rfl)
theorem dX5_wrong_9 : decode cX5_wrong 9 = .ok (.iload_n 1, 1) := dk_27 (dk_at dksX5_wrong_0 9 rfl rfl)
theorem dX5_wrong_10 : decode cX5_wrong 10 = .ok (.putfield 239, 3) := dk_181 0 239 (dk_at dksX5_wrong_0 10 rfl rfl)
theorem dX5_wrong_13 : decode cX5_wrong 13 = .ok (.aload_n 0, 1) := dk_42 (dk_at dksX5_wrong_0 13 rfl rfl)
theorem dX5_wrong_14 : decode cX5_wrong 14 = .ok (.aload_n 0, 1) := dk_42 (dk_at dksX5_wrong_0 14 rfl rfl)
theorem dX5_wrong_15 : decode cX5_wrong 15 = .ok (.getfield 214, 3) := dk_180 0 214 (dk_at dksX5_wrong_0 15 rfl rfl)
theorem dX5_wrong_18 : decode cX5_wrong 18 = .ok (.putfield 242, 3) := dk_181 0 242 (dk_at dksX5_wrong_0 18 rfl rfl)
theorem dX5_wrong_21 : decode cX5_wrong 21 = .ok (.return_, 1) := dk_177 (dk_at dksX5_wrong_0 21 rfl rfl)
abbrev cX5_which : ByteArray := prog_23_method_16_code
def yX5_which : MethodName := ⟨RX5, "which", "([Ljava/lang/String;)I"⟩
def dkwX5_which_1 : List UInt8 := [167, 255, 235, 2, 172]
abbrev dktX5_which_1 : List UInt8 := dkwX5_which_1 ++ []
def dkwX5_which_0 : List UInt8 := [3, 61, 28, 43, 190, 162, 0, 21, 42, 43, 28, 50, 182, 0, 253, 153, 0, 5, 28, 172, 132, 2, 1]
abbrev dktX5_which_0 : List UInt8 := dkwX5_which_0 ++ dktX5_which_1
theorem dksX5_which_0 : cX5_which.data.toList.drop 0 = dktX5_which_0 := by decide +kernel
theorem dksX5_which_1 : cX5_which.data.toList.drop 23 = dktX5_which_1 := dk_seg dksX5_which_0 23 rfl rfl
theorem dX5_which_0 : decode cX5_which 0 = .ok (.iconst 0, 1) := dk_3 (dk_at dksX5_which_0 0 rfl rfl)
theorem dX5_which_1 : decode cX5_which 1 = .ok (.istore_n 2, 1) := dk_61 (dk_at dksX5_which_0 1 rfl rfl)
theorem dX5_which_2 : decode cX5_which 2 = .ok (.iload_n 2, 1) := dk_28 (dk_at dksX5_which_0 2 rfl rfl)
theorem dX5_which_3 : decode cX5_which 3 = .ok (.aload_n 1, 1) := dk_43 (dk_at dksX5_which_0 3 rfl rfl)
theorem dX5_which_4 : decode cX5_which 4 = .ok (.arraylength, 1) := dk_190 (dk_at dksX5_which_0 4 rfl rfl)
theorem dX5_which_5 : decode cX5_which 5 = .ok (.if_icmp .ge 21, 3) := dk_162 0 21 (dk_at dksX5_which_0 5 rfl rfl)
theorem dX5_which_8 : decode cX5_which 8 = .ok (.aload_n 0, 1) := dk_42 (dk_at dksX5_which_0 8 rfl rfl)
theorem dX5_which_9 : decode cX5_which 9 = .ok (.aload_n 1, 1) := dk_43 (dk_at dksX5_which_0 9 rfl rfl)
theorem dX5_which_10 : decode cX5_which 10 = .ok (.iload_n 2, 1) := dk_28 (dk_at dksX5_which_0 10 rfl rfl)
theorem dX5_which_11 : decode cX5_which 11 = .ok (.aaload, 1) := dk_50 (dk_at dksX5_which_0 11 rfl rfl)
theorem dX5_which_12 : decode cX5_which 12 = .ok (.invokevirtual 253, 3) := dk_182 0 253 (dk_at dksX5_which_0 12 rfl rfl)
theorem dX5_which_15 : decode cX5_which 15 = .ok (.ifCond .eq 5, 3) := dk_153 0 5 (dk_at dksX5_which_0 15 rfl rfl)
theorem dX5_which_18 : decode cX5_which 18 = .ok (.iload_n 2, 1) := dk_28 (dk_at dksX5_which_0 18 rfl rfl)
theorem dX5_which_19 : decode cX5_which 19 = .ok (.ireturn, 1) := dk_172 (dk_at dksX5_which_0 19 rfl rfl)
theorem dX5_which_20 : decode cX5_which 20 = .ok (.iinc 2 1, 3) := dk_132 2 1 (dk_at dksX5_which_0 20 rfl rfl)
theorem dX5_which_23 : decode cX5_which 23 = .ok (.goto (-21), 3) := dk_167 255 235 (dk_at dksX5_which_1 0 rfl rfl)
theorem dX5_which_26 : decode cX5_which 26 = .ok (.iconst (-1), 1) := dk_2 (dk_at dksX5_which_1 3 rfl rfl)
theorem dX5_which_27 : decode cX5_which 27 = .ok (.ireturn, 1) := dk_172 (dk_at dksX5_which_1 4 rfl rfl)
abbrev cX5_readQuay : ByteArray := prog_23_method_23_code
def yX5_readQuay : MethodName := ⟨RX5, "readQuay", "(I)V"⟩
def dkwX5_readQuay_4 : List UInt8 := [96, 79, 177]
abbrev dktX5_readQuay_4 : List UInt8 := dkwX5_readQuay_4 ++ []
def dkwX5_readQuay_3 : List UInt8 := [182, 1, 17, 167, 0, 4, 3, 79, 42, 180, 0, 58, 28, 3, 79, 42, 180, 0, 45, 16, 6, 92, 46, 4]
abbrev dktX5_readQuay_3 : List UInt8 := dkwX5_readQuay_3 ++ dktX5_readQuay_4
def dkwX5_readQuay_2 : List UInt8 := [167, 0, 4, 2, 79, 42, 180, 0, 55, 28, 42, 19, 1, 20, 182, 1, 21, 153, 0, 13, 42, 3, 16, 100]
abbrev dktX5_readQuay_2 : List UInt8 := dkwX5_readQuay_2 ++ dktX5_readQuay_3
def dkwX5_readQuay_1 : List UInt8 := [180, 0, 49, 28, 27, 79, 42, 180, 0, 52, 28, 27, 6, 160, 0, 12, 42, 3, 4, 182, 1, 17]
abbrev dktX5_readQuay_1 : List UInt8 := dkwX5_readQuay_1 ++ dktX5_readQuay_2
def dkwX5_readQuay_0 : List UInt8 := [42, 3, 16, 8, 182, 1, 14, 154, 0, 4, 177, 16, 8, 42, 180, 0, 45, 16, 6, 46, 96, 61, 42]
abbrev dktX5_readQuay_0 : List UInt8 := dkwX5_readQuay_0 ++ dktX5_readQuay_1
theorem dksX5_readQuay_0 : cX5_readQuay.data.toList.drop 0 = dktX5_readQuay_0 := by decide +kernel
theorem dksX5_readQuay_1 : cX5_readQuay.data.toList.drop 23 = dktX5_readQuay_1 := dk_seg dksX5_readQuay_0 23 rfl rfl
theorem dksX5_readQuay_2 : cX5_readQuay.data.toList.drop 45 = dktX5_readQuay_2 := dk_seg dksX5_readQuay_1 22 rfl rfl
theorem dksX5_readQuay_3 : cX5_readQuay.data.toList.drop 69 = dktX5_readQuay_3 := dk_seg dksX5_readQuay_2 24 rfl rfl
theorem dksX5_readQuay_4 : cX5_readQuay.data.toList.drop 93 = dktX5_readQuay_4 := dk_seg dksX5_readQuay_3 24 rfl rfl
theorem dX5_readQuay_0 : decode cX5_readQuay 0 = .ok (.aload_n 0, 1) := dk_42 (dk_at dksX5_readQuay_0 0 rfl rfl)
theorem dX5_readQuay_1 : decode cX5_readQuay 1 = .ok (.iconst 0, 1) := dk_3 (dk_at dksX5_readQuay_0 1 rfl rfl)
theorem dX5_readQuay_2 : decode cX5_readQuay 2 = .ok (.bipush 8, 2) := dk_16 8 (dk_at dksX5_readQuay_0 2 rfl rfl)
theorem dX5_readQuay_4 : decode cX5_readQuay 4 = .ok (.invokevirtual 270, 3) := dk_182 1 14 (dk_at dksX5_readQuay_0 4 rfl rfl)
theorem dX5_readQuay_7 : decode cX5_readQuay 7 = .ok (.ifCond .ne 4, 3) := dk_154 0 4 (dk_at dksX5_readQuay_0 7 rfl rfl)
theorem dX5_readQuay_10 : decode cX5_readQuay 10 = .ok (.return_, 1) := dk_177 (dk_at dksX5_readQuay_0 10 rfl rfl)
theorem dX5_readQuay_11 : decode cX5_readQuay 11 = .ok (.bipush 8, 2) := dk_16 8 (dk_at dksX5_readQuay_0 11 rfl rfl)
theorem dX5_readQuay_13 : decode cX5_readQuay 13 = .ok (.aload_n 0, 1) := dk_42 (dk_at dksX5_readQuay_0 13 rfl rfl)
theorem dX5_readQuay_14 : decode cX5_readQuay 14 = .ok (.getfield 45, 3) := dk_180 0 45 (dk_at dksX5_readQuay_0 14 rfl rfl)
theorem dX5_readQuay_17 : decode cX5_readQuay 17 = .ok (.bipush 6, 2) := dk_16 6 (dk_at dksX5_readQuay_0 17 rfl rfl)
theorem dX5_readQuay_19 : decode cX5_readQuay 19 = .ok (.iaload, 1) := dk_46 (dk_at dksX5_readQuay_0 19 rfl rfl)
theorem dX5_readQuay_20 : decode cX5_readQuay 20 = .ok (.iadd, 1) := dk_96 (dk_at dksX5_readQuay_0 20 rfl rfl)
theorem dX5_readQuay_21 : decode cX5_readQuay 21 = .ok (.istore_n 2, 1) := dk_61 (dk_at dksX5_readQuay_0 21 rfl rfl)
theorem dX5_readQuay_22 : decode cX5_readQuay 22 = .ok (.aload_n 0, 1) := dk_42 (dk_at dksX5_readQuay_0 22 rfl rfl)
theorem dX5_readQuay_23 : decode cX5_readQuay 23 = .ok (.getfield 49, 3) := dk_180 0 49 (dk_at dksX5_readQuay_1 0 rfl rfl)
theorem dX5_readQuay_26 : decode cX5_readQuay 26 = .ok (.iload_n 2, 1) := dk_28 (dk_at dksX5_readQuay_1 3 rfl rfl)
theorem dX5_readQuay_27 : decode cX5_readQuay 27 = .ok (.iload_n 1, 1) := dk_27 (dk_at dksX5_readQuay_1 4 rfl rfl)
theorem dX5_readQuay_28 : decode cX5_readQuay 28 = .ok (.iastore, 1) := dk_79 (dk_at dksX5_readQuay_1 5 rfl rfl)
theorem dX5_readQuay_29 : decode cX5_readQuay 29 = .ok (.aload_n 0, 1) := dk_42 (dk_at dksX5_readQuay_1 6 rfl rfl)
theorem dX5_readQuay_30 : decode cX5_readQuay 30 = .ok (.getfield 52, 3) := dk_180 0 52 (dk_at dksX5_readQuay_1 7 rfl rfl)
theorem dX5_readQuay_33 : decode cX5_readQuay 33 = .ok (.iload_n 2, 1) := dk_28 (dk_at dksX5_readQuay_1 10 rfl rfl)
theorem dX5_readQuay_34 : decode cX5_readQuay 34 = .ok (.iload_n 1, 1) := dk_27 (dk_at dksX5_readQuay_1 11 rfl rfl)
theorem dX5_readQuay_35 : decode cX5_readQuay 35 = .ok (.iconst 3, 1) := dk_6 (dk_at dksX5_readQuay_1 12 rfl rfl)
theorem dX5_readQuay_36 : decode cX5_readQuay 36 = .ok (.if_icmp .ne 12, 3) := dk_160 0 12 (dk_at dksX5_readQuay_1 13 rfl rfl)
theorem dX5_readQuay_39 : decode cX5_readQuay 39 = .ok (.aload_n 0, 1) := dk_42 (dk_at dksX5_readQuay_1 16 rfl rfl)
theorem dX5_readQuay_40 : decode cX5_readQuay 40 = .ok (.iconst 0, 1) := dk_3 (dk_at dksX5_readQuay_1 17 rfl rfl)
theorem dX5_readQuay_41 : decode cX5_readQuay 41 = .ok (.iconst 1, 1) := dk_4 (dk_at dksX5_readQuay_1 18 rfl rfl)
theorem dX5_readQuay_42 : decode cX5_readQuay 42 = .ok (.invokevirtual 273, 3) := dk_182 1 17 (dk_at dksX5_readQuay_1 19 rfl rfl)
theorem dX5_readQuay_45 : decode cX5_readQuay 45 = .ok (.goto 4, 3) := dk_167 0 4 (dk_at dksX5_readQuay_2 0 rfl rfl)
theorem dX5_readQuay_48 : decode cX5_readQuay 48 = .ok (.iconst (-1), 1) := dk_2 (dk_at dksX5_readQuay_2 3 rfl rfl)
theorem dX5_readQuay_49 : decode cX5_readQuay 49 = .ok (.iastore, 1) := dk_79 (dk_at dksX5_readQuay_2 4 rfl rfl)
theorem dX5_readQuay_50 : decode cX5_readQuay 50 = .ok (.aload_n 0, 1) := dk_42 (dk_at dksX5_readQuay_2 5 rfl rfl)
theorem dX5_readQuay_51 : decode cX5_readQuay 51 = .ok (.getfield 55, 3) := dk_180 0 55 (dk_at dksX5_readQuay_2 6 rfl rfl)
theorem dX5_readQuay_54 : decode cX5_readQuay 54 = .ok (.iload_n 2, 1) := dk_28 (dk_at dksX5_readQuay_2 9 rfl rfl)
theorem dX5_readQuay_55 : decode cX5_readQuay 55 = .ok (.aload_n 0, 1) := dk_42 (dk_at dksX5_readQuay_2 10 rfl rfl)
theorem dX5_readQuay_56 : decode cX5_readQuay 56 = .ok (.ldc_w 276, 3) := dk_19 1 20 (dk_at dksX5_readQuay_2 11 rfl rfl)
theorem dX5_readQuay_59 : decode cX5_readQuay 59 = .ok (.invokevirtual 277, 3) := dk_182 1 21 (dk_at dksX5_readQuay_2 14 rfl rfl)
theorem dX5_readQuay_62 : decode cX5_readQuay 62 = .ok (.ifCond .eq 13, 3) := dk_153 0 13 (dk_at dksX5_readQuay_2 17 rfl rfl)
theorem dX5_readQuay_65 : decode cX5_readQuay 65 = .ok (.aload_n 0, 1) := dk_42 (dk_at dksX5_readQuay_2 20 rfl rfl)
theorem dX5_readQuay_66 : decode cX5_readQuay 66 = .ok (.iconst 0, 1) := dk_3 (dk_at dksX5_readQuay_2 21 rfl rfl)
theorem dX5_readQuay_67 : decode cX5_readQuay 67 = .ok (.bipush 100, 2) := dk_16 100 (dk_at dksX5_readQuay_2 22 rfl rfl)
theorem dX5_readQuay_69 : decode cX5_readQuay 69 = .ok (.invokevirtual 273, 3) := dk_182 1 17 (dk_at dksX5_readQuay_3 0 rfl rfl)
theorem dX5_readQuay_72 : decode cX5_readQuay 72 = .ok (.goto 4, 3) := dk_167 0 4 (dk_at dksX5_readQuay_3 3 rfl rfl)
theorem dX5_readQuay_75 : decode cX5_readQuay 75 = .ok (.iconst 0, 1) := dk_3 (dk_at dksX5_readQuay_3 6 rfl rfl)
theorem dX5_readQuay_76 : decode cX5_readQuay 76 = .ok (.iastore, 1) := dk_79 (dk_at dksX5_readQuay_3 7 rfl rfl)
theorem dX5_readQuay_77 : decode cX5_readQuay 77 = .ok (.aload_n 0, 1) := dk_42 (dk_at dksX5_readQuay_3 8 rfl rfl)
theorem dX5_readQuay_78 : decode cX5_readQuay 78 = .ok (.getfield 58, 3) := dk_180 0 58 (dk_at dksX5_readQuay_3 9 rfl rfl)
theorem dX5_readQuay_81 : decode cX5_readQuay 81 = .ok (.iload_n 2, 1) := dk_28 (dk_at dksX5_readQuay_3 12 rfl rfl)
theorem dX5_readQuay_82 : decode cX5_readQuay 82 = .ok (.iconst 0, 1) := dk_3 (dk_at dksX5_readQuay_3 13 rfl rfl)
theorem dX5_readQuay_83 : decode cX5_readQuay 83 = .ok (.iastore, 1) := dk_79 (dk_at dksX5_readQuay_3 14 rfl rfl)
theorem dX5_readQuay_84 : decode cX5_readQuay 84 = .ok (.aload_n 0, 1) := dk_42 (dk_at dksX5_readQuay_3 15 rfl rfl)
theorem dX5_readQuay_85 : decode cX5_readQuay 85 = .ok (.getfield 45, 3) := dk_180 0 45 (dk_at dksX5_readQuay_3 16 rfl rfl)
theorem dX5_readQuay_88 : decode cX5_readQuay 88 = .ok (.bipush 6, 2) := dk_16 6 (dk_at dksX5_readQuay_3 19 rfl rfl)
theorem dX5_readQuay_90 : decode cX5_readQuay 90 = .ok (.dup2, 1) := dk_92 (dk_at dksX5_readQuay_3 21 rfl rfl)
theorem dX5_readQuay_91 : decode cX5_readQuay 91 = .ok (.iaload, 1) := dk_46 (dk_at dksX5_readQuay_3 22 rfl rfl)
theorem dX5_readQuay_92 : decode cX5_readQuay 92 = .ok (.iconst 1, 1) := dk_4 (dk_at dksX5_readQuay_3 23 rfl rfl)
theorem dX5_readQuay_93 : decode cX5_readQuay 93 = .ok (.iadd, 1) := dk_96 (dk_at dksX5_readQuay_4 0 rfl rfl)
theorem dX5_readQuay_94 : decode cX5_readQuay 94 = .ok (.iastore, 1) := dk_79 (dk_at dksX5_readQuay_4 1 rfl rfl)
theorem dX5_readQuay_95 : decode cX5_readQuay 95 = .ok (.return_, 1) := dk_177 (dk_at dksX5_readQuay_4 2 rfl rfl)
abbrev cX5_open : ByteArray := prog_23_method_22_code
def yX5_open : MethodName := ⟨RX5, "open", "(II)Z"⟩
def dkwX5_open_1 : List UInt8 := [153, 0, 5, 3, 172, 42, 182, 1, 1, 4, 172]
abbrev dktX5_open_1 : List UInt8 := dkwX5_open_1 ++ []
def dkwX5_open_0 : List UInt8 := [42, 180, 0, 45, 16, 6, 27, 96, 46, 28, 160, 0, 8, 42, 5, 182, 1, 4, 42, 180, 0, 239]
abbrev dktX5_open_0 : List UInt8 := dkwX5_open_0 ++ dktX5_open_1
theorem dksX5_open_0 : cX5_open.data.toList.drop 0 = dktX5_open_0 := by decide +kernel
theorem dksX5_open_1 : cX5_open.data.toList.drop 22 = dktX5_open_1 := dk_seg dksX5_open_0 22 rfl rfl
theorem dX5_open_0 : decode cX5_open 0 = .ok (.aload_n 0, 1) := dk_42 (dk_at dksX5_open_0 0 rfl rfl)
theorem dX5_open_1 : decode cX5_open 1 = .ok (.getfield 45, 3) := dk_180 0 45 (dk_at dksX5_open_0 1 rfl rfl)
theorem dX5_open_4 : decode cX5_open 4 = .ok (.bipush 6, 2) := dk_16 6 (dk_at dksX5_open_0 4 rfl rfl)
theorem dX5_open_6 : decode cX5_open 6 = .ok (.iload_n 1, 1) := dk_27 (dk_at dksX5_open_0 6 rfl rfl)
theorem dX5_open_7 : decode cX5_open 7 = .ok (.iadd, 1) := dk_96 (dk_at dksX5_open_0 7 rfl rfl)
theorem dX5_open_8 : decode cX5_open 8 = .ok (.iaload, 1) := dk_46 (dk_at dksX5_open_0 8 rfl rfl)
theorem dX5_open_9 : decode cX5_open 9 = .ok (.iload_n 2, 1) := dk_28 (dk_at dksX5_open_0 9 rfl rfl)
theorem dX5_open_10 : decode cX5_open 10 = .ok (.if_icmp .ne 8, 3) := dk_160 0 8 (dk_at dksX5_open_0 10 rfl rfl)
theorem dX5_open_13 : decode cX5_open 13 = .ok (.aload_n 0, 1) := dk_42 (dk_at dksX5_open_0 13 rfl rfl)
theorem dX5_open_14 : decode cX5_open 14 = .ok (.iconst 2, 1) := dk_5 (dk_at dksX5_open_0 14 rfl rfl)
theorem dX5_open_15 : decode cX5_open 15 = .ok (.invokevirtual 260, 3) := dk_182 1 4 (dk_at dksX5_open_0 15 rfl rfl)
theorem dX5_open_18 : decode cX5_open 18 = .ok (.aload_n 0, 1) := dk_42 (dk_at dksX5_open_0 18 rfl rfl)
theorem dX5_open_19 : decode cX5_open 19 = .ok (.getfield 239, 3) := dk_180 0 239 (dk_at dksX5_open_0 19 rfl rfl)
theorem dX5_open_22 : decode cX5_open 22 = .ok (.ifCond .eq 5, 3) := dk_153 0 5 (dk_at dksX5_open_1 0 rfl rfl)
theorem dX5_open_25 : decode cX5_open 25 = .ok (.iconst 0, 1) := dk_3 (dk_at dksX5_open_1 3 rfl rfl)
theorem dX5_open_26 : decode cX5_open 26 = .ok (.ireturn, 1) := dk_172 (dk_at dksX5_open_1 4 rfl rfl)
theorem dX5_open_27 : decode cX5_open 27 = .ok (.aload_n 0, 1) := dk_42 (dk_at dksX5_open_1 5 rfl rfl)
theorem dX5_open_28 : decode cX5_open 28 = .ok (.invokevirtual 257, 3) := dk_182 1 1 (dk_at dksX5_open_1 6 rfl rfl)
theorem dX5_open_31 : decode cX5_open 31 = .ok (.iconst 1, 1) := dk_4 (dk_at dksX5_open_1 9 rfl rfl)
theorem dX5_open_32 : decode cX5_open 32 = .ok (.ireturn, 1) := dk_172 (dk_at dksX5_open_1 10 rfl rfl)
abbrev cX5_readNumber : ByteArray := prog_23_method_19_code
def yX5_readNumber : MethodName := ⟨RX5, "readNumber", "(II)I"⟩
def dkwX5_readNumber_0 : List UInt8 := [42, 27, 28, 182, 1, 8, 62, 42, 180, 0, 239, 154, 0, 7, 42, 182, 1, 1, 29, 172]
abbrev dktX5_readNumber_0 : List UInt8 := dkwX5_readNumber_0 ++ []
theorem dksX5_readNumber_0 : cX5_readNumber.data.toList.drop 0 = dktX5_readNumber_0 := by decide +kernel
theorem dX5_readNumber_0 : decode cX5_readNumber 0 = .ok (.aload_n 0, 1) := dk_42 (dk_at dksX5_readNumber_0 0 rfl rfl)
theorem dX5_readNumber_1 : decode cX5_readNumber 1 = .ok (.iload_n 1, 1) := dk_27 (dk_at dksX5_readNumber_0 1 rfl rfl)
theorem dX5_readNumber_2 : decode cX5_readNumber 2 = .ok (.iload_n 2, 1) := dk_28 (dk_at dksX5_readNumber_0 2 rfl rfl)
theorem dX5_readNumber_3 : decode cX5_readNumber 3 = .ok (.invokevirtual 264, 3) := dk_182 1 8 (dk_at dksX5_readNumber_0 3 rfl rfl)
theorem dX5_readNumber_6 : decode cX5_readNumber 6 = .ok (.istore_n 3, 1) := dk_62 (dk_at dksX5_readNumber_0 6 rfl rfl)
theorem dX5_readNumber_7 : decode cX5_readNumber 7 = .ok (.aload_n 0, 1) := dk_42 (dk_at dksX5_readNumber_0 7 rfl rfl)
theorem dX5_readNumber_8 : decode cX5_readNumber 8 = .ok (.getfield 239, 3) := dk_180 0 239 (dk_at dksX5_readNumber_0 8 rfl rfl)
theorem dX5_readNumber_11 : decode cX5_readNumber 11 = .ok (.ifCond .ne 7, 3) := dk_154 0 7 (dk_at dksX5_readNumber_0 11 rfl rfl)
theorem dX5_readNumber_14 : decode cX5_readNumber 14 = .ok (.aload_n 0, 1) := dk_42 (dk_at dksX5_readNumber_0 14 rfl rfl)
theorem dX5_readNumber_15 : decode cX5_readNumber 15 = .ok (.invokevirtual 257, 3) := dk_182 1 1 (dk_at dksX5_readNumber_0 15 rfl rfl)
theorem dX5_readNumber_18 : decode cX5_readNumber 18 = .ok (.iload_n 3, 1) := dk_29 (dk_at dksX5_readNumber_0 18 rfl rfl)
theorem dX5_readNumber_19 : decode cX5_readNumber 19 = .ok (.ireturn, 1) := dk_172 (dk_at dksX5_readNumber_0 19 rfl rfl)
abbrev cX5_numberNow : ByteArray := prog_23_method_18_code
def yX5_numberNow : MethodName := ⟨RX5, "numberNow", "(II)I"⟩
def dkwX5_numberNow_3 : List UInt8 := [167, 0, 4, 3, 172]
abbrev dktX5_numberNow_3 : List UInt8 := dkwX5_numberNow_3 ++ []
def dkwX5_numberNow_2 : List UInt8 := [42, 180, 0, 227, 28, 164, 0, 8, 42, 5, 182, 1, 4, 42, 180, 0, 239, 154, 0, 10, 42, 180, 0, 227]
abbrev dktX5_numberNow_2 : List UInt8 := dkwX5_numberNow_2 ++ dktX5_numberNow_3
def dkwX5_numberNow_1 : List UInt8 := [167, 0, 37, 42, 180, 0, 236, 42, 180, 0, 214, 100, 6, 163, 0, 19, 42, 180, 0, 227, 27, 161, 0, 11]
abbrev dktX5_numberNow_1 : List UInt8 := dkwX5_numberNow_1 ++ dktX5_numberNow_2
def dkwX5_numberNow_0 : List UInt8 := [42, 180, 0, 239, 153, 0, 5, 3, 172, 42, 180, 0, 217, 5, 159, 0, 11, 42, 4, 182, 1, 4]
abbrev dktX5_numberNow_0 : List UInt8 := dkwX5_numberNow_0 ++ dktX5_numberNow_1
theorem dksX5_numberNow_0 : cX5_numberNow.data.toList.drop 0 = dktX5_numberNow_0 := by decide +kernel
theorem dksX5_numberNow_1 : cX5_numberNow.data.toList.drop 22 = dktX5_numberNow_1 := dk_seg dksX5_numberNow_0 22 rfl rfl
theorem dksX5_numberNow_2 : cX5_numberNow.data.toList.drop 46 = dktX5_numberNow_2 := dk_seg dksX5_numberNow_1 24 rfl rfl
theorem dksX5_numberNow_3 : cX5_numberNow.data.toList.drop 70 = dktX5_numberNow_3 := dk_seg dksX5_numberNow_2 24 rfl rfl
theorem dX5_numberNow_0 : decode cX5_numberNow 0 = .ok (.aload_n 0, 1) := dk_42 (dk_at dksX5_numberNow_0 0 rfl rfl)
theorem dX5_numberNow_1 : decode cX5_numberNow 1 = .ok (.getfield 239, 3) := dk_180 0 239 (dk_at dksX5_numberNow_0 1 rfl rfl)
theorem dX5_numberNow_4 : decode cX5_numberNow 4 = .ok (.ifCond .eq 5, 3) := dk_153 0 5 (dk_at dksX5_numberNow_0 4 rfl rfl)
theorem dX5_numberNow_7 : decode cX5_numberNow 7 = .ok (.iconst 0, 1) := dk_3 (dk_at dksX5_numberNow_0 7 rfl rfl)
theorem dX5_numberNow_8 : decode cX5_numberNow 8 = .ok (.ireturn, 1) := dk_172 (dk_at dksX5_numberNow_0 8 rfl rfl)
theorem dX5_numberNow_9 : decode cX5_numberNow 9 = .ok (.aload_n 0, 1) := dk_42 (dk_at dksX5_numberNow_0 9 rfl rfl)
theorem dX5_numberNow_10 : decode cX5_numberNow 10 = .ok (.getfield 217, 3) := dk_180 0 217 (dk_at dksX5_numberNow_0 10 rfl rfl)
theorem dX5_numberNow_13 : decode cX5_numberNow 13 = .ok (.iconst 2, 1) := dk_5 (dk_at dksX5_numberNow_0 13 rfl rfl)
theorem dX5_numberNow_14 : decode cX5_numberNow 14 = .ok (.if_icmp .eq 11, 3) := dk_159 0 11 (dk_at dksX5_numberNow_0 14 rfl rfl)
theorem dX5_numberNow_17 : decode cX5_numberNow 17 = .ok (.aload_n 0, 1) := dk_42 (dk_at dksX5_numberNow_0 17 rfl rfl)
theorem dX5_numberNow_18 : decode cX5_numberNow 18 = .ok (.iconst 1, 1) := dk_4 (dk_at dksX5_numberNow_0 18 rfl rfl)
theorem dX5_numberNow_19 : decode cX5_numberNow 19 = .ok (.invokevirtual 260, 3) := dk_182 1 4 (dk_at dksX5_numberNow_0 19 rfl rfl)
theorem dX5_numberNow_22 : decode cX5_numberNow 22 = .ok (.goto 37, 3) := dk_167 0 37 (dk_at dksX5_numberNow_1 0 rfl rfl)
theorem dX5_numberNow_25 : decode cX5_numberNow 25 = .ok (.aload_n 0, 1) := dk_42 (dk_at dksX5_numberNow_1 3 rfl rfl)
theorem dX5_numberNow_26 : decode cX5_numberNow 26 = .ok (.getfield 236, 3) := dk_180 0 236 (dk_at dksX5_numberNow_1 4 rfl rfl)
theorem dX5_numberNow_29 : decode cX5_numberNow 29 = .ok (.aload_n 0, 1) := dk_42 (dk_at dksX5_numberNow_1 7 rfl rfl)
theorem dX5_numberNow_30 : decode cX5_numberNow 30 = .ok (.getfield 214, 3) := dk_180 0 214 (dk_at dksX5_numberNow_1 8 rfl rfl)
theorem dX5_numberNow_33 : decode cX5_numberNow 33 = .ok (.isub, 1) := dk_100 (dk_at dksX5_numberNow_1 11 rfl rfl)
theorem dX5_numberNow_34 : decode cX5_numberNow 34 = .ok (.iconst 3, 1) := dk_6 (dk_at dksX5_numberNow_1 12 rfl rfl)
theorem dX5_numberNow_35 : decode cX5_numberNow 35 = .ok (.if_icmp .gt 19, 3) := dk_163 0 19 (dk_at dksX5_numberNow_1 13 rfl rfl)
theorem dX5_numberNow_38 : decode cX5_numberNow 38 = .ok (.aload_n 0, 1) := dk_42 (dk_at dksX5_numberNow_1 16 rfl rfl)
theorem dX5_numberNow_39 : decode cX5_numberNow 39 = .ok (.getfield 227, 3) := dk_180 0 227 (dk_at dksX5_numberNow_1 17 rfl rfl)
theorem dX5_numberNow_42 : decode cX5_numberNow 42 = .ok (.iload_n 1, 1) := dk_27 (dk_at dksX5_numberNow_1 20 rfl rfl)
theorem dX5_numberNow_43 : decode cX5_numberNow 43 = .ok (.if_icmp .lt 11, 3) := dk_161 0 11 (dk_at dksX5_numberNow_1 21 rfl rfl)
theorem dX5_numberNow_46 : decode cX5_numberNow 46 = .ok (.aload_n 0, 1) := dk_42 (dk_at dksX5_numberNow_2 0 rfl rfl)
theorem dX5_numberNow_47 : decode cX5_numberNow 47 = .ok (.getfield 227, 3) := dk_180 0 227 (dk_at dksX5_numberNow_2 1 rfl rfl)
theorem dX5_numberNow_50 : decode cX5_numberNow 50 = .ok (.iload_n 2, 1) := dk_28 (dk_at dksX5_numberNow_2 4 rfl rfl)
theorem dX5_numberNow_51 : decode cX5_numberNow 51 = .ok (.if_icmp .le 8, 3) := dk_164 0 8 (dk_at dksX5_numberNow_2 5 rfl rfl)
theorem dX5_numberNow_54 : decode cX5_numberNow 54 = .ok (.aload_n 0, 1) := dk_42 (dk_at dksX5_numberNow_2 8 rfl rfl)
theorem dX5_numberNow_55 : decode cX5_numberNow 55 = .ok (.iconst 2, 1) := dk_5 (dk_at dksX5_numberNow_2 9 rfl rfl)
theorem dX5_numberNow_56 : decode cX5_numberNow 56 = .ok (.invokevirtual 260, 3) := dk_182 1 4 (dk_at dksX5_numberNow_2 10 rfl rfl)
theorem dX5_numberNow_59 : decode cX5_numberNow 59 = .ok (.aload_n 0, 1) := dk_42 (dk_at dksX5_numberNow_2 13 rfl rfl)
theorem dX5_numberNow_60 : decode cX5_numberNow 60 = .ok (.getfield 239, 3) := dk_180 0 239 (dk_at dksX5_numberNow_2 14 rfl rfl)
theorem dX5_numberNow_63 : decode cX5_numberNow 63 = .ok (.ifCond .ne 10, 3) := dk_154 0 10 (dk_at dksX5_numberNow_2 17 rfl rfl)
theorem dX5_numberNow_66 : decode cX5_numberNow 66 = .ok (.aload_n 0, 1) := dk_42 (dk_at dksX5_numberNow_2 20 rfl rfl)
theorem dX5_numberNow_67 : decode cX5_numberNow 67 = .ok (.getfield 227, 3) := dk_180 0 227 (dk_at dksX5_numberNow_2 21 rfl rfl)
theorem dX5_numberNow_70 : decode cX5_numberNow 70 = .ok (.goto 4, 3) := dk_167 0 4 (dk_at dksX5_numberNow_3 0 rfl rfl)
theorem dX5_numberNow_73 : decode cX5_numberNow 73 = .ok (.iconst 0, 1) := dk_3 (dk_at dksX5_numberNow_3 3 rfl rfl)
theorem dX5_numberNow_74 : decode cX5_numberNow 74 = .ok (.ireturn, 1) := dk_172 (dk_at dksX5_numberNow_3 4 rfl rfl)
abbrev cX5_passes : ByteArray := prog_23_method_17_code
def yX5_passes : MethodName := ⟨RX5, "passes", "(Ljava/lang/String;)Z"⟩
def dkwX5_passes_0 : List UInt8 := [42, 43, 182, 0, 253, 61, 28, 153, 0, 7, 42, 182, 1, 1, 28, 172]
abbrev dktX5_passes_0 : List UInt8 := dkwX5_passes_0 ++ []
theorem dksX5_passes_0 : cX5_passes.data.toList.drop 0 = dktX5_passes_0 := by decide +kernel
theorem dX5_passes_0 : decode cX5_passes 0 = .ok (.aload_n 0, 1) := dk_42 (dk_at dksX5_passes_0 0 rfl rfl)
theorem dX5_passes_1 : decode cX5_passes 1 = .ok (.aload_n 1, 1) := dk_43 (dk_at dksX5_passes_0 1 rfl rfl)
theorem dX5_passes_2 : decode cX5_passes 2 = .ok (.invokevirtual 253, 3) := dk_182 0 253 (dk_at dksX5_passes_0 2 rfl rfl)
theorem dX5_passes_5 : decode cX5_passes 5 = .ok (.istore_n 2, 1) := dk_61 (dk_at dksX5_passes_0 5 rfl rfl)
theorem dX5_passes_6 : decode cX5_passes 6 = .ok (.iload_n 2, 1) := dk_28 (dk_at dksX5_passes_0 6 rfl rfl)
theorem dX5_passes_7 : decode cX5_passes 7 = .ok (.ifCond .eq 7, 3) := dk_153 0 7 (dk_at dksX5_passes_0 7 rfl rfl)
theorem dX5_passes_10 : decode cX5_passes 10 = .ok (.aload_n 0, 1) := dk_42 (dk_at dksX5_passes_0 10 rfl rfl)
theorem dX5_passes_11 : decode cX5_passes 11 = .ok (.invokevirtual 257, 3) := dk_182 1 1 (dk_at dksX5_passes_0 11 rfl rfl)
theorem dX5_passes_14 : decode cX5_passes 14 = .ok (.iload_n 2, 1) := dk_28 (dk_at dksX5_passes_0 14 rfl rfl)
theorem dX5_passes_15 : decode cX5_passes 15 = .ok (.ireturn, 1) := dk_172 (dk_at dksX5_passes_0 15 rfl rfl)
abbrev cX5_readEel : ByteArray := prog_23_method_25_code
def yX5_readEel : MethodName := ⟨RX5, "readEel", "(I)V"⟩
def dkwX5_readEel_3 : List UInt8 := [3, 16, 20, 182, 1, 17, 79, 42, 180, 0, 45, 16, 7, 92, 46, 4, 96, 79, 177]
abbrev dktX5_readEel_3 : List UInt8 := dkwX5_readEel_3 ++ []
def dkwX5_readEel_2 : List UInt8 := [3, 182, 1, 24, 79, 42, 180, 0, 70, 28, 42, 4, 16, 40, 182, 1, 17, 79, 42, 180, 0, 73, 28, 42]
abbrev dktX5_readEel_2 : List UInt8 := dkwX5_readEel_2 ++ dktX5_readEel_3
def dkwX5_readEel_1 : List UInt8 := [180, 0, 61, 28, 27, 79, 42, 180, 0, 64, 28, 42, 3, 4, 182, 1, 17, 79, 42, 180, 0, 67, 28, 42]
abbrev dktX5_readEel_1 : List UInt8 := dkwX5_readEel_1 ++ dktX5_readEel_2
def dkwX5_readEel_0 : List UInt8 := [42, 4, 16, 6, 182, 1, 14, 154, 0, 4, 177, 16, 6, 42, 180, 0, 45, 16, 7, 46, 96, 61, 42]
abbrev dktX5_readEel_0 : List UInt8 := dkwX5_readEel_0 ++ dktX5_readEel_1
theorem dksX5_readEel_0 : cX5_readEel.data.toList.drop 0 = dktX5_readEel_0 := by decide +kernel
theorem dksX5_readEel_1 : cX5_readEel.data.toList.drop 23 = dktX5_readEel_1 := dk_seg dksX5_readEel_0 23 rfl rfl
theorem dksX5_readEel_2 : cX5_readEel.data.toList.drop 47 = dktX5_readEel_2 := dk_seg dksX5_readEel_1 24 rfl rfl
theorem dksX5_readEel_3 : cX5_readEel.data.toList.drop 71 = dktX5_readEel_3 := dk_seg dksX5_readEel_2 24 rfl rfl
theorem dX5_readEel_0 : decode cX5_readEel 0 = .ok (.aload_n 0, 1) := dk_42 (dk_at dksX5_readEel_0 0 rfl rfl)
theorem dX5_readEel_1 : decode cX5_readEel 1 = .ok (.iconst 1, 1) := dk_4 (dk_at dksX5_readEel_0 1 rfl rfl)
theorem dX5_readEel_2 : decode cX5_readEel 2 = .ok (.bipush 6, 2) := dk_16 6 (dk_at dksX5_readEel_0 2 rfl rfl)
theorem dX5_readEel_4 : decode cX5_readEel 4 = .ok (.invokevirtual 270, 3) := dk_182 1 14 (dk_at dksX5_readEel_0 4 rfl rfl)
theorem dX5_readEel_7 : decode cX5_readEel 7 = .ok (.ifCond .ne 4, 3) := dk_154 0 4 (dk_at dksX5_readEel_0 7 rfl rfl)
theorem dX5_readEel_10 : decode cX5_readEel 10 = .ok (.return_, 1) := dk_177 (dk_at dksX5_readEel_0 10 rfl rfl)
theorem dX5_readEel_11 : decode cX5_readEel 11 = .ok (.bipush 6, 2) := dk_16 6 (dk_at dksX5_readEel_0 11 rfl rfl)
theorem dX5_readEel_13 : decode cX5_readEel 13 = .ok (.aload_n 0, 1) := dk_42 (dk_at dksX5_readEel_0 13 rfl rfl)
theorem dX5_readEel_14 : decode cX5_readEel 14 = .ok (.getfield 45, 3) := dk_180 0 45 (dk_at dksX5_readEel_0 14 rfl rfl)
theorem dX5_readEel_17 : decode cX5_readEel 17 = .ok (.bipush 7, 2) := dk_16 7 (dk_at dksX5_readEel_0 17 rfl rfl)
theorem dX5_readEel_19 : decode cX5_readEel 19 = .ok (.iaload, 1) := dk_46 (dk_at dksX5_readEel_0 19 rfl rfl)
theorem dX5_readEel_20 : decode cX5_readEel 20 = .ok (.iadd, 1) := dk_96 (dk_at dksX5_readEel_0 20 rfl rfl)
theorem dX5_readEel_21 : decode cX5_readEel 21 = .ok (.istore_n 2, 1) := dk_61 (dk_at dksX5_readEel_0 21 rfl rfl)
theorem dX5_readEel_22 : decode cX5_readEel 22 = .ok (.aload_n 0, 1) := dk_42 (dk_at dksX5_readEel_0 22 rfl rfl)
theorem dX5_readEel_23 : decode cX5_readEel 23 = .ok (.getfield 61, 3) := dk_180 0 61 (dk_at dksX5_readEel_1 0 rfl rfl)
theorem dX5_readEel_26 : decode cX5_readEel 26 = .ok (.iload_n 2, 1) := dk_28 (dk_at dksX5_readEel_1 3 rfl rfl)
theorem dX5_readEel_27 : decode cX5_readEel 27 = .ok (.iload_n 1, 1) := dk_27 (dk_at dksX5_readEel_1 4 rfl rfl)
theorem dX5_readEel_28 : decode cX5_readEel 28 = .ok (.iastore, 1) := dk_79 (dk_at dksX5_readEel_1 5 rfl rfl)
theorem dX5_readEel_29 : decode cX5_readEel 29 = .ok (.aload_n 0, 1) := dk_42 (dk_at dksX5_readEel_1 6 rfl rfl)
theorem dX5_readEel_30 : decode cX5_readEel 30 = .ok (.getfield 64, 3) := dk_180 0 64 (dk_at dksX5_readEel_1 7 rfl rfl)
theorem dX5_readEel_33 : decode cX5_readEel 33 = .ok (.iload_n 2, 1) := dk_28 (dk_at dksX5_readEel_1 10 rfl rfl)
theorem dX5_readEel_34 : decode cX5_readEel 34 = .ok (.aload_n 0, 1) := dk_42 (dk_at dksX5_readEel_1 11 rfl rfl)
theorem dX5_readEel_35 : decode cX5_readEel 35 = .ok (.iconst 0, 1) := dk_3 (dk_at dksX5_readEel_1 12 rfl rfl)
theorem dX5_readEel_36 : decode cX5_readEel 36 = .ok (.iconst 1, 1) := dk_4 (dk_at dksX5_readEel_1 13 rfl rfl)
theorem dX5_readEel_37 : decode cX5_readEel 37 = .ok (.invokevirtual 273, 3) := dk_182 1 17 (dk_at dksX5_readEel_1 14 rfl rfl)
theorem dX5_readEel_40 : decode cX5_readEel 40 = .ok (.iastore, 1) := dk_79 (dk_at dksX5_readEel_1 17 rfl rfl)
theorem dX5_readEel_41 : decode cX5_readEel 41 = .ok (.aload_n 0, 1) := dk_42 (dk_at dksX5_readEel_1 18 rfl rfl)
theorem dX5_readEel_42 : decode cX5_readEel 42 = .ok (.getfield 67, 3) := dk_180 0 67 (dk_at dksX5_readEel_1 19 rfl rfl)
theorem dX5_readEel_45 : decode cX5_readEel 45 = .ok (.iload_n 2, 1) := dk_28 (dk_at dksX5_readEel_1 22 rfl rfl)
theorem dX5_readEel_46 : decode cX5_readEel 46 = .ok (.aload_n 0, 1) := dk_42 (dk_at dksX5_readEel_1 23 rfl rfl)
theorem dX5_readEel_47 : decode cX5_readEel 47 = .ok (.iconst 0, 1) := dk_3 (dk_at dksX5_readEel_2 0 rfl rfl)
theorem dX5_readEel_48 : decode cX5_readEel 48 = .ok (.invokevirtual 280, 3) := dk_182 1 24 (dk_at dksX5_readEel_2 1 rfl rfl)
theorem dX5_readEel_51 : decode cX5_readEel 51 = .ok (.iastore, 1) := dk_79 (dk_at dksX5_readEel_2 4 rfl rfl)
theorem dX5_readEel_52 : decode cX5_readEel 52 = .ok (.aload_n 0, 1) := dk_42 (dk_at dksX5_readEel_2 5 rfl rfl)
theorem dX5_readEel_53 : decode cX5_readEel 53 = .ok (.getfield 70, 3) := dk_180 0 70 (dk_at dksX5_readEel_2 6 rfl rfl)
theorem dX5_readEel_56 : decode cX5_readEel 56 = .ok (.iload_n 2, 1) := dk_28 (dk_at dksX5_readEel_2 9 rfl rfl)
theorem dX5_readEel_57 : decode cX5_readEel 57 = .ok (.aload_n 0, 1) := dk_42 (dk_at dksX5_readEel_2 10 rfl rfl)
theorem dX5_readEel_58 : decode cX5_readEel 58 = .ok (.iconst 1, 1) := dk_4 (dk_at dksX5_readEel_2 11 rfl rfl)
theorem dX5_readEel_59 : decode cX5_readEel 59 = .ok (.bipush 40, 2) := dk_16 40 (dk_at dksX5_readEel_2 12 rfl rfl)
theorem dX5_readEel_61 : decode cX5_readEel 61 = .ok (.invokevirtual 273, 3) := dk_182 1 17 (dk_at dksX5_readEel_2 14 rfl rfl)
theorem dX5_readEel_64 : decode cX5_readEel 64 = .ok (.iastore, 1) := dk_79 (dk_at dksX5_readEel_2 17 rfl rfl)
theorem dX5_readEel_65 : decode cX5_readEel 65 = .ok (.aload_n 0, 1) := dk_42 (dk_at dksX5_readEel_2 18 rfl rfl)
theorem dX5_readEel_66 : decode cX5_readEel 66 = .ok (.getfield 73, 3) := dk_180 0 73 (dk_at dksX5_readEel_2 19 rfl rfl)
theorem dX5_readEel_69 : decode cX5_readEel 69 = .ok (.iload_n 2, 1) := dk_28 (dk_at dksX5_readEel_2 22 rfl rfl)
theorem dX5_readEel_70 : decode cX5_readEel 70 = .ok (.aload_n 0, 1) := dk_42 (dk_at dksX5_readEel_2 23 rfl rfl)
theorem dX5_readEel_71 : decode cX5_readEel 71 = .ok (.iconst 0, 1) := dk_3 (dk_at dksX5_readEel_3 0 rfl rfl)
theorem dX5_readEel_72 : decode cX5_readEel 72 = .ok (.bipush 20, 2) := dk_16 20 (dk_at dksX5_readEel_3 1 rfl rfl)
theorem dX5_readEel_74 : decode cX5_readEel 74 = .ok (.invokevirtual 273, 3) := dk_182 1 17 (dk_at dksX5_readEel_3 3 rfl rfl)
theorem dX5_readEel_77 : decode cX5_readEel 77 = .ok (.iastore, 1) := dk_79 (dk_at dksX5_readEel_3 6 rfl rfl)
theorem dX5_readEel_78 : decode cX5_readEel 78 = .ok (.aload_n 0, 1) := dk_42 (dk_at dksX5_readEel_3 7 rfl rfl)
theorem dX5_readEel_79 : decode cX5_readEel 79 = .ok (.getfield 45, 3) := dk_180 0 45 (dk_at dksX5_readEel_3 8 rfl rfl)
theorem dX5_readEel_82 : decode cX5_readEel 82 = .ok (.bipush 7, 2) := dk_16 7 (dk_at dksX5_readEel_3 11 rfl rfl)
theorem dX5_readEel_84 : decode cX5_readEel 84 = .ok (.dup2, 1) := dk_92 (dk_at dksX5_readEel_3 13 rfl rfl)
theorem dX5_readEel_85 : decode cX5_readEel 85 = .ok (.iaload, 1) := dk_46 (dk_at dksX5_readEel_3 14 rfl rfl)
theorem dX5_readEel_86 : decode cX5_readEel 86 = .ok (.iconst 1, 1) := dk_4 (dk_at dksX5_readEel_3 15 rfl rfl)
theorem dX5_readEel_87 : decode cX5_readEel 87 = .ok (.iadd, 1) := dk_96 (dk_at dksX5_readEel_3 16 rfl rfl)
theorem dX5_readEel_88 : decode cX5_readEel 88 = .ok (.iastore, 1) := dk_79 (dk_at dksX5_readEel_3 17 rfl rfl)
theorem dX5_readEel_89 : decode cX5_readEel 89 = .ok (.return_, 1) := dk_177 (dk_at dksX5_readEel_3 18 rfl rfl)
abbrev cX5_readOne : ByteArray := prog_23_method_21_code
def yX5_readOne : MethodName := ⟨RX5, "readOne", "(I)I"⟩
def dkwX5_readOne_0 : List UInt8 := [42, 27, 182, 1, 11, 61, 42, 180, 0, 239, 154, 0, 7, 42, 182, 1, 1, 28, 172]
abbrev dktX5_readOne_0 : List UInt8 := dkwX5_readOne_0 ++ []
theorem dksX5_readOne_0 : cX5_readOne.data.toList.drop 0 = dktX5_readOne_0 := by decide +kernel
theorem dX5_readOne_0 : decode cX5_readOne 0 = .ok (.aload_n 0, 1) := dk_42 (dk_at dksX5_readOne_0 0 rfl rfl)
theorem dX5_readOne_1 : decode cX5_readOne 1 = .ok (.iload_n 1, 1) := dk_27 (dk_at dksX5_readOne_0 1 rfl rfl)
theorem dX5_readOne_2 : decode cX5_readOne 2 = .ok (.invokevirtual 267, 3) := dk_182 1 11 (dk_at dksX5_readOne_0 2 rfl rfl)
theorem dX5_readOne_5 : decode cX5_readOne 5 = .ok (.istore_n 2, 1) := dk_61 (dk_at dksX5_readOne_0 5 rfl rfl)
theorem dX5_readOne_6 : decode cX5_readOne 6 = .ok (.aload_n 0, 1) := dk_42 (dk_at dksX5_readOne_0 6 rfl rfl)
theorem dX5_readOne_7 : decode cX5_readOne 7 = .ok (.getfield 239, 3) := dk_180 0 239 (dk_at dksX5_readOne_0 7 rfl rfl)
theorem dX5_readOne_10 : decode cX5_readOne 10 = .ok (.ifCond .ne 7, 3) := dk_154 0 7 (dk_at dksX5_readOne_0 10 rfl rfl)
theorem dX5_readOne_13 : decode cX5_readOne 13 = .ok (.aload_n 0, 1) := dk_42 (dk_at dksX5_readOne_0 13 rfl rfl)
theorem dX5_readOne_14 : decode cX5_readOne 14 = .ok (.invokevirtual 257, 3) := dk_182 1 1 (dk_at dksX5_readOne_0 14 rfl rfl)
theorem dX5_readOne_17 : decode cX5_readOne 17 = .ok (.iload_n 2, 1) := dk_28 (dk_at dksX5_readOne_0 17 rfl rfl)
theorem dX5_readOne_18 : decode cX5_readOne 18 = .ok (.ireturn, 1) := dk_172 (dk_at dksX5_readOne_0 18 rfl rfl)
abbrev cX5_oneNow : ByteArray := prog_23_method_20_code
def yX5_oneNow : MethodName := ⟨RX5, "oneNow", "(I)I"⟩
def dkwX5_oneNow_1 : List UInt8 := [96, 46, 161, 0, 8, 42, 6, 182, 1, 4, 42, 180, 0, 239, 154, 0, 7, 28, 167, 0, 4, 3, 172]
abbrev dktX5_oneNow_1 : List UInt8 := dkwX5_oneNow_1 ++ []
def dkwX5_oneNow_0 : List UInt8 := [42, 3, 17, 3, 231, 182, 1, 8, 61, 42, 180, 0, 239, 154, 0, 21, 28, 42, 180, 0, 45, 16, 6, 27]
abbrev dktX5_oneNow_0 : List UInt8 := dkwX5_oneNow_0 ++ dktX5_oneNow_1
theorem dksX5_oneNow_0 : cX5_oneNow.data.toList.drop 0 = dktX5_oneNow_0 := by decide +kernel
theorem dksX5_oneNow_1 : cX5_oneNow.data.toList.drop 24 = dktX5_oneNow_1 := dk_seg dksX5_oneNow_0 24 rfl rfl
theorem dX5_oneNow_0 : decode cX5_oneNow 0 = .ok (.aload_n 0, 1) := dk_42 (dk_at dksX5_oneNow_0 0 rfl rfl)
theorem dX5_oneNow_1 : decode cX5_oneNow 1 = .ok (.iconst 0, 1) := dk_3 (dk_at dksX5_oneNow_0 1 rfl rfl)
theorem dX5_oneNow_2 : decode cX5_oneNow 2 = .ok (.sipush 999, 3) := dk_17 3 231 (dk_at dksX5_oneNow_0 2 rfl rfl)
theorem dX5_oneNow_5 : decode cX5_oneNow 5 = .ok (.invokevirtual 264, 3) := dk_182 1 8 (dk_at dksX5_oneNow_0 5 rfl rfl)
theorem dX5_oneNow_8 : decode cX5_oneNow 8 = .ok (.istore_n 2, 1) := dk_61 (dk_at dksX5_oneNow_0 8 rfl rfl)
theorem dX5_oneNow_9 : decode cX5_oneNow 9 = .ok (.aload_n 0, 1) := dk_42 (dk_at dksX5_oneNow_0 9 rfl rfl)
theorem dX5_oneNow_10 : decode cX5_oneNow 10 = .ok (.getfield 239, 3) := dk_180 0 239 (dk_at dksX5_oneNow_0 10 rfl rfl)
theorem dX5_oneNow_13 : decode cX5_oneNow 13 = .ok (.ifCond .ne 21, 3) := dk_154 0 21 (dk_at dksX5_oneNow_0 13 rfl rfl)
theorem dX5_oneNow_16 : decode cX5_oneNow 16 = .ok (.iload_n 2, 1) := dk_28 (dk_at dksX5_oneNow_0 16 rfl rfl)
theorem dX5_oneNow_17 : decode cX5_oneNow 17 = .ok (.aload_n 0, 1) := dk_42 (dk_at dksX5_oneNow_0 17 rfl rfl)
theorem dX5_oneNow_18 : decode cX5_oneNow 18 = .ok (.getfield 45, 3) := dk_180 0 45 (dk_at dksX5_oneNow_0 18 rfl rfl)
theorem dX5_oneNow_21 : decode cX5_oneNow 21 = .ok (.bipush 6, 2) := dk_16 6 (dk_at dksX5_oneNow_0 21 rfl rfl)
theorem dX5_oneNow_23 : decode cX5_oneNow 23 = .ok (.iload_n 1, 1) := dk_27 (dk_at dksX5_oneNow_0 23 rfl rfl)
theorem dX5_oneNow_24 : decode cX5_oneNow 24 = .ok (.iadd, 1) := dk_96 (dk_at dksX5_oneNow_1 0 rfl rfl)
theorem dX5_oneNow_25 : decode cX5_oneNow 25 = .ok (.iaload, 1) := dk_46 (dk_at dksX5_oneNow_1 1 rfl rfl)
theorem dX5_oneNow_26 : decode cX5_oneNow 26 = .ok (.if_icmp .lt 8, 3) := dk_161 0 8 (dk_at dksX5_oneNow_1 2 rfl rfl)
theorem dX5_oneNow_29 : decode cX5_oneNow 29 = .ok (.aload_n 0, 1) := dk_42 (dk_at dksX5_oneNow_1 5 rfl rfl)
theorem dX5_oneNow_30 : decode cX5_oneNow 30 = .ok (.iconst 3, 1) := dk_6 (dk_at dksX5_oneNow_1 6 rfl rfl)
theorem dX5_oneNow_31 : decode cX5_oneNow 31 = .ok (.invokevirtual 260, 3) := dk_182 1 4 (dk_at dksX5_oneNow_1 7 rfl rfl)
theorem dX5_oneNow_34 : decode cX5_oneNow 34 = .ok (.aload_n 0, 1) := dk_42 (dk_at dksX5_oneNow_1 10 rfl rfl)
theorem dX5_oneNow_35 : decode cX5_oneNow 35 = .ok (.getfield 239, 3) := dk_180 0 239 (dk_at dksX5_oneNow_1 11 rfl rfl)
theorem dX5_oneNow_38 : decode cX5_oneNow 38 = .ok (.ifCond .ne 7, 3) := dk_154 0 7 (dk_at dksX5_oneNow_1 14 rfl rfl)
theorem dX5_oneNow_41 : decode cX5_oneNow 41 = .ok (.iload_n 2, 1) := dk_28 (dk_at dksX5_oneNow_1 17 rfl rfl)
theorem dX5_oneNow_42 : decode cX5_oneNow 42 = .ok (.goto 4, 3) := dk_167 0 4 (dk_at dksX5_oneNow_1 18 rfl rfl)
theorem dX5_oneNow_45 : decode cX5_oneNow 45 = .ok (.iconst 0, 1) := dk_3 (dk_at dksX5_oneNow_1 21 rfl rfl)
theorem dX5_oneNow_46 : decode cX5_oneNow 46 = .ok (.ireturn, 1) := dk_172 (dk_at dksX5_oneNow_1 22 rfl rfl)
abbrev cX5_readShip : ByteArray := prog_23_method_26_code
def yX5_readShip : MethodName := ⟨RX5, "readShip", "(I)V"⟩
def dkwX5_readShip_3 : List UInt8 := [46, 4, 96, 79, 177]
abbrev dktX5_readShip_3 : List UInt8 := dkwX5_readShip_3 ++ []
def dkwX5_readShip_2 : List UInt8 := [182, 1, 17, 79, 42, 180, 0, 85, 28, 42, 3, 16, 40, 182, 1, 17, 79, 42, 180, 0, 45, 16, 8, 92]
abbrev dktX5_readShip_2 : List UInt8 := dkwX5_readShip_2 ++ dktX5_readShip_3
def dkwX5_readShip_1 : List UInt8 := [28, 27, 79, 42, 180, 0, 79, 28, 42, 3, 182, 1, 24, 79, 42, 180, 0, 82, 28, 42, 3, 16, 23]
abbrev dktX5_readShip_1 : List UInt8 := dkwX5_readShip_1 ++ dktX5_readShip_2
def dkwX5_readShip_0 : List UInt8 := [42, 5, 7, 182, 1, 14, 154, 0, 4, 177, 7, 42, 180, 0, 45, 16, 8, 46, 96, 61, 42, 180, 0, 76]
abbrev dktX5_readShip_0 : List UInt8 := dkwX5_readShip_0 ++ dktX5_readShip_1
theorem dksX5_readShip_0 : cX5_readShip.data.toList.drop 0 = dktX5_readShip_0 := by decide +kernel
theorem dksX5_readShip_1 : cX5_readShip.data.toList.drop 24 = dktX5_readShip_1 := dk_seg dksX5_readShip_0 24 rfl rfl
theorem dksX5_readShip_2 : cX5_readShip.data.toList.drop 47 = dktX5_readShip_2 := dk_seg dksX5_readShip_1 23 rfl rfl
theorem dksX5_readShip_3 : cX5_readShip.data.toList.drop 71 = dktX5_readShip_3 := dk_seg dksX5_readShip_2 24 rfl rfl
theorem dX5_readShip_0 : decode cX5_readShip 0 = .ok (.aload_n 0, 1) := dk_42 (dk_at dksX5_readShip_0 0 rfl rfl)
theorem dX5_readShip_1 : decode cX5_readShip 1 = .ok (.iconst 2, 1) := dk_5 (dk_at dksX5_readShip_0 1 rfl rfl)
theorem dX5_readShip_2 : decode cX5_readShip 2 = .ok (.iconst 4, 1) := dk_7 (dk_at dksX5_readShip_0 2 rfl rfl)
theorem dX5_readShip_3 : decode cX5_readShip 3 = .ok (.invokevirtual 270, 3) := dk_182 1 14 (dk_at dksX5_readShip_0 3 rfl rfl)
theorem dX5_readShip_6 : decode cX5_readShip 6 = .ok (.ifCond .ne 4, 3) := dk_154 0 4 (dk_at dksX5_readShip_0 6 rfl rfl)
theorem dX5_readShip_9 : decode cX5_readShip 9 = .ok (.return_, 1) := dk_177 (dk_at dksX5_readShip_0 9 rfl rfl)
theorem dX5_readShip_10 : decode cX5_readShip 10 = .ok (.iconst 4, 1) := dk_7 (dk_at dksX5_readShip_0 10 rfl rfl)
theorem dX5_readShip_11 : decode cX5_readShip 11 = .ok (.aload_n 0, 1) := dk_42 (dk_at dksX5_readShip_0 11 rfl rfl)
theorem dX5_readShip_12 : decode cX5_readShip 12 = .ok (.getfield 45, 3) := dk_180 0 45 (dk_at dksX5_readShip_0 12 rfl rfl)
theorem dX5_readShip_15 : decode cX5_readShip 15 = .ok (.bipush 8, 2) := dk_16 8 (dk_at dksX5_readShip_0 15 rfl rfl)
theorem dX5_readShip_17 : decode cX5_readShip 17 = .ok (.iaload, 1) := dk_46 (dk_at dksX5_readShip_0 17 rfl rfl)
theorem dX5_readShip_18 : decode cX5_readShip 18 = .ok (.iadd, 1) := dk_96 (dk_at dksX5_readShip_0 18 rfl rfl)
theorem dX5_readShip_19 : decode cX5_readShip 19 = .ok (.istore_n 2, 1) := dk_61 (dk_at dksX5_readShip_0 19 rfl rfl)
theorem dX5_readShip_20 : decode cX5_readShip 20 = .ok (.aload_n 0, 1) := dk_42 (dk_at dksX5_readShip_0 20 rfl rfl)
theorem dX5_readShip_21 : decode cX5_readShip 21 = .ok (.getfield 76, 3) := dk_180 0 76 (dk_at dksX5_readShip_0 21 rfl rfl)
theorem dX5_readShip_24 : decode cX5_readShip 24 = .ok (.iload_n 2, 1) := dk_28 (dk_at dksX5_readShip_1 0 rfl rfl)
theorem dX5_readShip_25 : decode cX5_readShip 25 = .ok (.iload_n 1, 1) := dk_27 (dk_at dksX5_readShip_1 1 rfl rfl)
theorem dX5_readShip_26 : decode cX5_readShip 26 = .ok (.iastore, 1) := dk_79 (dk_at dksX5_readShip_1 2 rfl rfl)
theorem dX5_readShip_27 : decode cX5_readShip 27 = .ok (.aload_n 0, 1) := dk_42 (dk_at dksX5_readShip_1 3 rfl rfl)
theorem dX5_readShip_28 : decode cX5_readShip 28 = .ok (.getfield 79, 3) := dk_180 0 79 (dk_at dksX5_readShip_1 4 rfl rfl)
theorem dX5_readShip_31 : decode cX5_readShip 31 = .ok (.iload_n 2, 1) := dk_28 (dk_at dksX5_readShip_1 7 rfl rfl)
theorem dX5_readShip_32 : decode cX5_readShip 32 = .ok (.aload_n 0, 1) := dk_42 (dk_at dksX5_readShip_1 8 rfl rfl)
theorem dX5_readShip_33 : decode cX5_readShip 33 = .ok (.iconst 0, 1) := dk_3 (dk_at dksX5_readShip_1 9 rfl rfl)
theorem dX5_readShip_34 : decode cX5_readShip 34 = .ok (.invokevirtual 280, 3) := dk_182 1 24 (dk_at dksX5_readShip_1 10 rfl rfl)
theorem dX5_readShip_37 : decode cX5_readShip 37 = .ok (.iastore, 1) := dk_79 (dk_at dksX5_readShip_1 13 rfl rfl)
theorem dX5_readShip_38 : decode cX5_readShip 38 = .ok (.aload_n 0, 1) := dk_42 (dk_at dksX5_readShip_1 14 rfl rfl)
theorem dX5_readShip_39 : decode cX5_readShip 39 = .ok (.getfield 82, 3) := dk_180 0 82 (dk_at dksX5_readShip_1 15 rfl rfl)
theorem dX5_readShip_42 : decode cX5_readShip 42 = .ok (.iload_n 2, 1) := dk_28 (dk_at dksX5_readShip_1 18 rfl rfl)
theorem dX5_readShip_43 : decode cX5_readShip 43 = .ok (.aload_n 0, 1) := dk_42 (dk_at dksX5_readShip_1 19 rfl rfl)
theorem dX5_readShip_44 : decode cX5_readShip 44 = .ok (.iconst 0, 1) := dk_3 (dk_at dksX5_readShip_1 20 rfl rfl)
theorem dX5_readShip_45 : decode cX5_readShip 45 = .ok (.bipush 23, 2) := dk_16 23 (dk_at dksX5_readShip_1 21 rfl rfl)
theorem dX5_readShip_47 : decode cX5_readShip 47 = .ok (.invokevirtual 273, 3) := dk_182 1 17 (dk_at dksX5_readShip_2 0 rfl rfl)
theorem dX5_readShip_50 : decode cX5_readShip 50 = .ok (.iastore, 1) := dk_79 (dk_at dksX5_readShip_2 3 rfl rfl)
theorem dX5_readShip_51 : decode cX5_readShip 51 = .ok (.aload_n 0, 1) := dk_42 (dk_at dksX5_readShip_2 4 rfl rfl)
theorem dX5_readShip_52 : decode cX5_readShip 52 = .ok (.getfield 85, 3) := dk_180 0 85 (dk_at dksX5_readShip_2 5 rfl rfl)
theorem dX5_readShip_55 : decode cX5_readShip 55 = .ok (.iload_n 2, 1) := dk_28 (dk_at dksX5_readShip_2 8 rfl rfl)
theorem dX5_readShip_56 : decode cX5_readShip 56 = .ok (.aload_n 0, 1) := dk_42 (dk_at dksX5_readShip_2 9 rfl rfl)
theorem dX5_readShip_57 : decode cX5_readShip 57 = .ok (.iconst 0, 1) := dk_3 (dk_at dksX5_readShip_2 10 rfl rfl)
theorem dX5_readShip_58 : decode cX5_readShip 58 = .ok (.bipush 40, 2) := dk_16 40 (dk_at dksX5_readShip_2 11 rfl rfl)
theorem dX5_readShip_60 : decode cX5_readShip 60 = .ok (.invokevirtual 273, 3) := dk_182 1 17 (dk_at dksX5_readShip_2 13 rfl rfl)
theorem dX5_readShip_63 : decode cX5_readShip 63 = .ok (.iastore, 1) := dk_79 (dk_at dksX5_readShip_2 16 rfl rfl)
theorem dX5_readShip_64 : decode cX5_readShip 64 = .ok (.aload_n 0, 1) := dk_42 (dk_at dksX5_readShip_2 17 rfl rfl)
theorem dX5_readShip_65 : decode cX5_readShip 65 = .ok (.getfield 45, 3) := dk_180 0 45 (dk_at dksX5_readShip_2 18 rfl rfl)
theorem dX5_readShip_68 : decode cX5_readShip 68 = .ok (.bipush 8, 2) := dk_16 8 (dk_at dksX5_readShip_2 21 rfl rfl)
theorem dX5_readShip_70 : decode cX5_readShip 70 = .ok (.dup2, 1) := dk_92 (dk_at dksX5_readShip_2 23 rfl rfl)
theorem dX5_readShip_71 : decode cX5_readShip 71 = .ok (.iaload, 1) := dk_46 (dk_at dksX5_readShip_3 0 rfl rfl)
theorem dX5_readShip_72 : decode cX5_readShip 72 = .ok (.iconst 1, 1) := dk_4 (dk_at dksX5_readShip_3 1 rfl rfl)
theorem dX5_readShip_73 : decode cX5_readShip 73 = .ok (.iadd, 1) := dk_96 (dk_at dksX5_readShip_3 2 rfl rfl)
theorem dX5_readShip_74 : decode cX5_readShip 74 = .ok (.iastore, 1) := dk_79 (dk_at dksX5_readShip_3 3 rfl rfl)
theorem dX5_readShip_75 : decode cX5_readShip 75 = .ok (.return_, 1) := dk_177 (dk_at dksX5_readShip_3 4 rfl rfl)
abbrev cX5_readWay : ByteArray := prog_23_method_24_code
def yX5_readWay : MethodName := ⟨RX5, "readWay", "()V"⟩
def dkwX5_readWay_3 : List UInt8 := [128, 79, 42, 180, 0, 58, 16, 8, 28, 96, 92, 46, 4, 27, 120, 128, 79, 177]
abbrev dktX5_readWay_3 : List UInt8 := dkwX5_readWay_3 ++ []
def dkwX5_readWay_2 : List UInt8 := [180, 0, 239, 153, 0, 4, 177, 42, 182, 1, 1, 42, 180, 0, 58, 16, 8, 27, 96, 92, 46, 4, 28, 120]
abbrev dktX5_readWay_2 : List UInt8 := dkwX5_readWay_2 ++ dktX5_readWay_3
def dkwX5_readWay_1 : List UInt8 := [42, 180, 0, 58, 16, 8, 27, 96, 46, 28, 122, 4, 126, 4, 160, 0, 8, 42, 7, 182, 1, 4, 42]
abbrev dktX5_readWay_1 : List UInt8 := dkwX5_readWay_1 ++ dktX5_readWay_2
def dkwX5_readWay_0 : List UInt8 := [42, 3, 182, 1, 24, 60, 42, 3, 182, 1, 11, 61, 42, 180, 0, 239, 154, 0, 30, 27, 28, 159, 0, 20]
abbrev dktX5_readWay_0 : List UInt8 := dkwX5_readWay_0 ++ dktX5_readWay_1
theorem dksX5_readWay_0 : cX5_readWay.data.toList.drop 0 = dktX5_readWay_0 := by decide +kernel
theorem dksX5_readWay_1 : cX5_readWay.data.toList.drop 24 = dktX5_readWay_1 := dk_seg dksX5_readWay_0 24 rfl rfl
theorem dksX5_readWay_2 : cX5_readWay.data.toList.drop 47 = dktX5_readWay_2 := dk_seg dksX5_readWay_1 23 rfl rfl
theorem dksX5_readWay_3 : cX5_readWay.data.toList.drop 71 = dktX5_readWay_3 := dk_seg dksX5_readWay_2 24 rfl rfl
theorem dX5_readWay_0 : decode cX5_readWay 0 = .ok (.aload_n 0, 1) := dk_42 (dk_at dksX5_readWay_0 0 rfl rfl)
theorem dX5_readWay_1 : decode cX5_readWay 1 = .ok (.iconst 0, 1) := dk_3 (dk_at dksX5_readWay_0 1 rfl rfl)
theorem dX5_readWay_2 : decode cX5_readWay 2 = .ok (.invokevirtual 280, 3) := dk_182 1 24 (dk_at dksX5_readWay_0 2 rfl rfl)
theorem dX5_readWay_5 : decode cX5_readWay 5 = .ok (.istore_n 1, 1) := dk_60 (dk_at dksX5_readWay_0 5 rfl rfl)
theorem dX5_readWay_6 : decode cX5_readWay 6 = .ok (.aload_n 0, 1) := dk_42 (dk_at dksX5_readWay_0 6 rfl rfl)
theorem dX5_readWay_7 : decode cX5_readWay 7 = .ok (.iconst 0, 1) := dk_3 (dk_at dksX5_readWay_0 7 rfl rfl)
theorem dX5_readWay_8 : decode cX5_readWay 8 = .ok (.invokevirtual 267, 3) := dk_182 1 11 (dk_at dksX5_readWay_0 8 rfl rfl)
theorem dX5_readWay_11 : decode cX5_readWay 11 = .ok (.istore_n 2, 1) := dk_61 (dk_at dksX5_readWay_0 11 rfl rfl)
theorem dX5_readWay_12 : decode cX5_readWay 12 = .ok (.aload_n 0, 1) := dk_42 (dk_at dksX5_readWay_0 12 rfl rfl)
theorem dX5_readWay_13 : decode cX5_readWay 13 = .ok (.getfield 239, 3) := dk_180 0 239 (dk_at dksX5_readWay_0 13 rfl rfl)
theorem dX5_readWay_16 : decode cX5_readWay 16 = .ok (.ifCond .ne 30, 3) := dk_154 0 30 (dk_at dksX5_readWay_0 16 rfl rfl)
theorem dX5_readWay_19 : decode cX5_readWay 19 = .ok (.iload_n 1, 1) := dk_27 (dk_at dksX5_readWay_0 19 rfl rfl)
theorem dX5_readWay_20 : decode cX5_readWay 20 = .ok (.iload_n 2, 1) := dk_28 (dk_at dksX5_readWay_0 20 rfl rfl)
theorem dX5_readWay_21 : decode cX5_readWay 21 = .ok (.if_icmp .eq 20, 3) := dk_159 0 20 (dk_at dksX5_readWay_0 21 rfl rfl)
theorem dX5_readWay_24 : decode cX5_readWay 24 = .ok (.aload_n 0, 1) := dk_42 (dk_at dksX5_readWay_1 0 rfl rfl)
theorem dX5_readWay_25 : decode cX5_readWay 25 = .ok (.getfield 58, 3) := dk_180 0 58 (dk_at dksX5_readWay_1 1 rfl rfl)
theorem dX5_readWay_28 : decode cX5_readWay 28 = .ok (.bipush 8, 2) := dk_16 8 (dk_at dksX5_readWay_1 4 rfl rfl)
theorem dX5_readWay_30 : decode cX5_readWay 30 = .ok (.iload_n 1, 1) := dk_27 (dk_at dksX5_readWay_1 6 rfl rfl)
theorem dX5_readWay_31 : decode cX5_readWay 31 = .ok (.iadd, 1) := dk_96 (dk_at dksX5_readWay_1 7 rfl rfl)
theorem dX5_readWay_32 : decode cX5_readWay 32 = .ok (.iaload, 1) := dk_46 (dk_at dksX5_readWay_1 8 rfl rfl)
theorem dX5_readWay_33 : decode cX5_readWay 33 = .ok (.iload_n 2, 1) := dk_28 (dk_at dksX5_readWay_1 9 rfl rfl)
theorem dX5_readWay_34 : decode cX5_readWay 34 = .ok (.ishr, 1) := dk_122 (dk_at dksX5_readWay_1 10 rfl rfl)
theorem dX5_readWay_35 : decode cX5_readWay 35 = .ok (.iconst 1, 1) := dk_4 (dk_at dksX5_readWay_1 11 rfl rfl)
theorem dX5_readWay_36 : decode cX5_readWay 36 = .ok (.iand, 1) := dk_126 (dk_at dksX5_readWay_1 12 rfl rfl)
theorem dX5_readWay_37 : decode cX5_readWay 37 = .ok (.iconst 1, 1) := dk_4 (dk_at dksX5_readWay_1 13 rfl rfl)
theorem dX5_readWay_38 : decode cX5_readWay 38 = .ok (.if_icmp .ne 8, 3) := dk_160 0 8 (dk_at dksX5_readWay_1 14 rfl rfl)
theorem dX5_readWay_41 : decode cX5_readWay 41 = .ok (.aload_n 0, 1) := dk_42 (dk_at dksX5_readWay_1 17 rfl rfl)
theorem dX5_readWay_42 : decode cX5_readWay 42 = .ok (.iconst 4, 1) := dk_7 (dk_at dksX5_readWay_1 18 rfl rfl)
theorem dX5_readWay_43 : decode cX5_readWay 43 = .ok (.invokevirtual 260, 3) := dk_182 1 4 (dk_at dksX5_readWay_1 19 rfl rfl)
theorem dX5_readWay_46 : decode cX5_readWay 46 = .ok (.aload_n 0, 1) := dk_42 (dk_at dksX5_readWay_1 22 rfl rfl)
theorem dX5_readWay_47 : decode cX5_readWay 47 = .ok (.getfield 239, 3) := dk_180 0 239 (dk_at dksX5_readWay_2 0 rfl rfl)
theorem dX5_readWay_50 : decode cX5_readWay 50 = .ok (.ifCond .eq 4, 3) := dk_153 0 4 (dk_at dksX5_readWay_2 3 rfl rfl)
theorem dX5_readWay_53 : decode cX5_readWay 53 = .ok (.return_, 1) := dk_177 (dk_at dksX5_readWay_2 6 rfl rfl)
theorem dX5_readWay_54 : decode cX5_readWay 54 = .ok (.aload_n 0, 1) := dk_42 (dk_at dksX5_readWay_2 7 rfl rfl)
theorem dX5_readWay_55 : decode cX5_readWay 55 = .ok (.invokevirtual 257, 3) := dk_182 1 1 (dk_at dksX5_readWay_2 8 rfl rfl)
theorem dX5_readWay_58 : decode cX5_readWay 58 = .ok (.aload_n 0, 1) := dk_42 (dk_at dksX5_readWay_2 11 rfl rfl)
theorem dX5_readWay_59 : decode cX5_readWay 59 = .ok (.getfield 58, 3) := dk_180 0 58 (dk_at dksX5_readWay_2 12 rfl rfl)
theorem dX5_readWay_62 : decode cX5_readWay 62 = .ok (.bipush 8, 2) := dk_16 8 (dk_at dksX5_readWay_2 15 rfl rfl)
theorem dX5_readWay_64 : decode cX5_readWay 64 = .ok (.iload_n 1, 1) := dk_27 (dk_at dksX5_readWay_2 17 rfl rfl)
theorem dX5_readWay_65 : decode cX5_readWay 65 = .ok (.iadd, 1) := dk_96 (dk_at dksX5_readWay_2 18 rfl rfl)
theorem dX5_readWay_66 : decode cX5_readWay 66 = .ok (.dup2, 1) := dk_92 (dk_at dksX5_readWay_2 19 rfl rfl)
theorem dX5_readWay_67 : decode cX5_readWay 67 = .ok (.iaload, 1) := dk_46 (dk_at dksX5_readWay_2 20 rfl rfl)
theorem dX5_readWay_68 : decode cX5_readWay 68 = .ok (.iconst 1, 1) := dk_4 (dk_at dksX5_readWay_2 21 rfl rfl)
theorem dX5_readWay_69 : decode cX5_readWay 69 = .ok (.iload_n 2, 1) := dk_28 (dk_at dksX5_readWay_2 22 rfl rfl)
theorem dX5_readWay_70 : decode cX5_readWay 70 = .ok (.ishl, 1) := dk_120 (dk_at dksX5_readWay_2 23 rfl rfl)
theorem dX5_readWay_71 : decode cX5_readWay 71 = .ok (.ior, 1) := dk_128 (dk_at dksX5_readWay_3 0 rfl rfl)
theorem dX5_readWay_72 : decode cX5_readWay 72 = .ok (.iastore, 1) := dk_79 (dk_at dksX5_readWay_3 1 rfl rfl)
theorem dX5_readWay_73 : decode cX5_readWay 73 = .ok (.aload_n 0, 1) := dk_42 (dk_at dksX5_readWay_3 2 rfl rfl)
theorem dX5_readWay_74 : decode cX5_readWay 74 = .ok (.getfield 58, 3) := dk_180 0 58 (dk_at dksX5_readWay_3 3 rfl rfl)
theorem dX5_readWay_77 : decode cX5_readWay 77 = .ok (.bipush 8, 2) := dk_16 8 (dk_at dksX5_readWay_3 6 rfl rfl)
theorem dX5_readWay_79 : decode cX5_readWay 79 = .ok (.iload_n 2, 1) := dk_28 (dk_at dksX5_readWay_3 8 rfl rfl)
theorem dX5_readWay_80 : decode cX5_readWay 80 = .ok (.iadd, 1) := dk_96 (dk_at dksX5_readWay_3 9 rfl rfl)
theorem dX5_readWay_81 : decode cX5_readWay 81 = .ok (.dup2, 1) := dk_92 (dk_at dksX5_readWay_3 10 rfl rfl)
theorem dX5_readWay_82 : decode cX5_readWay 82 = .ok (.iaload, 1) := dk_46 (dk_at dksX5_readWay_3 11 rfl rfl)
theorem dX5_readWay_83 : decode cX5_readWay 83 = .ok (.iconst 1, 1) := dk_4 (dk_at dksX5_readWay_3 12 rfl rfl)
theorem dX5_readWay_84 : decode cX5_readWay 84 = .ok (.iload_n 1, 1) := dk_27 (dk_at dksX5_readWay_3 13 rfl rfl)
theorem dX5_readWay_85 : decode cX5_readWay 85 = .ok (.ishl, 1) := dk_120 (dk_at dksX5_readWay_3 14 rfl rfl)
theorem dX5_readWay_86 : decode cX5_readWay 86 = .ok (.ior, 1) := dk_128 (dk_at dksX5_readWay_3 15 rfl rfl)
theorem dX5_readWay_87 : decode cX5_readWay 87 = .ok (.iastore, 1) := dk_79 (dk_at dksX5_readWay_3 16 rfl rfl)
theorem dX5_readWay_88 : decode cX5_readWay 88 = .ok (.return_, 1) := dk_177 (dk_at dksX5_readWay_3 17 rfl rfl)
abbrev cX5_readMoon : ByteArray := prog_23_method_28_code
def yX5_readMoon : MethodName := ⟨RX5, "readMoon", "()V"⟩
def dkwX5_readMoon_3 : List UInt8 := [177]
abbrev dktX5_readMoon_3 : List UInt8 := dkwX5_readMoon_3 ++ []
def dkwX5_readMoon_2 : List UInt8 := [128, 181, 1, 27, 42, 182, 1, 1, 42, 180, 0, 88, 16, 24, 27, 96, 42, 3, 16, 20, 182, 1, 17, 79]
abbrev dktX5_readMoon_2 : List UInt8 := dkwX5_readMoon_2 ++ dktX5_readMoon_3
def dkwX5_readMoon_1 : List UInt8 := [160, 0, 8, 42, 7, 182, 1, 4, 42, 180, 0, 239, 153, 0, 4, 177, 42, 89, 180, 1, 27, 4, 27, 120]
abbrev dktX5_readMoon_1 : List UInt8 := dkwX5_readMoon_1 ++ dktX5_readMoon_2
def dkwX5_readMoon_0 : List UInt8 := [42, 3, 16, 23, 182, 1, 8, 60, 42, 180, 0, 239, 154, 0, 20, 42, 180, 1, 27, 27, 122, 4, 126, 4]
abbrev dktX5_readMoon_0 : List UInt8 := dkwX5_readMoon_0 ++ dktX5_readMoon_1
theorem dksX5_readMoon_0 : cX5_readMoon.data.toList.drop 0 = dktX5_readMoon_0 := by decide +kernel
theorem dksX5_readMoon_1 : cX5_readMoon.data.toList.drop 24 = dktX5_readMoon_1 := dk_seg dksX5_readMoon_0 24 rfl rfl
theorem dksX5_readMoon_2 : cX5_readMoon.data.toList.drop 48 = dktX5_readMoon_2 := dk_seg dksX5_readMoon_1 24 rfl rfl
theorem dksX5_readMoon_3 : cX5_readMoon.data.toList.drop 72 = dktX5_readMoon_3 := dk_seg dksX5_readMoon_2 24 rfl rfl
theorem dX5_readMoon_0 : decode cX5_readMoon 0 = .ok (.aload_n 0, 1) := dk_42 (dk_at dksX5_readMoon_0 0 rfl rfl)
theorem dX5_readMoon_1 : decode cX5_readMoon 1 = .ok (.iconst 0, 1) := dk_3 (dk_at dksX5_readMoon_0 1 rfl rfl)
theorem dX5_readMoon_2 : decode cX5_readMoon 2 = .ok (.bipush 23, 2) := dk_16 23 (dk_at dksX5_readMoon_0 2 rfl rfl)
theorem dX5_readMoon_4 : decode cX5_readMoon 4 = .ok (.invokevirtual 264, 3) := dk_182 1 8 (dk_at dksX5_readMoon_0 4 rfl rfl)
theorem dX5_readMoon_7 : decode cX5_readMoon 7 = .ok (.istore_n 1, 1) := dk_60 (dk_at dksX5_readMoon_0 7 rfl rfl)
theorem dX5_readMoon_8 : decode cX5_readMoon 8 = .ok (.aload_n 0, 1) := dk_42 (dk_at dksX5_readMoon_0 8 rfl rfl)
theorem dX5_readMoon_9 : decode cX5_readMoon 9 = .ok (.getfield 239, 3) := dk_180 0 239 (dk_at dksX5_readMoon_0 9 rfl rfl)
theorem dX5_readMoon_12 : decode cX5_readMoon 12 = .ok (.ifCond .ne 20, 3) := dk_154 0 20 (dk_at dksX5_readMoon_0 12 rfl rfl)
theorem dX5_readMoon_15 : decode cX5_readMoon 15 = .ok (.aload_n 0, 1) := dk_42 (dk_at dksX5_readMoon_0 15 rfl rfl)
theorem dX5_readMoon_16 : decode cX5_readMoon 16 = .ok (.getfield 283, 3) := dk_180 1 27 (dk_at dksX5_readMoon_0 16 rfl rfl)
theorem dX5_readMoon_19 : decode cX5_readMoon 19 = .ok (.iload_n 1, 1) := dk_27 (dk_at dksX5_readMoon_0 19 rfl rfl)
theorem dX5_readMoon_20 : decode cX5_readMoon 20 = .ok (.ishr, 1) := dk_122 (dk_at dksX5_readMoon_0 20 rfl rfl)
theorem dX5_readMoon_21 : decode cX5_readMoon 21 = .ok (.iconst 1, 1) := dk_4 (dk_at dksX5_readMoon_0 21 rfl rfl)
theorem dX5_readMoon_22 : decode cX5_readMoon 22 = .ok (.iand, 1) := dk_126 (dk_at dksX5_readMoon_0 22 rfl rfl)
theorem dX5_readMoon_23 : decode cX5_readMoon 23 = .ok (.iconst 1, 1) := dk_4 (dk_at dksX5_readMoon_0 23 rfl rfl)
theorem dX5_readMoon_24 : decode cX5_readMoon 24 = .ok (.if_icmp .ne 8, 3) := dk_160 0 8 (dk_at dksX5_readMoon_1 0 rfl rfl)
theorem dX5_readMoon_27 : decode cX5_readMoon 27 = .ok (.aload_n 0, 1) := dk_42 (dk_at dksX5_readMoon_1 3 rfl rfl)
theorem dX5_readMoon_28 : decode cX5_readMoon 28 = .ok (.iconst 4, 1) := dk_7 (dk_at dksX5_readMoon_1 4 rfl rfl)
theorem dX5_readMoon_29 : decode cX5_readMoon 29 = .ok (.invokevirtual 260, 3) := dk_182 1 4 (dk_at dksX5_readMoon_1 5 rfl rfl)
theorem dX5_readMoon_32 : decode cX5_readMoon 32 = .ok (.aload_n 0, 1) := dk_42 (dk_at dksX5_readMoon_1 8 rfl rfl)
theorem dX5_readMoon_33 : decode cX5_readMoon 33 = .ok (.getfield 239, 3) := dk_180 0 239 (dk_at dksX5_readMoon_1 9 rfl rfl)
theorem dX5_readMoon_36 : decode cX5_readMoon 36 = .ok (.ifCond .eq 4, 3) := dk_153 0 4 (dk_at dksX5_readMoon_1 12 rfl rfl)
theorem dX5_readMoon_39 : decode cX5_readMoon 39 = .ok (.return_, 1) := dk_177 (dk_at dksX5_readMoon_1 15 rfl rfl)
theorem dX5_readMoon_40 : decode cX5_readMoon 40 = .ok (.aload_n 0, 1) := dk_42 (dk_at dksX5_readMoon_1 16 rfl rfl)
theorem dX5_readMoon_41 : decode cX5_readMoon 41 = .ok (.dup, 1) := dk_89 (dk_at dksX5_readMoon_1 17 rfl rfl)
theorem dX5_readMoon_42 : decode cX5_readMoon 42 = .ok (.getfield 283, 3) := dk_180 1 27 (dk_at dksX5_readMoon_1 18 rfl rfl)
theorem dX5_readMoon_45 : decode cX5_readMoon 45 = .ok (.iconst 1, 1) := dk_4 (dk_at dksX5_readMoon_1 21 rfl rfl)
theorem dX5_readMoon_46 : decode cX5_readMoon 46 = .ok (.iload_n 1, 1) := dk_27 (dk_at dksX5_readMoon_1 22 rfl rfl)
theorem dX5_readMoon_47 : decode cX5_readMoon 47 = .ok (.ishl, 1) := dk_120 (dk_at dksX5_readMoon_1 23 rfl rfl)
theorem dX5_readMoon_48 : decode cX5_readMoon 48 = .ok (.ior, 1) := dk_128 (dk_at dksX5_readMoon_2 0 rfl rfl)
theorem dX5_readMoon_49 : decode cX5_readMoon 49 = .ok (.putfield 283, 3) := dk_181 1 27 (dk_at dksX5_readMoon_2 1 rfl rfl)
theorem dX5_readMoon_52 : decode cX5_readMoon 52 = .ok (.aload_n 0, 1) := dk_42 (dk_at dksX5_readMoon_2 4 rfl rfl)
theorem dX5_readMoon_53 : decode cX5_readMoon 53 = .ok (.invokevirtual 257, 3) := dk_182 1 1 (dk_at dksX5_readMoon_2 5 rfl rfl)
theorem dX5_readMoon_56 : decode cX5_readMoon 56 = .ok (.aload_n 0, 1) := dk_42 (dk_at dksX5_readMoon_2 8 rfl rfl)
theorem dX5_readMoon_57 : decode cX5_readMoon 57 = .ok (.getfield 88, 3) := dk_180 0 88 (dk_at dksX5_readMoon_2 9 rfl rfl)
theorem dX5_readMoon_60 : decode cX5_readMoon 60 = .ok (.bipush 24, 2) := dk_16 24 (dk_at dksX5_readMoon_2 12 rfl rfl)
theorem dX5_readMoon_62 : decode cX5_readMoon 62 = .ok (.iload_n 1, 1) := dk_27 (dk_at dksX5_readMoon_2 14 rfl rfl)
theorem dX5_readMoon_63 : decode cX5_readMoon 63 = .ok (.iadd, 1) := dk_96 (dk_at dksX5_readMoon_2 15 rfl rfl)
theorem dX5_readMoon_64 : decode cX5_readMoon 64 = .ok (.aload_n 0, 1) := dk_42 (dk_at dksX5_readMoon_2 16 rfl rfl)
theorem dX5_readMoon_65 : decode cX5_readMoon 65 = .ok (.iconst 0, 1) := dk_3 (dk_at dksX5_readMoon_2 17 rfl rfl)
theorem dX5_readMoon_66 : decode cX5_readMoon 66 = .ok (.bipush 20, 2) := dk_16 20 (dk_at dksX5_readMoon_2 18 rfl rfl)
theorem dX5_readMoon_68 : decode cX5_readMoon 68 = .ok (.invokevirtual 273, 3) := dk_182 1 17 (dk_at dksX5_readMoon_2 20 rfl rfl)
theorem dX5_readMoon_71 : decode cX5_readMoon 71 = .ok (.iastore, 1) := dk_79 (dk_at dksX5_readMoon_2 23 rfl rfl)
theorem dX5_readMoon_72 : decode cX5_readMoon 72 = .ok (.return_, 1) := dk_177 (dk_at dksX5_readMoon_3 0 rfl rfl)
abbrev cX5_readCold : ByteArray := prog_23_method_29_code
def yX5_readCold : MethodName := ⟨RX5, "readCold", "()V"⟩
def dkwX5_readCold_3 : List UInt8 := [177]
abbrev dktX5_readCold_3 : List UInt8 := dkwX5_readCold_3 ++ []
def dkwX5_readCold_2 : List UInt8 := [128, 181, 1, 30, 42, 182, 1, 1, 42, 180, 0, 91, 16, 10, 27, 96, 42, 3, 16, 99, 182, 1, 17, 79]
abbrev dktX5_readCold_2 : List UInt8 := dkwX5_readCold_2 ++ dktX5_readCold_3
def dkwX5_readCold_1 : List UInt8 := [160, 0, 8, 42, 7, 182, 1, 4, 42, 180, 0, 239, 153, 0, 4, 177, 42, 89, 180, 1, 30, 4, 27, 120]
abbrev dktX5_readCold_1 : List UInt8 := dkwX5_readCold_1 ++ dktX5_readCold_2
def dkwX5_readCold_0 : List UInt8 := [42, 3, 16, 9, 182, 1, 8, 60, 42, 180, 0, 239, 154, 0, 20, 42, 180, 1, 30, 27, 122, 4, 126, 4]
abbrev dktX5_readCold_0 : List UInt8 := dkwX5_readCold_0 ++ dktX5_readCold_1
theorem dksX5_readCold_0 : cX5_readCold.data.toList.drop 0 = dktX5_readCold_0 := by decide +kernel
theorem dksX5_readCold_1 : cX5_readCold.data.toList.drop 24 = dktX5_readCold_1 := dk_seg dksX5_readCold_0 24 rfl rfl
theorem dksX5_readCold_2 : cX5_readCold.data.toList.drop 48 = dktX5_readCold_2 := dk_seg dksX5_readCold_1 24 rfl rfl
theorem dksX5_readCold_3 : cX5_readCold.data.toList.drop 72 = dktX5_readCold_3 := dk_seg dksX5_readCold_2 24 rfl rfl
theorem dX5_readCold_0 : decode cX5_readCold 0 = .ok (.aload_n 0, 1) := dk_42 (dk_at dksX5_readCold_0 0 rfl rfl)
theorem dX5_readCold_1 : decode cX5_readCold 1 = .ok (.iconst 0, 1) := dk_3 (dk_at dksX5_readCold_0 1 rfl rfl)
theorem dX5_readCold_2 : decode cX5_readCold 2 = .ok (.bipush 9, 2) := dk_16 9 (dk_at dksX5_readCold_0 2 rfl rfl)
theorem dX5_readCold_4 : decode cX5_readCold 4 = .ok (.invokevirtual 264, 3) := dk_182 1 8 (dk_at dksX5_readCold_0 4 rfl rfl)
theorem dX5_readCold_7 : decode cX5_readCold 7 = .ok (.istore_n 1, 1) := dk_60 (dk_at dksX5_readCold_0 7 rfl rfl)
theorem dX5_readCold_8 : decode cX5_readCold 8 = .ok (.aload_n 0, 1) := dk_42 (dk_at dksX5_readCold_0 8 rfl rfl)
theorem dX5_readCold_9 : decode cX5_readCold 9 = .ok (.getfield 239, 3) := dk_180 0 239 (dk_at dksX5_readCold_0 9 rfl rfl)
theorem dX5_readCold_12 : decode cX5_readCold 12 = .ok (.ifCond .ne 20, 3) := dk_154 0 20 (dk_at dksX5_readCold_0 12 rfl rfl)
theorem dX5_readCold_15 : decode cX5_readCold 15 = .ok (.aload_n 0, 1) := dk_42 (dk_at dksX5_readCold_0 15 rfl rfl)
theorem dX5_readCold_16 : decode cX5_readCold 16 = .ok (.getfield 286, 3) := dk_180 1 30 (dk_at dksX5_readCold_0 16 rfl rfl)
theorem dX5_readCold_19 : decode cX5_readCold 19 = .ok (.iload_n 1, 1) := dk_27 (dk_at dksX5_readCold_0 19 rfl rfl)
theorem dX5_readCold_20 : decode cX5_readCold 20 = .ok (.ishr, 1) := dk_122 (dk_at dksX5_readCold_0 20 rfl rfl)
theorem dX5_readCold_21 : decode cX5_readCold 21 = .ok (.iconst 1, 1) := dk_4 (dk_at dksX5_readCold_0 21 rfl rfl)
theorem dX5_readCold_22 : decode cX5_readCold 22 = .ok (.iand, 1) := dk_126 (dk_at dksX5_readCold_0 22 rfl rfl)
theorem dX5_readCold_23 : decode cX5_readCold 23 = .ok (.iconst 1, 1) := dk_4 (dk_at dksX5_readCold_0 23 rfl rfl)
theorem dX5_readCold_24 : decode cX5_readCold 24 = .ok (.if_icmp .ne 8, 3) := dk_160 0 8 (dk_at dksX5_readCold_1 0 rfl rfl)
theorem dX5_readCold_27 : decode cX5_readCold 27 = .ok (.aload_n 0, 1) := dk_42 (dk_at dksX5_readCold_1 3 rfl rfl)
theorem dX5_readCold_28 : decode cX5_readCold 28 = .ok (.iconst 4, 1) := dk_7 (dk_at dksX5_readCold_1 4 rfl rfl)
theorem dX5_readCold_29 : decode cX5_readCold 29 = .ok (.invokevirtual 260, 3) := dk_182 1 4 (dk_at dksX5_readCold_1 5 rfl rfl)
theorem dX5_readCold_32 : decode cX5_readCold 32 = .ok (.aload_n 0, 1) := dk_42 (dk_at dksX5_readCold_1 8 rfl rfl)
theorem dX5_readCold_33 : decode cX5_readCold 33 = .ok (.getfield 239, 3) := dk_180 0 239 (dk_at dksX5_readCold_1 9 rfl rfl)
theorem dX5_readCold_36 : decode cX5_readCold 36 = .ok (.ifCond .eq 4, 3) := dk_153 0 4 (dk_at dksX5_readCold_1 12 rfl rfl)
theorem dX5_readCold_39 : decode cX5_readCold 39 = .ok (.return_, 1) := dk_177 (dk_at dksX5_readCold_1 15 rfl rfl)
theorem dX5_readCold_40 : decode cX5_readCold 40 = .ok (.aload_n 0, 1) := dk_42 (dk_at dksX5_readCold_1 16 rfl rfl)
theorem dX5_readCold_41 : decode cX5_readCold 41 = .ok (.dup, 1) := dk_89 (dk_at dksX5_readCold_1 17 rfl rfl)
theorem dX5_readCold_42 : decode cX5_readCold 42 = .ok (.getfield 286, 3) := dk_180 1 30 (dk_at dksX5_readCold_1 18 rfl rfl)
theorem dX5_readCold_45 : decode cX5_readCold 45 = .ok (.iconst 1, 1) := dk_4 (dk_at dksX5_readCold_1 21 rfl rfl)
theorem dX5_readCold_46 : decode cX5_readCold 46 = .ok (.iload_n 1, 1) := dk_27 (dk_at dksX5_readCold_1 22 rfl rfl)
theorem dX5_readCold_47 : decode cX5_readCold 47 = .ok (.ishl, 1) := dk_120 (dk_at dksX5_readCold_1 23 rfl rfl)
theorem dX5_readCold_48 : decode cX5_readCold 48 = .ok (.ior, 1) := dk_128 (dk_at dksX5_readCold_2 0 rfl rfl)
theorem dX5_readCold_49 : decode cX5_readCold 49 = .ok (.putfield 286, 3) := dk_181 1 30 (dk_at dksX5_readCold_2 1 rfl rfl)
theorem dX5_readCold_52 : decode cX5_readCold 52 = .ok (.aload_n 0, 1) := dk_42 (dk_at dksX5_readCold_2 4 rfl rfl)
theorem dX5_readCold_53 : decode cX5_readCold 53 = .ok (.invokevirtual 257, 3) := dk_182 1 1 (dk_at dksX5_readCold_2 5 rfl rfl)
theorem dX5_readCold_56 : decode cX5_readCold 56 = .ok (.aload_n 0, 1) := dk_42 (dk_at dksX5_readCold_2 8 rfl rfl)
theorem dX5_readCold_57 : decode cX5_readCold 57 = .ok (.getfield 91, 3) := dk_180 0 91 (dk_at dksX5_readCold_2 9 rfl rfl)
theorem dX5_readCold_60 : decode cX5_readCold 60 = .ok (.bipush 10, 2) := dk_16 10 (dk_at dksX5_readCold_2 12 rfl rfl)
theorem dX5_readCold_62 : decode cX5_readCold 62 = .ok (.iload_n 1, 1) := dk_27 (dk_at dksX5_readCold_2 14 rfl rfl)
theorem dX5_readCold_63 : decode cX5_readCold 63 = .ok (.iadd, 1) := dk_96 (dk_at dksX5_readCold_2 15 rfl rfl)
theorem dX5_readCold_64 : decode cX5_readCold 64 = .ok (.aload_n 0, 1) := dk_42 (dk_at dksX5_readCold_2 16 rfl rfl)
theorem dX5_readCold_65 : decode cX5_readCold 65 = .ok (.iconst 0, 1) := dk_3 (dk_at dksX5_readCold_2 17 rfl rfl)
theorem dX5_readCold_66 : decode cX5_readCold 66 = .ok (.bipush 99, 2) := dk_16 99 (dk_at dksX5_readCold_2 18 rfl rfl)
theorem dX5_readCold_68 : decode cX5_readCold 68 = .ok (.invokevirtual 273, 3) := dk_182 1 17 (dk_at dksX5_readCold_2 20 rfl rfl)
theorem dX5_readCold_71 : decode cX5_readCold 71 = .ok (.iastore, 1) := dk_79 (dk_at dksX5_readCold_2 23 rfl rfl)
theorem dX5_readCold_72 : decode cX5_readCold 72 = .ok (.return_, 1) := dk_177 (dk_at dksX5_readCold_3 0 rfl rfl)
abbrev cX5_readHood : ByteArray := prog_23_method_27_code
def yX5_readHood : MethodName := ⟨RX5, "readHood", "()V"⟩
def dkwX5_readHood_3 : List UInt8 := [46, 4, 96, 79, 177]
abbrev dktX5_readHood_3 : List UInt8 := dkwX5_readHood_3 ++ []
def dkwX5_readHood_2 : List UInt8 := [180, 0, 100, 27, 42, 42, 180, 0, 97, 27, 46, 16, 23, 182, 1, 17, 79, 42, 180, 0, 45, 16, 9, 92]
abbrev dktX5_readHood_2 : List UInt8 := dkwX5_readHood_2 ++ dktX5_readHood_3
def dkwX5_readHood_1 : List UInt8 := [180, 0, 94, 27, 42, 4, 182, 1, 24, 79, 42, 180, 0, 97, 27, 42, 3, 16, 23, 182, 1, 17, 79, 42]
abbrev dktX5_readHood_1 : List UInt8 := dkwX5_readHood_1 ++ dktX5_readHood_2
def dkwX5_readHood_0 : List UInt8 := [42, 6, 16, 6, 182, 1, 14, 154, 0, 4, 177, 16, 6, 42, 180, 0, 45, 16, 9, 46, 96, 60, 42]
abbrev dktX5_readHood_0 : List UInt8 := dkwX5_readHood_0 ++ dktX5_readHood_1
theorem dksX5_readHood_0 : cX5_readHood.data.toList.drop 0 = dktX5_readHood_0 := by decide +kernel
theorem dksX5_readHood_1 : cX5_readHood.data.toList.drop 23 = dktX5_readHood_1 := dk_seg dksX5_readHood_0 23 rfl rfl
theorem dksX5_readHood_2 : cX5_readHood.data.toList.drop 47 = dktX5_readHood_2 := dk_seg dksX5_readHood_1 24 rfl rfl
theorem dksX5_readHood_3 : cX5_readHood.data.toList.drop 71 = dktX5_readHood_3 := dk_seg dksX5_readHood_2 24 rfl rfl
theorem dX5_readHood_0 : decode cX5_readHood 0 = .ok (.aload_n 0, 1) := dk_42 (dk_at dksX5_readHood_0 0 rfl rfl)
theorem dX5_readHood_1 : decode cX5_readHood 1 = .ok (.iconst 3, 1) := dk_6 (dk_at dksX5_readHood_0 1 rfl rfl)
theorem dX5_readHood_2 : decode cX5_readHood 2 = .ok (.bipush 6, 2) := dk_16 6 (dk_at dksX5_readHood_0 2 rfl rfl)
theorem dX5_readHood_4 : decode cX5_readHood 4 = .ok (.invokevirtual 270, 3) := dk_182 1 14 (dk_at dksX5_readHood_0 4 rfl rfl)
theorem dX5_readHood_7 : decode cX5_readHood 7 = .ok (.ifCond .ne 4, 3) := dk_154 0 4 (dk_at dksX5_readHood_0 7 rfl rfl)
theorem dX5_readHood_10 : decode cX5_readHood 10 = .ok (.return_, 1) := dk_177 (dk_at dksX5_readHood_0 10 rfl rfl)
theorem dX5_readHood_11 : decode cX5_readHood 11 = .ok (.bipush 6, 2) := dk_16 6 (dk_at dksX5_readHood_0 11 rfl rfl)
theorem dX5_readHood_13 : decode cX5_readHood 13 = .ok (.aload_n 0, 1) := dk_42 (dk_at dksX5_readHood_0 13 rfl rfl)
theorem dX5_readHood_14 : decode cX5_readHood 14 = .ok (.getfield 45, 3) := dk_180 0 45 (dk_at dksX5_readHood_0 14 rfl rfl)
theorem dX5_readHood_17 : decode cX5_readHood 17 = .ok (.bipush 9, 2) := dk_16 9 (dk_at dksX5_readHood_0 17 rfl rfl)
theorem dX5_readHood_19 : decode cX5_readHood 19 = .ok (.iaload, 1) := dk_46 (dk_at dksX5_readHood_0 19 rfl rfl)
theorem dX5_readHood_20 : decode cX5_readHood 20 = .ok (.iadd, 1) := dk_96 (dk_at dksX5_readHood_0 20 rfl rfl)
theorem dX5_readHood_21 : decode cX5_readHood 21 = .ok (.istore_n 1, 1) := dk_60 (dk_at dksX5_readHood_0 21 rfl rfl)
theorem dX5_readHood_22 : decode cX5_readHood 22 = .ok (.aload_n 0, 1) := dk_42 (dk_at dksX5_readHood_0 22 rfl rfl)
theorem dX5_readHood_23 : decode cX5_readHood 23 = .ok (.getfield 94, 3) := dk_180 0 94 (dk_at dksX5_readHood_1 0 rfl rfl)
theorem dX5_readHood_26 : decode cX5_readHood 26 = .ok (.iload_n 1, 1) := dk_27 (dk_at dksX5_readHood_1 3 rfl rfl)
theorem dX5_readHood_27 : decode cX5_readHood 27 = .ok (.aload_n 0, 1) := dk_42 (dk_at dksX5_readHood_1 4 rfl rfl)
theorem dX5_readHood_28 : decode cX5_readHood 28 = .ok (.iconst 1, 1) := dk_4 (dk_at dksX5_readHood_1 5 rfl rfl)
theorem dX5_readHood_29 : decode cX5_readHood 29 = .ok (.invokevirtual 280, 3) := dk_182 1 24 (dk_at dksX5_readHood_1 6 rfl rfl)
theorem dX5_readHood_32 : decode cX5_readHood 32 = .ok (.iastore, 1) := dk_79 (dk_at dksX5_readHood_1 9 rfl rfl)
theorem dX5_readHood_33 : decode cX5_readHood 33 = .ok (.aload_n 0, 1) := dk_42 (dk_at dksX5_readHood_1 10 rfl rfl)
theorem dX5_readHood_34 : decode cX5_readHood 34 = .ok (.getfield 97, 3) := dk_180 0 97 (dk_at dksX5_readHood_1 11 rfl rfl)
theorem dX5_readHood_37 : decode cX5_readHood 37 = .ok (.iload_n 1, 1) := dk_27 (dk_at dksX5_readHood_1 14 rfl rfl)
theorem dX5_readHood_38 : decode cX5_readHood 38 = .ok (.aload_n 0, 1) := dk_42 (dk_at dksX5_readHood_1 15 rfl rfl)
theorem dX5_readHood_39 : decode cX5_readHood 39 = .ok (.iconst 0, 1) := dk_3 (dk_at dksX5_readHood_1 16 rfl rfl)
theorem dX5_readHood_40 : decode cX5_readHood 40 = .ok (.bipush 23, 2) := dk_16 23 (dk_at dksX5_readHood_1 17 rfl rfl)
theorem dX5_readHood_42 : decode cX5_readHood 42 = .ok (.invokevirtual 273, 3) := dk_182 1 17 (dk_at dksX5_readHood_1 19 rfl rfl)
theorem dX5_readHood_45 : decode cX5_readHood 45 = .ok (.iastore, 1) := dk_79 (dk_at dksX5_readHood_1 22 rfl rfl)
theorem dX5_readHood_46 : decode cX5_readHood 46 = .ok (.aload_n 0, 1) := dk_42 (dk_at dksX5_readHood_1 23 rfl rfl)
theorem dX5_readHood_47 : decode cX5_readHood 47 = .ok (.getfield 100, 3) := dk_180 0 100 (dk_at dksX5_readHood_2 0 rfl rfl)
theorem dX5_readHood_50 : decode cX5_readHood 50 = .ok (.iload_n 1, 1) := dk_27 (dk_at dksX5_readHood_2 3 rfl rfl)
theorem dX5_readHood_51 : decode cX5_readHood 51 = .ok (.aload_n 0, 1) := dk_42 (dk_at dksX5_readHood_2 4 rfl rfl)
theorem dX5_readHood_52 : decode cX5_readHood 52 = .ok (.aload_n 0, 1) := dk_42 (dk_at dksX5_readHood_2 5 rfl rfl)
theorem dX5_readHood_53 : decode cX5_readHood 53 = .ok (.getfield 97, 3) := dk_180 0 97 (dk_at dksX5_readHood_2 6 rfl rfl)
theorem dX5_readHood_56 : decode cX5_readHood 56 = .ok (.iload_n 1, 1) := dk_27 (dk_at dksX5_readHood_2 9 rfl rfl)
theorem dX5_readHood_57 : decode cX5_readHood 57 = .ok (.iaload, 1) := dk_46 (dk_at dksX5_readHood_2 10 rfl rfl)
theorem dX5_readHood_58 : decode cX5_readHood 58 = .ok (.bipush 23, 2) := dk_16 23 (dk_at dksX5_readHood_2 11 rfl rfl)
theorem dX5_readHood_60 : decode cX5_readHood 60 = .ok (.invokevirtual 273, 3) := dk_182 1 17 (dk_at dksX5_readHood_2 13 rfl rfl)
theorem dX5_readHood_63 : decode cX5_readHood 63 = .ok (.iastore, 1) := dk_79 (dk_at dksX5_readHood_2 16 rfl rfl)
theorem dX5_readHood_64 : decode cX5_readHood 64 = .ok (.aload_n 0, 1) := dk_42 (dk_at dksX5_readHood_2 17 rfl rfl)
theorem dX5_readHood_65 : decode cX5_readHood 65 = .ok (.getfield 45, 3) := dk_180 0 45 (dk_at dksX5_readHood_2 18 rfl rfl)
theorem dX5_readHood_68 : decode cX5_readHood 68 = .ok (.bipush 9, 2) := dk_16 9 (dk_at dksX5_readHood_2 21 rfl rfl)
theorem dX5_readHood_70 : decode cX5_readHood 70 = .ok (.dup2, 1) := dk_92 (dk_at dksX5_readHood_2 23 rfl rfl)
theorem dX5_readHood_71 : decode cX5_readHood 71 = .ok (.iaload, 1) := dk_46 (dk_at dksX5_readHood_3 0 rfl rfl)
theorem dX5_readHood_72 : decode cX5_readHood 72 = .ok (.iconst 1, 1) := dk_4 (dk_at dksX5_readHood_3 1 rfl rfl)
theorem dX5_readHood_73 : decode cX5_readHood 73 = .ok (.iadd, 1) := dk_96 (dk_at dksX5_readHood_3 2 rfl rfl)
theorem dX5_readHood_74 : decode cX5_readHood 74 = .ok (.iastore, 1) := dk_79 (dk_at dksX5_readHood_3 3 rfl rfl)
theorem dX5_readHood_75 : decode cX5_readHood 75 = .ok (.return_, 1) := dk_177 (dk_at dksX5_readHood_3 4 rfl rfl)
abbrev cX5_take : ByteArray := prog_23_method_33_code
def yX5_take : MethodName := ⟨RX5, "take", "()V"⟩
def dkwX5_take_6 : List UInt8 := [181, 1, 84, 42, 3, 181, 1, 86, 42, 2, 181, 0, 152, 42, 3, 181, 1, 89, 177]
abbrev dktX5_take_6 : List UInt8 := dkwX5_take_6 ++ []
def dkwX5_take_5 : List UInt8 := [184, 1, 77, 42, 180, 0, 97, 184, 1, 77, 42, 180, 0, 100, 184, 1, 77, 42, 3, 181, 1, 81, 42, 3]
abbrev dktX5_take_5 : List UInt8 := dkwX5_take_5 ++ dktX5_take_6
def dkwX5_take_4 : List UInt8 := [180, 0, 85, 184, 1, 77, 42, 180, 0, 88, 184, 1, 77, 42, 180, 0, 91, 184, 1, 77, 42, 180, 0, 94]
abbrev dktX5_take_4 : List UInt8 := dkwX5_take_4 ++ dktX5_take_5
def dkwX5_take_3 : List UInt8 := [42, 180, 0, 76, 184, 1, 77, 42, 180, 0, 79, 184, 1, 77, 42, 180, 0, 82, 184, 1, 77, 42]
abbrev dktX5_take_3 : List UInt8 := dkwX5_take_3 ++ dktX5_take_4
def dkwX5_take_2 : List UInt8 := [184, 1, 77, 42, 180, 0, 67, 184, 1, 77, 42, 180, 0, 70, 184, 1, 77, 42, 180, 0, 73, 184, 1, 77]
abbrev dktX5_take_2 : List UInt8 := dkwX5_take_2 ++ dktX5_take_3
def dkwX5_take_1 : List UInt8 := [180, 0, 55, 184, 1, 77, 42, 180, 0, 58, 184, 1, 77, 42, 180, 0, 61, 184, 1, 77, 42, 180, 0, 64]
abbrev dktX5_take_1 : List UInt8 := dkwX5_take_1 ++ dktX5_take_2
def dkwX5_take_0 : List UInt8 := [42, 180, 0, 45, 184, 1, 77, 42, 180, 0, 49, 184, 1, 77, 42, 180, 0, 52, 184, 1, 77, 42]
abbrev dktX5_take_0 : List UInt8 := dkwX5_take_0 ++ dktX5_take_1
theorem dksX5_take_0 : cX5_take.data.toList.drop 0 = dktX5_take_0 := by decide +kernel
theorem dksX5_take_1 : cX5_take.data.toList.drop 22 = dktX5_take_1 := dk_seg dksX5_take_0 22 rfl rfl
theorem dksX5_take_2 : cX5_take.data.toList.drop 46 = dktX5_take_2 := dk_seg dksX5_take_1 24 rfl rfl
theorem dksX5_take_3 : cX5_take.data.toList.drop 70 = dktX5_take_3 := dk_seg dksX5_take_2 24 rfl rfl
theorem dksX5_take_4 : cX5_take.data.toList.drop 92 = dktX5_take_4 := dk_seg dksX5_take_3 22 rfl rfl
theorem dksX5_take_5 : cX5_take.data.toList.drop 116 = dktX5_take_5 := dk_seg dksX5_take_4 24 rfl rfl
theorem dksX5_take_6 : cX5_take.data.toList.drop 140 = dktX5_take_6 := dk_seg dksX5_take_5 24 rfl rfl
theorem dX5_take_0 : decode cX5_take 0 = .ok (.aload_n 0, 1) := dk_42 (dk_at dksX5_take_0 0 rfl rfl)
theorem dX5_take_1 : decode cX5_take 1 = .ok (.getfield 45, 3) := dk_180 0 45 (dk_at dksX5_take_0 1 rfl rfl)
theorem dX5_take_4 : decode cX5_take 4 = .ok (.invokestatic 333, 3) := dk_184 1 77 (dk_at dksX5_take_0 4 rfl rfl)
theorem dX5_take_7 : decode cX5_take 7 = .ok (.aload_n 0, 1) := dk_42 (dk_at dksX5_take_0 7 rfl rfl)
theorem dX5_take_8 : decode cX5_take 8 = .ok (.getfield 49, 3) := dk_180 0 49 (dk_at dksX5_take_0 8 rfl rfl)
theorem dX5_take_11 : decode cX5_take 11 = .ok (.invokestatic 333, 3) := dk_184 1 77 (dk_at dksX5_take_0 11 rfl rfl)
theorem dX5_take_14 : decode cX5_take 14 = .ok (.aload_n 0, 1) := dk_42 (dk_at dksX5_take_0 14 rfl rfl)
theorem dX5_take_15 : decode cX5_take 15 = .ok (.getfield 52, 3) := dk_180 0 52 (dk_at dksX5_take_0 15 rfl rfl)
theorem dX5_take_18 : decode cX5_take 18 = .ok (.invokestatic 333, 3) := dk_184 1 77 (dk_at dksX5_take_0 18 rfl rfl)
theorem dX5_take_21 : decode cX5_take 21 = .ok (.aload_n 0, 1) := dk_42 (dk_at dksX5_take_0 21 rfl rfl)
theorem dX5_take_22 : decode cX5_take 22 = .ok (.getfield 55, 3) := dk_180 0 55 (dk_at dksX5_take_1 0 rfl rfl)
theorem dX5_take_25 : decode cX5_take 25 = .ok (.invokestatic 333, 3) := dk_184 1 77 (dk_at dksX5_take_1 3 rfl rfl)
theorem dX5_take_28 : decode cX5_take 28 = .ok (.aload_n 0, 1) := dk_42 (dk_at dksX5_take_1 6 rfl rfl)
theorem dX5_take_29 : decode cX5_take 29 = .ok (.getfield 58, 3) := dk_180 0 58 (dk_at dksX5_take_1 7 rfl rfl)
theorem dX5_take_32 : decode cX5_take 32 = .ok (.invokestatic 333, 3) := dk_184 1 77 (dk_at dksX5_take_1 10 rfl rfl)
theorem dX5_take_35 : decode cX5_take 35 = .ok (.aload_n 0, 1) := dk_42 (dk_at dksX5_take_1 13 rfl rfl)
theorem dX5_take_36 : decode cX5_take 36 = .ok (.getfield 61, 3) := dk_180 0 61 (dk_at dksX5_take_1 14 rfl rfl)
theorem dX5_take_39 : decode cX5_take 39 = .ok (.invokestatic 333, 3) := dk_184 1 77 (dk_at dksX5_take_1 17 rfl rfl)
theorem dX5_take_42 : decode cX5_take 42 = .ok (.aload_n 0, 1) := dk_42 (dk_at dksX5_take_1 20 rfl rfl)
theorem dX5_take_43 : decode cX5_take 43 = .ok (.getfield 64, 3) := dk_180 0 64 (dk_at dksX5_take_1 21 rfl rfl)
theorem dX5_take_46 : decode cX5_take 46 = .ok (.invokestatic 333, 3) := dk_184 1 77 (dk_at dksX5_take_2 0 rfl rfl)
theorem dX5_take_49 : decode cX5_take 49 = .ok (.aload_n 0, 1) := dk_42 (dk_at dksX5_take_2 3 rfl rfl)
theorem dX5_take_50 : decode cX5_take 50 = .ok (.getfield 67, 3) := dk_180 0 67 (dk_at dksX5_take_2 4 rfl rfl)
theorem dX5_take_53 : decode cX5_take 53 = .ok (.invokestatic 333, 3) := dk_184 1 77 (dk_at dksX5_take_2 7 rfl rfl)
theorem dX5_take_56 : decode cX5_take 56 = .ok (.aload_n 0, 1) := dk_42 (dk_at dksX5_take_2 10 rfl rfl)
theorem dX5_take_57 : decode cX5_take 57 = .ok (.getfield 70, 3) := dk_180 0 70 (dk_at dksX5_take_2 11 rfl rfl)
theorem dX5_take_60 : decode cX5_take 60 = .ok (.invokestatic 333, 3) := dk_184 1 77 (dk_at dksX5_take_2 14 rfl rfl)
theorem dX5_take_63 : decode cX5_take 63 = .ok (.aload_n 0, 1) := dk_42 (dk_at dksX5_take_2 17 rfl rfl)
theorem dX5_take_64 : decode cX5_take 64 = .ok (.getfield 73, 3) := dk_180 0 73 (dk_at dksX5_take_2 18 rfl rfl)
theorem dX5_take_67 : decode cX5_take 67 = .ok (.invokestatic 333, 3) := dk_184 1 77 (dk_at dksX5_take_2 21 rfl rfl)
theorem dX5_take_70 : decode cX5_take 70 = .ok (.aload_n 0, 1) := dk_42 (dk_at dksX5_take_3 0 rfl rfl)
theorem dX5_take_71 : decode cX5_take 71 = .ok (.getfield 76, 3) := dk_180 0 76 (dk_at dksX5_take_3 1 rfl rfl)
theorem dX5_take_74 : decode cX5_take 74 = .ok (.invokestatic 333, 3) := dk_184 1 77 (dk_at dksX5_take_3 4 rfl rfl)
theorem dX5_take_77 : decode cX5_take 77 = .ok (.aload_n 0, 1) := dk_42 (dk_at dksX5_take_3 7 rfl rfl)
theorem dX5_take_78 : decode cX5_take 78 = .ok (.getfield 79, 3) := dk_180 0 79 (dk_at dksX5_take_3 8 rfl rfl)
theorem dX5_take_81 : decode cX5_take 81 = .ok (.invokestatic 333, 3) := dk_184 1 77 (dk_at dksX5_take_3 11 rfl rfl)
theorem dX5_take_84 : decode cX5_take 84 = .ok (.aload_n 0, 1) := dk_42 (dk_at dksX5_take_3 14 rfl rfl)
theorem dX5_take_85 : decode cX5_take 85 = .ok (.getfield 82, 3) := dk_180 0 82 (dk_at dksX5_take_3 15 rfl rfl)
theorem dX5_take_88 : decode cX5_take 88 = .ok (.invokestatic 333, 3) := dk_184 1 77 (dk_at dksX5_take_3 18 rfl rfl)
theorem dX5_take_91 : decode cX5_take 91 = .ok (.aload_n 0, 1) := dk_42 (dk_at dksX5_take_3 21 rfl rfl)
theorem dX5_take_92 : decode cX5_take 92 = .ok (.getfield 85, 3) := dk_180 0 85 (dk_at dksX5_take_4 0 rfl rfl)
theorem dX5_take_95 : decode cX5_take 95 = .ok (.invokestatic 333, 3) := dk_184 1 77 (dk_at dksX5_take_4 3 rfl rfl)
theorem dX5_take_98 : decode cX5_take 98 = .ok (.aload_n 0, 1) := dk_42 (dk_at dksX5_take_4 6 rfl rfl)
theorem dX5_take_99 : decode cX5_take 99 = .ok (.getfield 88, 3) := dk_180 0 88 (dk_at dksX5_take_4 7 rfl rfl)
theorem dX5_take_102 : decode cX5_take 102 = .ok (.invokestatic 333, 3) := dk_184 1 77 (dk_at dksX5_take_4 10 rfl rfl)
theorem dX5_take_105 : decode cX5_take 105 = .ok (.aload_n 0, 1) := dk_42 (dk_at dksX5_take_4 13 rfl rfl)
theorem dX5_take_106 : decode cX5_take 106 = .ok (.getfield 91, 3) := dk_180 0 91 (dk_at dksX5_take_4 14 rfl rfl)
theorem dX5_take_109 : decode cX5_take 109 = .ok (.invokestatic 333, 3) := dk_184 1 77 (dk_at dksX5_take_4 17 rfl rfl)
theorem dX5_take_112 : decode cX5_take 112 = .ok (.aload_n 0, 1) := dk_42 (dk_at dksX5_take_4 20 rfl rfl)
theorem dX5_take_113 : decode cX5_take 113 = .ok (.getfield 94, 3) := dk_180 0 94 (dk_at dksX5_take_4 21 rfl rfl)
theorem dX5_take_116 : decode cX5_take 116 = .ok (.invokestatic 333, 3) := dk_184 1 77 (dk_at dksX5_take_5 0 rfl rfl)
theorem dX5_take_119 : decode cX5_take 119 = .ok (.aload_n 0, 1) := dk_42 (dk_at dksX5_take_5 3 rfl rfl)
theorem dX5_take_120 : decode cX5_take 120 = .ok (.getfield 97, 3) := dk_180 0 97 (dk_at dksX5_take_5 4 rfl rfl)
theorem dX5_take_123 : decode cX5_take 123 = .ok (.invokestatic 333, 3) := dk_184 1 77 (dk_at dksX5_take_5 7 rfl rfl)
theorem dX5_take_126 : decode cX5_take 126 = .ok (.aload_n 0, 1) := dk_42 (dk_at dksX5_take_5 10 rfl rfl)
theorem dX5_take_127 : decode cX5_take 127 = .ok (.getfield 100, 3) := dk_180 0 100 (dk_at dksX5_take_5 11 rfl rfl)
theorem dX5_take_130 : decode cX5_take 130 = .ok (.invokestatic 333, 3) := dk_184 1 77 (dk_at dksX5_take_5 14 rfl rfl)
theorem dX5_take_133 : decode cX5_take 133 = .ok (.aload_n 0, 1) := dk_42 (dk_at dksX5_take_5 17 rfl rfl)
theorem dX5_take_134 : decode cX5_take 134 = .ok (.iconst 0, 1) := dk_3 (dk_at dksX5_take_5 18 rfl rfl)
theorem dX5_take_135 : decode cX5_take 135 = .ok (.putfield 337, 3) := dk_181 1 81 (dk_at dksX5_take_5 19 rfl rfl)
theorem dX5_take_138 : decode cX5_take 138 = .ok (.aload_n 0, 1) := dk_42 (dk_at dksX5_take_5 22 rfl rfl)
theorem dX5_take_139 : decode cX5_take 139 = .ok (.iconst 0, 1) := dk_3 (dk_at dksX5_take_5 23 rfl rfl)
theorem dX5_take_140 : decode cX5_take 140 = .ok (.putfield 340, 3) := dk_181 1 84 (dk_at dksX5_take_6 0 rfl rfl)
theorem dX5_take_143 : decode cX5_take 143 = .ok (.aload_n 0, 1) := dk_42 (dk_at dksX5_take_6 3 rfl rfl)
theorem dX5_take_144 : decode cX5_take 144 = .ok (.iconst 0, 1) := dk_3 (dk_at dksX5_take_6 4 rfl rfl)
theorem dX5_take_145 : decode cX5_take 145 = .ok (.putfield 342, 3) := dk_181 1 86 (dk_at dksX5_take_6 5 rfl rfl)
theorem dX5_take_148 : decode cX5_take 148 = .ok (.aload_n 0, 1) := dk_42 (dk_at dksX5_take_6 8 rfl rfl)
theorem dX5_take_149 : decode cX5_take 149 = .ok (.iconst (-1), 1) := dk_2 (dk_at dksX5_take_6 9 rfl rfl)
theorem dX5_take_150 : decode cX5_take 150 = .ok (.putfield 152, 3) := dk_181 0 152 (dk_at dksX5_take_6 10 rfl rfl)
theorem dX5_take_153 : decode cX5_take 153 = .ok (.aload_n 0, 1) := dk_42 (dk_at dksX5_take_6 13 rfl rfl)
theorem dX5_take_154 : decode cX5_take 154 = .ok (.iconst 0, 1) := dk_3 (dk_at dksX5_take_6 14 rfl rfl)
theorem dX5_take_155 : decode cX5_take 155 = .ok (.putfield 345, 3) := dk_181 1 89 (dk_at dksX5_take_6 15 rfl rfl)
theorem dX5_take_158 : decode cX5_take 158 = .ok (.return_, 1) := dk_177 (dk_at dksX5_take_6 18 rfl rfl)
abbrev cX5_takeHalf : ByteArray := prog_23_method_32_code
def yX5_takeHalf : MethodName := ⟨RX5, "takeHalf", "([I)V"⟩
def dkwX5_takeHalf_1 : List UInt8 := [167, 255, 234, 177]
abbrev dktX5_takeHalf_1 : List UInt8 := dkwX5_takeHalf_1 ++ []
def dkwX5_takeHalf_0 : List UInt8 := [3, 60, 27, 42, 190, 5, 108, 162, 0, 20, 42, 27, 42, 42, 190, 5, 108, 27, 96, 46, 79, 132, 1, 1]
abbrev dktX5_takeHalf_0 : List UInt8 := dkwX5_takeHalf_0 ++ dktX5_takeHalf_1
theorem dksX5_takeHalf_0 : cX5_takeHalf.data.toList.drop 0 = dktX5_takeHalf_0 := by decide +kernel
theorem dksX5_takeHalf_1 : cX5_takeHalf.data.toList.drop 24 = dktX5_takeHalf_1 := dk_seg dksX5_takeHalf_0 24 rfl rfl
theorem dX5_takeHalf_0 : decode cX5_takeHalf 0 = .ok (.iconst 0, 1) := dk_3 (dk_at dksX5_takeHalf_0 0 rfl rfl)
theorem dX5_takeHalf_1 : decode cX5_takeHalf 1 = .ok (.istore_n 1, 1) := dk_60 (dk_at dksX5_takeHalf_0 1 rfl rfl)
theorem dX5_takeHalf_2 : decode cX5_takeHalf 2 = .ok (.iload_n 1, 1) := dk_27 (dk_at dksX5_takeHalf_0 2 rfl rfl)
theorem dX5_takeHalf_3 : decode cX5_takeHalf 3 = .ok (.aload_n 0, 1) := dk_42 (dk_at dksX5_takeHalf_0 3 rfl rfl)
theorem dX5_takeHalf_4 : decode cX5_takeHalf 4 = .ok (.arraylength, 1) := dk_190 (dk_at dksX5_takeHalf_0 4 rfl rfl)
theorem dX5_takeHalf_5 : decode cX5_takeHalf 5 = .ok (.iconst 2, 1) := dk_5 (dk_at dksX5_takeHalf_0 5 rfl rfl)
theorem dX5_takeHalf_6 : decode cX5_takeHalf 6 = .ok (.idiv, 1) := dk_108 (dk_at dksX5_takeHalf_0 6 rfl rfl)
theorem dX5_takeHalf_7 : decode cX5_takeHalf 7 = .ok (.if_icmp .ge 20, 3) := dk_162 0 20 (dk_at dksX5_takeHalf_0 7 rfl rfl)
theorem dX5_takeHalf_10 : decode cX5_takeHalf 10 = .ok (.aload_n 0, 1) := dk_42 (dk_at dksX5_takeHalf_0 10 rfl rfl)
theorem dX5_takeHalf_11 : decode cX5_takeHalf 11 = .ok (.iload_n 1, 1) := dk_27 (dk_at dksX5_takeHalf_0 11 rfl rfl)
theorem dX5_takeHalf_12 : decode cX5_takeHalf 12 = .ok (.aload_n 0, 1) := dk_42 (dk_at dksX5_takeHalf_0 12 rfl rfl)
theorem dX5_takeHalf_13 : decode cX5_takeHalf 13 = .ok (.aload_n 0, 1) := dk_42 (dk_at dksX5_takeHalf_0 13 rfl rfl)
theorem dX5_takeHalf_14 : decode cX5_takeHalf 14 = .ok (.arraylength, 1) := dk_190 (dk_at dksX5_takeHalf_0 14 rfl rfl)
theorem dX5_takeHalf_15 : decode cX5_takeHalf 15 = .ok (.iconst 2, 1) := dk_5 (dk_at dksX5_takeHalf_0 15 rfl rfl)
theorem dX5_takeHalf_16 : decode cX5_takeHalf 16 = .ok (.idiv, 1) := dk_108 (dk_at dksX5_takeHalf_0 16 rfl rfl)
theorem dX5_takeHalf_17 : decode cX5_takeHalf 17 = .ok (.iload_n 1, 1) := dk_27 (dk_at dksX5_takeHalf_0 17 rfl rfl)
theorem dX5_takeHalf_18 : decode cX5_takeHalf 18 = .ok (.iadd, 1) := dk_96 (dk_at dksX5_takeHalf_0 18 rfl rfl)
theorem dX5_takeHalf_19 : decode cX5_takeHalf 19 = .ok (.iaload, 1) := dk_46 (dk_at dksX5_takeHalf_0 19 rfl rfl)
theorem dX5_takeHalf_20 : decode cX5_takeHalf 20 = .ok (.iastore, 1) := dk_79 (dk_at dksX5_takeHalf_0 20 rfl rfl)
theorem dX5_takeHalf_21 : decode cX5_takeHalf 21 = .ok (.iinc 1 1, 3) := dk_132 1 1 (dk_at dksX5_takeHalf_0 21 rfl rfl)
theorem dX5_takeHalf_24 : decode cX5_takeHalf 24 = .ok (.goto (-22), 3) := dk_167 255 234 (dk_at dksX5_takeHalf_1 0 rfl rfl)
theorem dX5_takeHalf_27 : decode cX5_takeHalf 27 = .ok (.return_, 1) := dk_177 (dk_at dksX5_takeHalf_1 3 rfl rfl)
abbrev cX5_fault : ByteArray := prog_23_method_34_code
def yX5_fault : MethodName := ⟨RX5, "fault", "()I"⟩
def dkwX5_fault_0 : List UInt8 := [42, 3, 181, 0, 194, 42, 180, 0, 109, 172]
abbrev dktX5_fault_0 : List UInt8 := dkwX5_fault_0 ++ []
theorem dksX5_fault_0 : cX5_fault.data.toList.drop 0 = dktX5_fault_0 := by decide +kernel
theorem dX5_fault_0 : decode cX5_fault 0 = .ok (.aload_n 0, 1) := dk_42 (dk_at dksX5_fault_0 0 rfl rfl)
theorem dX5_fault_1 : decode cX5_fault 1 = .ok (.iconst 0, 1) := dk_3 (dk_at dksX5_fault_0 1 rfl rfl)
theorem dX5_fault_2 : decode cX5_fault 2 = .ok (.putfield 194, 3) := dk_181 0 194 (dk_at dksX5_fault_0 2 rfl rfl)
theorem dX5_fault_5 : decode cX5_fault 5 = .ok (.aload_n 0, 1) := dk_42 (dk_at dksX5_fault_0 5 rfl rfl)
theorem dX5_fault_6 : decode cX5_fault 6 = .ok (.getfield 109, 3) := dk_180 0 109 (dk_at dksX5_fault_0 6 rfl rfl)
theorem dX5_fault_9 : decode cX5_fault 9 = .ok (.ireturn, 1) := dk_172 (dk_at dksX5_fault_0 9 rfl rfl)
abbrev cX5_count : ByteArray := prog_23_method_44_code
def yX5_count : MethodName := ⟨RX5, "count", "(I)I"⟩
def dkwX5_count_5 : List UInt8 := [180, 0, 201, 172, 42, 180, 0, 103, 27, 16, 9, 100, 46, 172, 42, 4, 182, 1, 67, 172]
abbrev dktX5_count_5 : List UInt8 := dkwX5_count_5 ++ []
def dkwX5_count_4 : List UInt8 := [42, 180, 1, 81, 172, 42, 3, 182, 1, 117, 172, 42, 180, 1, 84, 172, 42, 180, 1, 86, 172, 42]
abbrev dktX5_count_4 : List UInt8 := dkwX5_count_4 ++ dktX5_count_5
def dkwX5_count_3 : List UInt8 := [170, 0, 0, 0, 0, 0, 0, 84, 0, 0, 0, 4, 0, 0, 0, 11, 0, 0, 0, 48, 0, 0, 0, 53, 0, 0, 0, 59, 0, 0, 0, 64, 0, 0, 0, 69, 0, 0, 0, 74, 0, 0, 0, 74, 0, 0, 0, 74]
abbrev dktX5_count_3 : List UInt8 := dkwX5_count_3 ++ dktX5_count_4
def dkwX5_count_2 : List UInt8 := [184, 0, 197, 153, 0, 13, 42, 180, 0, 88, 27, 16, 40, 100, 46, 172, 27]
abbrev dktX5_count_2 : List UInt8 := dkwX5_count_2 ++ dktX5_count_3
def dkwX5_count_1 : List UInt8 := [16, 29, 184, 0, 197, 153, 0, 13, 42, 180, 0, 91, 27, 16, 20, 100, 46, 172, 27, 16, 40, 16, 63]
abbrev dktX5_count_1 : List UInt8 := dkwX5_count_1 ++ dktX5_count_2
def dkwX5_count_0 : List UInt8 := [42, 3, 181, 0, 194, 27, 3, 6, 184, 0, 197, 153, 0, 10, 42, 180, 0, 45, 27, 46, 172, 27, 16, 20]
abbrev dktX5_count_0 : List UInt8 := dkwX5_count_0 ++ dktX5_count_1
theorem dksX5_count_0 : cX5_count.data.toList.drop 0 = dktX5_count_0 := by decide +kernel
theorem dksX5_count_1 : cX5_count.data.toList.drop 24 = dktX5_count_1 := dk_seg dksX5_count_0 24 rfl rfl
theorem dksX5_count_2 : cX5_count.data.toList.drop 47 = dktX5_count_2 := dk_seg dksX5_count_1 23 rfl rfl
theorem dksX5_count_3 : cX5_count.data.toList.drop 64 = dktX5_count_3 := dk_seg dksX5_count_2 17 rfl rfl
theorem dksX5_count_4 : cX5_count.data.toList.drop 112 = dktX5_count_4 := dk_seg dksX5_count_3 48 rfl rfl
theorem dksX5_count_5 : cX5_count.data.toList.drop 134 = dktX5_count_5 := dk_seg dksX5_count_4 22 rfl rfl
theorem dX5_count_0 : decode cX5_count 0 = .ok (.aload_n 0, 1) := dk_42 (dk_at dksX5_count_0 0 rfl rfl)
theorem dX5_count_1 : decode cX5_count 1 = .ok (.iconst 0, 1) := dk_3 (dk_at dksX5_count_0 1 rfl rfl)
theorem dX5_count_2 : decode cX5_count 2 = .ok (.putfield 194, 3) := dk_181 0 194 (dk_at dksX5_count_0 2 rfl rfl)
theorem dX5_count_5 : decode cX5_count 5 = .ok (.iload_n 1, 1) := dk_27 (dk_at dksX5_count_0 5 rfl rfl)
theorem dX5_count_6 : decode cX5_count 6 = .ok (.iconst 0, 1) := dk_3 (dk_at dksX5_count_0 6 rfl rfl)
theorem dX5_count_7 : decode cX5_count 7 = .ok (.iconst 3, 1) := dk_6 (dk_at dksX5_count_0 7 rfl rfl)
theorem dX5_count_8 : decode cX5_count 8 = .ok (.invokestatic 197, 3) := dk_184 0 197 (dk_at dksX5_count_0 8 rfl rfl)
theorem dX5_count_11 : decode cX5_count 11 = .ok (.ifCond .eq 10, 3) := dk_153 0 10 (dk_at dksX5_count_0 11 rfl rfl)
theorem dX5_count_14 : decode cX5_count 14 = .ok (.aload_n 0, 1) := dk_42 (dk_at dksX5_count_0 14 rfl rfl)
theorem dX5_count_15 : decode cX5_count 15 = .ok (.getfield 45, 3) := dk_180 0 45 (dk_at dksX5_count_0 15 rfl rfl)
theorem dX5_count_18 : decode cX5_count 18 = .ok (.iload_n 1, 1) := dk_27 (dk_at dksX5_count_0 18 rfl rfl)
theorem dX5_count_19 : decode cX5_count 19 = .ok (.iaload, 1) := dk_46 (dk_at dksX5_count_0 19 rfl rfl)
theorem dX5_count_20 : decode cX5_count 20 = .ok (.ireturn, 1) := dk_172 (dk_at dksX5_count_0 20 rfl rfl)
theorem dX5_count_21 : decode cX5_count 21 = .ok (.iload_n 1, 1) := dk_27 (dk_at dksX5_count_0 21 rfl rfl)
theorem dX5_count_22 : decode cX5_count 22 = .ok (.bipush 20, 2) := dk_16 20 (dk_at dksX5_count_0 22 rfl rfl)
theorem dX5_count_24 : decode cX5_count 24 = .ok (.bipush 29, 2) := dk_16 29 (dk_at dksX5_count_1 0 rfl rfl)
theorem dX5_count_26 : decode cX5_count 26 = .ok (.invokestatic 197, 3) := dk_184 0 197 (dk_at dksX5_count_1 2 rfl rfl)
theorem dX5_count_29 : decode cX5_count 29 = .ok (.ifCond .eq 13, 3) := dk_153 0 13 (dk_at dksX5_count_1 5 rfl rfl)
theorem dX5_count_32 : decode cX5_count 32 = .ok (.aload_n 0, 1) := dk_42 (dk_at dksX5_count_1 8 rfl rfl)
theorem dX5_count_33 : decode cX5_count 33 = .ok (.getfield 91, 3) := dk_180 0 91 (dk_at dksX5_count_1 9 rfl rfl)
theorem dX5_count_36 : decode cX5_count 36 = .ok (.iload_n 1, 1) := dk_27 (dk_at dksX5_count_1 12 rfl rfl)
theorem dX5_count_37 : decode cX5_count 37 = .ok (.bipush 20, 2) := dk_16 20 (dk_at dksX5_count_1 13 rfl rfl)
theorem dX5_count_39 : decode cX5_count 39 = .ok (.isub, 1) := dk_100 (dk_at dksX5_count_1 15 rfl rfl)
theorem dX5_count_40 : decode cX5_count 40 = .ok (.iaload, 1) := dk_46 (dk_at dksX5_count_1 16 rfl rfl)
theorem dX5_count_41 : decode cX5_count 41 = .ok (.ireturn, 1) := dk_172 (dk_at dksX5_count_1 17 rfl rfl)
theorem dX5_count_42 : decode cX5_count 42 = .ok (.iload_n 1, 1) := dk_27 (dk_at dksX5_count_1 18 rfl rfl)
theorem dX5_count_43 : decode cX5_count 43 = .ok (.bipush 40, 2) := dk_16 40 (dk_at dksX5_count_1 19 rfl rfl)
theorem dX5_count_45 : decode cX5_count 45 = .ok (.bipush 63, 2) := dk_16 63 (dk_at dksX5_count_1 21 rfl rfl)
theorem dX5_count_47 : decode cX5_count 47 = .ok (.invokestatic 197, 3) := dk_184 0 197 (dk_at dksX5_count_2 0 rfl rfl)
theorem dX5_count_50 : decode cX5_count 50 = .ok (.ifCond .eq 13, 3) := dk_153 0 13 (dk_at dksX5_count_2 3 rfl rfl)
theorem dX5_count_53 : decode cX5_count 53 = .ok (.aload_n 0, 1) := dk_42 (dk_at dksX5_count_2 6 rfl rfl)
theorem dX5_count_54 : decode cX5_count 54 = .ok (.getfield 88, 3) := dk_180 0 88 (dk_at dksX5_count_2 7 rfl rfl)
theorem dX5_count_57 : decode cX5_count 57 = .ok (.iload_n 1, 1) := dk_27 (dk_at dksX5_count_2 10 rfl rfl)
theorem dX5_count_58 : decode cX5_count 58 = .ok (.bipush 40, 2) := dk_16 40 (dk_at dksX5_count_2 11 rfl rfl)
theorem dX5_count_60 : decode cX5_count 60 = .ok (.isub, 1) := dk_100 (dk_at dksX5_count_2 13 rfl rfl)
theorem dX5_count_61 : decode cX5_count 61 = .ok (.iaload, 1) := dk_46 (dk_at dksX5_count_2 14 rfl rfl)
theorem dX5_count_62 : decode cX5_count 62 = .ok (.ireturn, 1) := dk_172 (dk_at dksX5_count_2 15 rfl rfl)
theorem dX5_count_63 : decode cX5_count 63 = .ok (.iload_n 1, 1) := dk_27 (dk_at dksX5_count_2 16 rfl rfl)
theorem dX5_count_64 : decode cX5_count 64 = .ok (.tableswitch 84 4 11 #[48, 53, 59, 64, 69, 74, 74, 74], 48) := by decide +kernel
theorem dX5_count_112 : decode cX5_count 112 = .ok (.aload_n 0, 1) := dk_42 (dk_at dksX5_count_4 0 rfl rfl)
theorem dX5_count_113 : decode cX5_count 113 = .ok (.getfield 337, 3) := dk_180 1 81 (dk_at dksX5_count_4 1 rfl rfl)
theorem dX5_count_116 : decode cX5_count 116 = .ok (.ireturn, 1) := dk_172 (dk_at dksX5_count_4 4 rfl rfl)
theorem dX5_count_117 : decode cX5_count 117 = .ok (.aload_n 0, 1) := dk_42 (dk_at dksX5_count_4 5 rfl rfl)
theorem dX5_count_118 : decode cX5_count 118 = .ok (.iconst 0, 1) := dk_3 (dk_at dksX5_count_4 6 rfl rfl)
theorem dX5_count_119 : decode cX5_count 119 = .ok (.invokevirtual 373, 3) := dk_182 1 117 (dk_at dksX5_count_4 7 rfl rfl)
theorem dX5_count_122 : decode cX5_count 122 = .ok (.ireturn, 1) := dk_172 (dk_at dksX5_count_4 10 rfl rfl)
theorem dX5_count_123 : decode cX5_count 123 = .ok (.aload_n 0, 1) := dk_42 (dk_at dksX5_count_4 11 rfl rfl)
theorem dX5_count_124 : decode cX5_count 124 = .ok (.getfield 340, 3) := dk_180 1 84 (dk_at dksX5_count_4 12 rfl rfl)
theorem dX5_count_127 : decode cX5_count 127 = .ok (.ireturn, 1) := dk_172 (dk_at dksX5_count_4 15 rfl rfl)
theorem dX5_count_128 : decode cX5_count 128 = .ok (.aload_n 0, 1) := dk_42 (dk_at dksX5_count_4 16 rfl rfl)
theorem dX5_count_129 : decode cX5_count 129 = .ok (.getfield 342, 3) := dk_180 1 86 (dk_at dksX5_count_4 17 rfl rfl)
theorem dX5_count_132 : decode cX5_count 132 = .ok (.ireturn, 1) := dk_172 (dk_at dksX5_count_4 20 rfl rfl)
theorem dX5_count_133 : decode cX5_count 133 = .ok (.aload_n 0, 1) := dk_42 (dk_at dksX5_count_4 21 rfl rfl)
theorem dX5_count_134 : decode cX5_count 134 = .ok (.getfield 201, 3) := dk_180 0 201 (dk_at dksX5_count_5 0 rfl rfl)
theorem dX5_count_137 : decode cX5_count 137 = .ok (.ireturn, 1) := dk_172 (dk_at dksX5_count_5 3 rfl rfl)
theorem dX5_count_138 : decode cX5_count 138 = .ok (.aload_n 0, 1) := dk_42 (dk_at dksX5_count_5 4 rfl rfl)
theorem dX5_count_139 : decode cX5_count 139 = .ok (.getfield 103, 3) := dk_180 0 103 (dk_at dksX5_count_5 5 rfl rfl)
theorem dX5_count_142 : decode cX5_count 142 = .ok (.iload_n 1, 1) := dk_27 (dk_at dksX5_count_5 8 rfl rfl)
theorem dX5_count_143 : decode cX5_count 143 = .ok (.bipush 9, 2) := dk_16 9 (dk_at dksX5_count_5 9 rfl rfl)
theorem dX5_count_145 : decode cX5_count 145 = .ok (.isub, 1) := dk_100 (dk_at dksX5_count_5 11 rfl rfl)
theorem dX5_count_146 : decode cX5_count 146 = .ok (.iaload, 1) := dk_46 (dk_at dksX5_count_5 12 rfl rfl)
theorem dX5_count_147 : decode cX5_count 147 = .ok (.ireturn, 1) := dk_172 (dk_at dksX5_count_5 13 rfl rfl)
theorem dX5_count_148 : decode cX5_count 148 = .ok (.aload_n 0, 1) := dk_42 (dk_at dksX5_count_5 14 rfl rfl)
theorem dX5_count_149 : decode cX5_count 149 = .ok (.iconst 1, 1) := dk_4 (dk_at dksX5_count_5 15 rfl rfl)
theorem dX5_count_150 : decode cX5_count 150 = .ok (.invokevirtual 323, 3) := dk_182 1 67 (dk_at dksX5_count_5 16 rfl rfl)
theorem dX5_count_153 : decode cX5_count 153 = .ok (.ireturn, 1) := dk_172 (dk_at dksX5_count_5 19 rfl rfl)
abbrev cX5_isIn : ByteArray := prog_23_method_4_code
def yX5_isIn : MethodName := ⟨RX5, "isIn", "(III)Z"⟩
def dkwX5_isIn_0 : List UInt8 := [26, 27, 161, 0, 12, 26, 28, 163, 0, 7, 4, 167, 0, 4, 3, 172]
abbrev dktX5_isIn_0 : List UInt8 := dkwX5_isIn_0 ++ []
theorem dksX5_isIn_0 : cX5_isIn.data.toList.drop 0 = dktX5_isIn_0 := by decide +kernel
theorem dX5_isIn_0 : decode cX5_isIn 0 = .ok (.iload_n 0, 1) := dk_26 (dk_at dksX5_isIn_0 0 rfl rfl)
theorem dX5_isIn_1 : decode cX5_isIn 1 = .ok (.iload_n 1, 1) := dk_27 (dk_at dksX5_isIn_0 1 rfl rfl)
theorem dX5_isIn_2 : decode cX5_isIn 2 = .ok (.if_icmp .lt 12, 3) := dk_161 0 12 (dk_at dksX5_isIn_0 2 rfl rfl)
theorem dX5_isIn_5 : decode cX5_isIn 5 = .ok (.iload_n 0, 1) := dk_26 (dk_at dksX5_isIn_0 5 rfl rfl)
theorem dX5_isIn_6 : decode cX5_isIn 6 = .ok (.iload_n 2, 1) := dk_28 (dk_at dksX5_isIn_0 6 rfl rfl)
theorem dX5_isIn_7 : decode cX5_isIn 7 = .ok (.if_icmp .gt 7, 3) := dk_163 0 7 (dk_at dksX5_isIn_0 7 rfl rfl)
theorem dX5_isIn_10 : decode cX5_isIn 10 = .ok (.iconst 1, 1) := dk_4 (dk_at dksX5_isIn_0 10 rfl rfl)
theorem dX5_isIn_11 : decode cX5_isIn 11 = .ok (.goto 4, 3) := dk_167 0 4 (dk_at dksX5_isIn_0 11 rfl rfl)
theorem dX5_isIn_14 : decode cX5_isIn 14 = .ok (.iconst 0, 1) := dk_3 (dk_at dksX5_isIn_0 14 rfl rfl)
theorem dX5_isIn_15 : decode cX5_isIn 15 = .ok (.ireturn, 1) := dk_172 (dk_at dksX5_isIn_0 15 rfl rfl)
abbrev cX5_priceOf : ByteArray := prog_23_method_45_code
def yX5_priceOf : MethodName := ⟨RX5, "priceOf", "(I)I"⟩
def dkwX5_priceOf_1 : List UInt8 := [96, 46, 96, 61, 132, 3, 1, 167, 255, 229, 28, 172]
abbrev dktX5_priceOf_1 : List UInt8 := dkwX5_priceOf_1 ++ []
def dkwX5_priceOf_0 : List UInt8 := [3, 61, 27, 62, 29, 42, 180, 1, 81, 162, 0, 25, 28, 42, 180, 0, 45, 7, 42, 180, 0, 119, 29, 46]
abbrev dktX5_priceOf_0 : List UInt8 := dkwX5_priceOf_0 ++ dktX5_priceOf_1
theorem dksX5_priceOf_0 : cX5_priceOf.data.toList.drop 0 = dktX5_priceOf_0 := by decide +kernel
theorem dksX5_priceOf_1 : cX5_priceOf.data.toList.drop 24 = dktX5_priceOf_1 := dk_seg dksX5_priceOf_0 24 rfl rfl
theorem dX5_priceOf_0 : decode cX5_priceOf 0 = .ok (.iconst 0, 1) := dk_3 (dk_at dksX5_priceOf_0 0 rfl rfl)
theorem dX5_priceOf_1 : decode cX5_priceOf 1 = .ok (.istore_n 2, 1) := dk_61 (dk_at dksX5_priceOf_0 1 rfl rfl)
theorem dX5_priceOf_2 : decode cX5_priceOf 2 = .ok (.iload_n 1, 1) := dk_27 (dk_at dksX5_priceOf_0 2 rfl rfl)
theorem dX5_priceOf_3 : decode cX5_priceOf 3 = .ok (.istore_n 3, 1) := dk_62 (dk_at dksX5_priceOf_0 3 rfl rfl)
theorem dX5_priceOf_4 : decode cX5_priceOf 4 = .ok (.iload_n 3, 1) := dk_29 (dk_at dksX5_priceOf_0 4 rfl rfl)
theorem dX5_priceOf_5 : decode cX5_priceOf 5 = .ok (.aload_n 0, 1) := dk_42 (dk_at dksX5_priceOf_0 5 rfl rfl)
theorem dX5_priceOf_6 : decode cX5_priceOf 6 = .ok (.getfield 337, 3) := dk_180 1 81 (dk_at dksX5_priceOf_0 6 rfl rfl)
theorem dX5_priceOf_9 : decode cX5_priceOf 9 = .ok (.if_icmp .ge 25, 3) := dk_162 0 25 (dk_at dksX5_priceOf_0 9 rfl rfl)
theorem dX5_priceOf_12 : decode cX5_priceOf 12 = .ok (.iload_n 2, 1) := dk_28 (dk_at dksX5_priceOf_0 12 rfl rfl)
theorem dX5_priceOf_13 : decode cX5_priceOf 13 = .ok (.aload_n 0, 1) := dk_42 (dk_at dksX5_priceOf_0 13 rfl rfl)
theorem dX5_priceOf_14 : decode cX5_priceOf 14 = .ok (.getfield 45, 3) := dk_180 0 45 (dk_at dksX5_priceOf_0 14 rfl rfl)
theorem dX5_priceOf_17 : decode cX5_priceOf 17 = .ok (.iconst 4, 1) := dk_7 (dk_at dksX5_priceOf_0 17 rfl rfl)
theorem dX5_priceOf_18 : decode cX5_priceOf 18 = .ok (.aload_n 0, 1) := dk_42 (dk_at dksX5_priceOf_0 18 rfl rfl)
theorem dX5_priceOf_19 : decode cX5_priceOf 19 = .ok (.getfield 119, 3) := dk_180 0 119 (dk_at dksX5_priceOf_0 19 rfl rfl)
theorem dX5_priceOf_22 : decode cX5_priceOf 22 = .ok (.iload_n 3, 1) := dk_29 (dk_at dksX5_priceOf_0 22 rfl rfl)
theorem dX5_priceOf_23 : decode cX5_priceOf 23 = .ok (.iaload, 1) := dk_46 (dk_at dksX5_priceOf_0 23 rfl rfl)
theorem dX5_priceOf_24 : decode cX5_priceOf 24 = .ok (.iadd, 1) := dk_96 (dk_at dksX5_priceOf_1 0 rfl rfl)
theorem dX5_priceOf_25 : decode cX5_priceOf 25 = .ok (.iaload, 1) := dk_46 (dk_at dksX5_priceOf_1 1 rfl rfl)
theorem dX5_priceOf_26 : decode cX5_priceOf 26 = .ok (.iadd, 1) := dk_96 (dk_at dksX5_priceOf_1 2 rfl rfl)
theorem dX5_priceOf_27 : decode cX5_priceOf 27 = .ok (.istore_n 2, 1) := dk_61 (dk_at dksX5_priceOf_1 3 rfl rfl)
theorem dX5_priceOf_28 : decode cX5_priceOf 28 = .ok (.iinc 3 1, 3) := dk_132 3 1 (dk_at dksX5_priceOf_1 4 rfl rfl)
theorem dX5_priceOf_31 : decode cX5_priceOf 31 = .ok (.goto (-27), 3) := dk_167 255 229 (dk_at dksX5_priceOf_1 7 rfl rfl)
theorem dX5_priceOf_34 : decode cX5_priceOf 34 = .ok (.iload_n 2, 1) := dk_28 (dk_at dksX5_priceOf_1 10 rfl rfl)
theorem dX5_priceOf_35 : decode cX5_priceOf 35 = .ok (.ireturn, 1) := dk_172 (dk_at dksX5_priceOf_1 11 rfl rfl)
abbrev cX5_quay : ByteArray := prog_23_method_46_code
def yX5_quay : MethodName := ⟨RX5, "quay", "(II)I"⟩
def dkwX5_quay_5 : List UInt8 := [160, 0, 12, 42, 180, 0, 58, 27, 46, 167, 0, 4, 29, 172]
abbrev dktX5_quay_5 : List UInt8 := dkwX5_quay_5 ++ []
def dkwX5_quay_4 : List UInt8 := [180, 0, 52, 27, 46, 167, 0, 32, 28, 5, 160, 0, 12, 42, 180, 0, 55, 27, 46, 167, 0, 18, 28, 6]
abbrev dktX5_quay_4 : List UInt8 := dkwX5_quay_4 ++ dktX5_quay_5
def dkwX5_quay_3 : List UInt8 := [167, 255, 220, 28, 154, 0, 12, 42, 180, 0, 49, 27, 46, 167, 0, 46, 28, 4, 160, 0, 12, 42]
abbrev dktX5_quay_3 : List UInt8 := dkwX5_quay_3 ++ dktX5_quay_4
def dkwX5_quay_2 : List UInt8 := [180, 0, 67, 21, 4, 46, 27, 160, 0, 10, 4, 21, 4, 120, 167, 0, 4, 3, 128, 62, 132, 4, 1]
abbrev dktX5_quay_2 : List UInt8 := dkwX5_quay_2 ++ dktX5_quay_3
def dkwX5_quay_1 : List UInt8 := [182, 1, 67, 172, 3, 62, 3, 54, 4, 21, 4, 42, 180, 0, 45, 4, 46, 162, 0, 31, 29, 42]
abbrev dktX5_quay_1 : List UInt8 := dkwX5_quay_1 ++ dktX5_quay_2
def dkwX5_quay_0 : List UInt8 := [42, 3, 181, 0, 194, 42, 27, 182, 1, 120, 153, 0, 12, 28, 3, 7, 184, 0, 197, 154, 0, 9, 42, 4]
abbrev dktX5_quay_0 : List UInt8 := dkwX5_quay_0 ++ dktX5_quay_1
theorem dksX5_quay_0 : cX5_quay.data.toList.drop 0 = dktX5_quay_0 := by decide +kernel
theorem dksX5_quay_1 : cX5_quay.data.toList.drop 24 = dktX5_quay_1 := dk_seg dksX5_quay_0 24 rfl rfl
theorem dksX5_quay_2 : cX5_quay.data.toList.drop 46 = dktX5_quay_2 := dk_seg dksX5_quay_1 22 rfl rfl
theorem dksX5_quay_3 : cX5_quay.data.toList.drop 69 = dktX5_quay_3 := dk_seg dksX5_quay_2 23 rfl rfl
theorem dksX5_quay_4 : cX5_quay.data.toList.drop 91 = dktX5_quay_4 := dk_seg dksX5_quay_3 22 rfl rfl
theorem dksX5_quay_5 : cX5_quay.data.toList.drop 115 = dktX5_quay_5 := dk_seg dksX5_quay_4 24 rfl rfl
theorem dX5_quay_0 : decode cX5_quay 0 = .ok (.aload_n 0, 1) := dk_42 (dk_at dksX5_quay_0 0 rfl rfl)
theorem dX5_quay_1 : decode cX5_quay 1 = .ok (.iconst 0, 1) := dk_3 (dk_at dksX5_quay_0 1 rfl rfl)
theorem dX5_quay_2 : decode cX5_quay 2 = .ok (.putfield 194, 3) := dk_181 0 194 (dk_at dksX5_quay_0 2 rfl rfl)
theorem dX5_quay_5 : decode cX5_quay 5 = .ok (.aload_n 0, 1) := dk_42 (dk_at dksX5_quay_0 5 rfl rfl)
theorem dX5_quay_6 : decode cX5_quay 6 = .ok (.iload_n 1, 1) := dk_27 (dk_at dksX5_quay_0 6 rfl rfl)
theorem dX5_quay_7 : decode cX5_quay 7 = .ok (.invokevirtual 376, 3) := dk_182 1 120 (dk_at dksX5_quay_0 7 rfl rfl)
theorem dX5_quay_10 : decode cX5_quay 10 = .ok (.ifCond .eq 12, 3) := dk_153 0 12 (dk_at dksX5_quay_0 10 rfl rfl)
theorem dX5_quay_13 : decode cX5_quay 13 = .ok (.iload_n 2, 1) := dk_28 (dk_at dksX5_quay_0 13 rfl rfl)
theorem dX5_quay_14 : decode cX5_quay 14 = .ok (.iconst 0, 1) := dk_3 (dk_at dksX5_quay_0 14 rfl rfl)
theorem dX5_quay_15 : decode cX5_quay 15 = .ok (.iconst 4, 1) := dk_7 (dk_at dksX5_quay_0 15 rfl rfl)
theorem dX5_quay_16 : decode cX5_quay 16 = .ok (.invokestatic 197, 3) := dk_184 0 197 (dk_at dksX5_quay_0 16 rfl rfl)
theorem dX5_quay_19 : decode cX5_quay 19 = .ok (.ifCond .ne 9, 3) := dk_154 0 9 (dk_at dksX5_quay_0 19 rfl rfl)
theorem dX5_quay_22 : decode cX5_quay 22 = .ok (.aload_n 0, 1) := dk_42 (dk_at dksX5_quay_0 22 rfl rfl)
theorem dX5_quay_23 : decode cX5_quay 23 = .ok (.iconst 1, 1) := dk_4 (dk_at dksX5_quay_0 23 rfl rfl)
theorem dX5_quay_24 : decode cX5_quay 24 = .ok (.invokevirtual 323, 3) := dk_182 1 67 (dk_at dksX5_quay_1 0 rfl rfl)
theorem dX5_quay_27 : decode cX5_quay 27 = .ok (.ireturn, 1) := dk_172 (dk_at dksX5_quay_1 3 rfl rfl)
theorem dX5_quay_28 : decode cX5_quay 28 = .ok (.iconst 0, 1) := dk_3 (dk_at dksX5_quay_1 4 rfl rfl)
theorem dX5_quay_29 : decode cX5_quay 29 = .ok (.istore_n 3, 1) := dk_62 (dk_at dksX5_quay_1 5 rfl rfl)
theorem dX5_quay_30 : decode cX5_quay 30 = .ok (.iconst 0, 1) := dk_3 (dk_at dksX5_quay_1 6 rfl rfl)
theorem dX5_quay_31 : decode cX5_quay 31 = .ok (.istore 4, 2) := dk_54 4 (dk_at dksX5_quay_1 7 rfl rfl)
theorem dX5_quay_33 : decode cX5_quay 33 = .ok (.iload 4, 2) := dk_21 4 (dk_at dksX5_quay_1 9 rfl rfl)
theorem dX5_quay_35 : decode cX5_quay 35 = .ok (.aload_n 0, 1) := dk_42 (dk_at dksX5_quay_1 11 rfl rfl)
theorem dX5_quay_36 : decode cX5_quay 36 = .ok (.getfield 45, 3) := dk_180 0 45 (dk_at dksX5_quay_1 12 rfl rfl)
theorem dX5_quay_39 : decode cX5_quay 39 = .ok (.iconst 1, 1) := dk_4 (dk_at dksX5_quay_1 15 rfl rfl)
theorem dX5_quay_40 : decode cX5_quay 40 = .ok (.iaload, 1) := dk_46 (dk_at dksX5_quay_1 16 rfl rfl)
theorem dX5_quay_41 : decode cX5_quay 41 = .ok (.if_icmp .ge 31, 3) := dk_162 0 31 (dk_at dksX5_quay_1 17 rfl rfl)
theorem dX5_quay_44 : decode cX5_quay 44 = .ok (.iload_n 3, 1) := dk_29 (dk_at dksX5_quay_1 20 rfl rfl)
theorem dX5_quay_45 : decode cX5_quay 45 = .ok (.aload_n 0, 1) := dk_42 (dk_at dksX5_quay_1 21 rfl rfl)
theorem dX5_quay_46 : decode cX5_quay 46 = .ok (.getfield 67, 3) := dk_180 0 67 (dk_at dksX5_quay_2 0 rfl rfl)
theorem dX5_quay_49 : decode cX5_quay 49 = .ok (.iload 4, 2) := dk_21 4 (dk_at dksX5_quay_2 3 rfl rfl)
theorem dX5_quay_51 : decode cX5_quay 51 = .ok (.iaload, 1) := dk_46 (dk_at dksX5_quay_2 5 rfl rfl)
theorem dX5_quay_52 : decode cX5_quay 52 = .ok (.iload_n 1, 1) := dk_27 (dk_at dksX5_quay_2 6 rfl rfl)
theorem dX5_quay_53 : decode cX5_quay 53 = .ok (.if_icmp .ne 10, 3) := dk_160 0 10 (dk_at dksX5_quay_2 7 rfl rfl)
theorem dX5_quay_56 : decode cX5_quay 56 = .ok (.iconst 1, 1) := dk_4 (dk_at dksX5_quay_2 10 rfl rfl)
theorem dX5_quay_57 : decode cX5_quay 57 = .ok (.iload 4, 2) := dk_21 4 (dk_at dksX5_quay_2 11 rfl rfl)
theorem dX5_quay_59 : decode cX5_quay 59 = .ok (.ishl, 1) := dk_120 (dk_at dksX5_quay_2 13 rfl rfl)
theorem dX5_quay_60 : decode cX5_quay 60 = .ok (.goto 4, 3) := dk_167 0 4 (dk_at dksX5_quay_2 14 rfl rfl)
theorem dX5_quay_63 : decode cX5_quay 63 = .ok (.iconst 0, 1) := dk_3 (dk_at dksX5_quay_2 17 rfl rfl)
theorem dX5_quay_64 : decode cX5_quay 64 = .ok (.ior, 1) := dk_128 (dk_at dksX5_quay_2 18 rfl rfl)
theorem dX5_quay_65 : decode cX5_quay 65 = .ok (.istore_n 3, 1) := dk_62 (dk_at dksX5_quay_2 19 rfl rfl)
theorem dX5_quay_66 : decode cX5_quay 66 = .ok (.iinc 4 1, 3) := dk_132 4 1 (dk_at dksX5_quay_2 20 rfl rfl)
theorem dX5_quay_69 : decode cX5_quay 69 = .ok (.goto (-36), 3) := dk_167 255 220 (dk_at dksX5_quay_3 0 rfl rfl)
theorem dX5_quay_72 : decode cX5_quay 72 = .ok (.iload_n 2, 1) := dk_28 (dk_at dksX5_quay_3 3 rfl rfl)
theorem dX5_quay_73 : decode cX5_quay 73 = .ok (.ifCond .ne 12, 3) := dk_154 0 12 (dk_at dksX5_quay_3 4 rfl rfl)
theorem dX5_quay_76 : decode cX5_quay 76 = .ok (.aload_n 0, 1) := dk_42 (dk_at dksX5_quay_3 7 rfl rfl)
theorem dX5_quay_77 : decode cX5_quay 77 = .ok (.getfield 49, 3) := dk_180 0 49 (dk_at dksX5_quay_3 8 rfl rfl)
theorem dX5_quay_80 : decode cX5_quay 80 = .ok (.iload_n 1, 1) := dk_27 (dk_at dksX5_quay_3 11 rfl rfl)
theorem dX5_quay_81 : decode cX5_quay 81 = .ok (.iaload, 1) := dk_46 (dk_at dksX5_quay_3 12 rfl rfl)
theorem dX5_quay_82 : decode cX5_quay 82 = .ok (.goto 46, 3) := dk_167 0 46 (dk_at dksX5_quay_3 13 rfl rfl)
theorem dX5_quay_85 : decode cX5_quay 85 = .ok (.iload_n 2, 1) := dk_28 (dk_at dksX5_quay_3 16 rfl rfl)
theorem dX5_quay_86 : decode cX5_quay 86 = .ok (.iconst 1, 1) := dk_4 (dk_at dksX5_quay_3 17 rfl rfl)
theorem dX5_quay_87 : decode cX5_quay 87 = .ok (.if_icmp .ne 12, 3) := dk_160 0 12 (dk_at dksX5_quay_3 18 rfl rfl)
theorem dX5_quay_90 : decode cX5_quay 90 = .ok (.aload_n 0, 1) := dk_42 (dk_at dksX5_quay_3 21 rfl rfl)
theorem dX5_quay_91 : decode cX5_quay 91 = .ok (.getfield 52, 3) := dk_180 0 52 (dk_at dksX5_quay_4 0 rfl rfl)
theorem dX5_quay_94 : decode cX5_quay 94 = .ok (.iload_n 1, 1) := dk_27 (dk_at dksX5_quay_4 3 rfl rfl)
theorem dX5_quay_95 : decode cX5_quay 95 = .ok (.iaload, 1) := dk_46 (dk_at dksX5_quay_4 4 rfl rfl)
theorem dX5_quay_96 : decode cX5_quay 96 = .ok (.goto 32, 3) := dk_167 0 32 (dk_at dksX5_quay_4 5 rfl rfl)
theorem dX5_quay_99 : decode cX5_quay 99 = .ok (.iload_n 2, 1) := dk_28 (dk_at dksX5_quay_4 8 rfl rfl)
theorem dX5_quay_100 : decode cX5_quay 100 = .ok (.iconst 2, 1) := dk_5 (dk_at dksX5_quay_4 9 rfl rfl)
theorem dX5_quay_101 : decode cX5_quay 101 = .ok (.if_icmp .ne 12, 3) := dk_160 0 12 (dk_at dksX5_quay_4 10 rfl rfl)
theorem dX5_quay_104 : decode cX5_quay 104 = .ok (.aload_n 0, 1) := dk_42 (dk_at dksX5_quay_4 13 rfl rfl)
theorem dX5_quay_105 : decode cX5_quay 105 = .ok (.getfield 55, 3) := dk_180 0 55 (dk_at dksX5_quay_4 14 rfl rfl)
theorem dX5_quay_108 : decode cX5_quay 108 = .ok (.iload_n 1, 1) := dk_27 (dk_at dksX5_quay_4 17 rfl rfl)
theorem dX5_quay_109 : decode cX5_quay 109 = .ok (.iaload, 1) := dk_46 (dk_at dksX5_quay_4 18 rfl rfl)
theorem dX5_quay_110 : decode cX5_quay 110 = .ok (.goto 18, 3) := dk_167 0 18 (dk_at dksX5_quay_4 19 rfl rfl)
theorem dX5_quay_113 : decode cX5_quay 113 = .ok (.iload_n 2, 1) := dk_28 (dk_at dksX5_quay_4 22 rfl rfl)
theorem dX5_quay_114 : decode cX5_quay 114 = .ok (.iconst 3, 1) := dk_6 (dk_at dksX5_quay_4 23 rfl rfl)
theorem dX5_quay_115 : decode cX5_quay 115 = .ok (.if_icmp .ne 12, 3) := dk_160 0 12 (dk_at dksX5_quay_5 0 rfl rfl)
theorem dX5_quay_118 : decode cX5_quay 118 = .ok (.aload_n 0, 1) := dk_42 (dk_at dksX5_quay_5 3 rfl rfl)
theorem dX5_quay_119 : decode cX5_quay 119 = .ok (.getfield 58, 3) := dk_180 0 58 (dk_at dksX5_quay_5 4 rfl rfl)
theorem dX5_quay_122 : decode cX5_quay 122 = .ok (.iload_n 1, 1) := dk_27 (dk_at dksX5_quay_5 7 rfl rfl)
theorem dX5_quay_123 : decode cX5_quay 123 = .ok (.iaload, 1) := dk_46 (dk_at dksX5_quay_5 8 rfl rfl)
theorem dX5_quay_124 : decode cX5_quay 124 = .ok (.goto 4, 3) := dk_167 0 4 (dk_at dksX5_quay_5 9 rfl rfl)
theorem dX5_quay_127 : decode cX5_quay 127 = .ok (.iload_n 3, 1) := dk_29 (dk_at dksX5_quay_5 12 rfl rfl)
theorem dX5_quay_128 : decode cX5_quay 128 = .ok (.ireturn, 1) := dk_172 (dk_at dksX5_quay_5 13 rfl rfl)
abbrev cX5_isQuay : ByteArray := prog_23_method_5_code
def yX5_isQuay : MethodName := ⟨RX5, "isQuay", "(I)Z"⟩
def dkwX5_isQuay_0 : List UInt8 := [27, 3, 42, 180, 0, 45, 3, 46, 4, 100, 184, 0, 197, 172]
abbrev dktX5_isQuay_0 : List UInt8 := dkwX5_isQuay_0 ++ []
theorem dksX5_isQuay_0 : cX5_isQuay.data.toList.drop 0 = dktX5_isQuay_0 := by decide +kernel
theorem dX5_isQuay_0 : decode cX5_isQuay 0 = .ok (.iload_n 1, 1) := dk_27 (dk_at dksX5_isQuay_0 0 rfl rfl)
theorem dX5_isQuay_1 : decode cX5_isQuay 1 = .ok (.iconst 0, 1) := dk_3 (dk_at dksX5_isQuay_0 1 rfl rfl)
theorem dX5_isQuay_2 : decode cX5_isQuay 2 = .ok (.aload_n 0, 1) := dk_42 (dk_at dksX5_isQuay_0 2 rfl rfl)
theorem dX5_isQuay_3 : decode cX5_isQuay 3 = .ok (.getfield 45, 3) := dk_180 0 45 (dk_at dksX5_isQuay_0 3 rfl rfl)
theorem dX5_isQuay_6 : decode cX5_isQuay 6 = .ok (.iconst 0, 1) := dk_3 (dk_at dksX5_isQuay_0 6 rfl rfl)
theorem dX5_isQuay_7 : decode cX5_isQuay 7 = .ok (.iaload, 1) := dk_46 (dk_at dksX5_isQuay_0 7 rfl rfl)
theorem dX5_isQuay_8 : decode cX5_isQuay 8 = .ok (.iconst 1, 1) := dk_4 (dk_at dksX5_isQuay_0 8 rfl rfl)
theorem dX5_isQuay_9 : decode cX5_isQuay 9 = .ok (.isub, 1) := dk_100 (dk_at dksX5_isQuay_0 9 rfl rfl)
theorem dX5_isQuay_10 : decode cX5_isQuay 10 = .ok (.invokestatic 197, 3) := dk_184 0 197 (dk_at dksX5_isQuay_0 10 rfl rfl)
theorem dX5_isQuay_13 : decode cX5_isQuay 13 = .ok (.ireturn, 1) := dk_172 (dk_at dksX5_isQuay_0 13 rfl rfl)
abbrev cX5_eel : ByteArray := prog_23_method_47_code
def yX5_eel : MethodName := ⟨RX5, "eel", "(II)I"⟩
def dkwX5_eel_3 : List UInt8 := [167, 0, 22, 28, 7, 160, 0, 12, 42, 180, 0, 73, 27, 46, 167, 0, 8, 42, 4, 182, 1, 67, 172]
abbrev dktX5_eel_3 : List UInt8 := dkwX5_eel_3 ++ []
def dkwX5_eel_2 : List UInt8 := [160, 0, 12, 42, 180, 0, 67, 27, 46, 167, 0, 36, 28, 6, 160, 0, 12, 42, 180, 0, 70, 27, 46]
abbrev dktX5_eel_2 : List UInt8 := dkwX5_eel_2 ++ dktX5_eel_3
def dkwX5_eel_1 : List UInt8 := [180, 0, 61, 27, 46, 167, 0, 64, 28, 4, 160, 0, 12, 42, 180, 0, 64, 27, 46, 167, 0, 50, 28, 5]
abbrev dktX5_eel_1 : List UInt8 := dkwX5_eel_1 ++ dktX5_eel_2
def dkwX5_eel_0 : List UInt8 := [42, 3, 181, 0, 194, 42, 27, 182, 1, 123, 154, 0, 9, 42, 4, 182, 1, 67, 172, 28, 154, 0, 12, 42]
abbrev dktX5_eel_0 : List UInt8 := dkwX5_eel_0 ++ dktX5_eel_1
theorem dksX5_eel_0 : cX5_eel.data.toList.drop 0 = dktX5_eel_0 := by decide +kernel
theorem dksX5_eel_1 : cX5_eel.data.toList.drop 24 = dktX5_eel_1 := dk_seg dksX5_eel_0 24 rfl rfl
theorem dksX5_eel_2 : cX5_eel.data.toList.drop 48 = dktX5_eel_2 := dk_seg dksX5_eel_1 24 rfl rfl
theorem dksX5_eel_3 : cX5_eel.data.toList.drop 71 = dktX5_eel_3 := dk_seg dksX5_eel_2 23 rfl rfl
theorem dX5_eel_0 : decode cX5_eel 0 = .ok (.aload_n 0, 1) := dk_42 (dk_at dksX5_eel_0 0 rfl rfl)
theorem dX5_eel_1 : decode cX5_eel 1 = .ok (.iconst 0, 1) := dk_3 (dk_at dksX5_eel_0 1 rfl rfl)
theorem dX5_eel_2 : decode cX5_eel 2 = .ok (.putfield 194, 3) := dk_181 0 194 (dk_at dksX5_eel_0 2 rfl rfl)
theorem dX5_eel_5 : decode cX5_eel 5 = .ok (.aload_n 0, 1) := dk_42 (dk_at dksX5_eel_0 5 rfl rfl)
theorem dX5_eel_6 : decode cX5_eel 6 = .ok (.iload_n 1, 1) := dk_27 (dk_at dksX5_eel_0 6 rfl rfl)
theorem dX5_eel_7 : decode cX5_eel 7 = .ok (.invokevirtual 379, 3) := dk_182 1 123 (dk_at dksX5_eel_0 7 rfl rfl)
theorem dX5_eel_10 : decode cX5_eel 10 = .ok (.ifCond .ne 9, 3) := dk_154 0 9 (dk_at dksX5_eel_0 10 rfl rfl)
theorem dX5_eel_13 : decode cX5_eel 13 = .ok (.aload_n 0, 1) := dk_42 (dk_at dksX5_eel_0 13 rfl rfl)
theorem dX5_eel_14 : decode cX5_eel 14 = .ok (.iconst 1, 1) := dk_4 (dk_at dksX5_eel_0 14 rfl rfl)
theorem dX5_eel_15 : decode cX5_eel 15 = .ok (.invokevirtual 323, 3) := dk_182 1 67 (dk_at dksX5_eel_0 15 rfl rfl)
theorem dX5_eel_18 : decode cX5_eel 18 = .ok (.ireturn, 1) := dk_172 (dk_at dksX5_eel_0 18 rfl rfl)
theorem dX5_eel_19 : decode cX5_eel 19 = .ok (.iload_n 2, 1) := dk_28 (dk_at dksX5_eel_0 19 rfl rfl)
theorem dX5_eel_20 : decode cX5_eel 20 = .ok (.ifCond .ne 12, 3) := dk_154 0 12 (dk_at dksX5_eel_0 20 rfl rfl)
theorem dX5_eel_23 : decode cX5_eel 23 = .ok (.aload_n 0, 1) := dk_42 (dk_at dksX5_eel_0 23 rfl rfl)
theorem dX5_eel_24 : decode cX5_eel 24 = .ok (.getfield 61, 3) := dk_180 0 61 (dk_at dksX5_eel_1 0 rfl rfl)
theorem dX5_eel_27 : decode cX5_eel 27 = .ok (.iload_n 1, 1) := dk_27 (dk_at dksX5_eel_1 3 rfl rfl)
theorem dX5_eel_28 : decode cX5_eel 28 = .ok (.iaload, 1) := dk_46 (dk_at dksX5_eel_1 4 rfl rfl)
theorem dX5_eel_29 : decode cX5_eel 29 = .ok (.goto 64, 3) := dk_167 0 64 (dk_at dksX5_eel_1 5 rfl rfl)
theorem dX5_eel_32 : decode cX5_eel 32 = .ok (.iload_n 2, 1) := dk_28 (dk_at dksX5_eel_1 8 rfl rfl)
theorem dX5_eel_33 : decode cX5_eel 33 = .ok (.iconst 1, 1) := dk_4 (dk_at dksX5_eel_1 9 rfl rfl)
theorem dX5_eel_34 : decode cX5_eel 34 = .ok (.if_icmp .ne 12, 3) := dk_160 0 12 (dk_at dksX5_eel_1 10 rfl rfl)
theorem dX5_eel_37 : decode cX5_eel 37 = .ok (.aload_n 0, 1) := dk_42 (dk_at dksX5_eel_1 13 rfl rfl)
theorem dX5_eel_38 : decode cX5_eel 38 = .ok (.getfield 64, 3) := dk_180 0 64 (dk_at dksX5_eel_1 14 rfl rfl)
theorem dX5_eel_41 : decode cX5_eel 41 = .ok (.iload_n 1, 1) := dk_27 (dk_at dksX5_eel_1 17 rfl rfl)
theorem dX5_eel_42 : decode cX5_eel 42 = .ok (.iaload, 1) := dk_46 (dk_at dksX5_eel_1 18 rfl rfl)
theorem dX5_eel_43 : decode cX5_eel 43 = .ok (.goto 50, 3) := dk_167 0 50 (dk_at dksX5_eel_1 19 rfl rfl)
theorem dX5_eel_46 : decode cX5_eel 46 = .ok (.iload_n 2, 1) := dk_28 (dk_at dksX5_eel_1 22 rfl rfl)
theorem dX5_eel_47 : decode cX5_eel 47 = .ok (.iconst 2, 1) := dk_5 (dk_at dksX5_eel_1 23 rfl rfl)
theorem dX5_eel_48 : decode cX5_eel 48 = .ok (.if_icmp .ne 12, 3) := dk_160 0 12 (dk_at dksX5_eel_2 0 rfl rfl)
theorem dX5_eel_51 : decode cX5_eel 51 = .ok (.aload_n 0, 1) := dk_42 (dk_at dksX5_eel_2 3 rfl rfl)
theorem dX5_eel_52 : decode cX5_eel 52 = .ok (.getfield 67, 3) := dk_180 0 67 (dk_at dksX5_eel_2 4 rfl rfl)
theorem dX5_eel_55 : decode cX5_eel 55 = .ok (.iload_n 1, 1) := dk_27 (dk_at dksX5_eel_2 7 rfl rfl)
theorem dX5_eel_56 : decode cX5_eel 56 = .ok (.iaload, 1) := dk_46 (dk_at dksX5_eel_2 8 rfl rfl)
theorem dX5_eel_57 : decode cX5_eel 57 = .ok (.goto 36, 3) := dk_167 0 36 (dk_at dksX5_eel_2 9 rfl rfl)
theorem dX5_eel_60 : decode cX5_eel 60 = .ok (.iload_n 2, 1) := dk_28 (dk_at dksX5_eel_2 12 rfl rfl)
theorem dX5_eel_61 : decode cX5_eel 61 = .ok (.iconst 3, 1) := dk_6 (dk_at dksX5_eel_2 13 rfl rfl)
theorem dX5_eel_62 : decode cX5_eel 62 = .ok (.if_icmp .ne 12, 3) := dk_160 0 12 (dk_at dksX5_eel_2 14 rfl rfl)
theorem dX5_eel_65 : decode cX5_eel 65 = .ok (.aload_n 0, 1) := dk_42 (dk_at dksX5_eel_2 17 rfl rfl)
theorem dX5_eel_66 : decode cX5_eel 66 = .ok (.getfield 70, 3) := dk_180 0 70 (dk_at dksX5_eel_2 18 rfl rfl)
theorem dX5_eel_69 : decode cX5_eel 69 = .ok (.iload_n 1, 1) := dk_27 (dk_at dksX5_eel_2 21 rfl rfl)
theorem dX5_eel_70 : decode cX5_eel 70 = .ok (.iaload, 1) := dk_46 (dk_at dksX5_eel_2 22 rfl rfl)
theorem dX5_eel_71 : decode cX5_eel 71 = .ok (.goto 22, 3) := dk_167 0 22 (dk_at dksX5_eel_3 0 rfl rfl)
theorem dX5_eel_74 : decode cX5_eel 74 = .ok (.iload_n 2, 1) := dk_28 (dk_at dksX5_eel_3 3 rfl rfl)
theorem dX5_eel_75 : decode cX5_eel 75 = .ok (.iconst 4, 1) := dk_7 (dk_at dksX5_eel_3 4 rfl rfl)
theorem dX5_eel_76 : decode cX5_eel 76 = .ok (.if_icmp .ne 12, 3) := dk_160 0 12 (dk_at dksX5_eel_3 5 rfl rfl)
theorem dX5_eel_79 : decode cX5_eel 79 = .ok (.aload_n 0, 1) := dk_42 (dk_at dksX5_eel_3 8 rfl rfl)
theorem dX5_eel_80 : decode cX5_eel 80 = .ok (.getfield 73, 3) := dk_180 0 73 (dk_at dksX5_eel_3 9 rfl rfl)
theorem dX5_eel_83 : decode cX5_eel 83 = .ok (.iload_n 1, 1) := dk_27 (dk_at dksX5_eel_3 12 rfl rfl)
theorem dX5_eel_84 : decode cX5_eel 84 = .ok (.iaload, 1) := dk_46 (dk_at dksX5_eel_3 13 rfl rfl)
theorem dX5_eel_85 : decode cX5_eel 85 = .ok (.goto 8, 3) := dk_167 0 8 (dk_at dksX5_eel_3 14 rfl rfl)
theorem dX5_eel_88 : decode cX5_eel 88 = .ok (.aload_n 0, 1) := dk_42 (dk_at dksX5_eel_3 17 rfl rfl)
theorem dX5_eel_89 : decode cX5_eel 89 = .ok (.iconst 1, 1) := dk_4 (dk_at dksX5_eel_3 18 rfl rfl)
theorem dX5_eel_90 : decode cX5_eel 90 = .ok (.invokevirtual 323, 3) := dk_182 1 67 (dk_at dksX5_eel_3 19 rfl rfl)
theorem dX5_eel_93 : decode cX5_eel 93 = .ok (.ireturn, 1) := dk_172 (dk_at dksX5_eel_3 22 rfl rfl)
abbrev cX5_isEel : ByteArray := prog_23_method_6_code
def yX5_isEel : MethodName := ⟨RX5, "isEel", "(I)Z"⟩
def dkwX5_isEel_0 : List UInt8 := [27, 3, 42, 180, 0, 45, 4, 46, 4, 100, 184, 0, 197, 172]
abbrev dktX5_isEel_0 : List UInt8 := dkwX5_isEel_0 ++ []
theorem dksX5_isEel_0 : cX5_isEel.data.toList.drop 0 = dktX5_isEel_0 := by decide +kernel
theorem dX5_isEel_0 : decode cX5_isEel 0 = .ok (.iload_n 1, 1) := dk_27 (dk_at dksX5_isEel_0 0 rfl rfl)
theorem dX5_isEel_1 : decode cX5_isEel 1 = .ok (.iconst 0, 1) := dk_3 (dk_at dksX5_isEel_0 1 rfl rfl)
theorem dX5_isEel_2 : decode cX5_isEel 2 = .ok (.aload_n 0, 1) := dk_42 (dk_at dksX5_isEel_0 2 rfl rfl)
theorem dX5_isEel_3 : decode cX5_isEel 3 = .ok (.getfield 45, 3) := dk_180 0 45 (dk_at dksX5_isEel_0 3 rfl rfl)
theorem dX5_isEel_6 : decode cX5_isEel 6 = .ok (.iconst 1, 1) := dk_4 (dk_at dksX5_isEel_0 6 rfl rfl)
theorem dX5_isEel_7 : decode cX5_isEel 7 = .ok (.iaload, 1) := dk_46 (dk_at dksX5_isEel_0 7 rfl rfl)
theorem dX5_isEel_8 : decode cX5_isEel 8 = .ok (.iconst 1, 1) := dk_4 (dk_at dksX5_isEel_0 8 rfl rfl)
theorem dX5_isEel_9 : decode cX5_isEel 9 = .ok (.isub, 1) := dk_100 (dk_at dksX5_isEel_0 9 rfl rfl)
theorem dX5_isEel_10 : decode cX5_isEel 10 = .ok (.invokestatic 197, 3) := dk_184 0 197 (dk_at dksX5_isEel_0 10 rfl rfl)
theorem dX5_isEel_13 : decode cX5_isEel 13 = .ok (.ireturn, 1) := dk_172 (dk_at dksX5_isEel_0 13 rfl rfl)
abbrev cX5_ship : ByteArray := prog_23_method_48_code
def yX5_ship : MethodName := ⟨RX5, "ship", "(II)I"⟩
def dkwX5_ship_3 : List UInt8 := [167, 0, 8, 42, 4, 182, 1, 67, 172]
abbrev dktX5_ship_3 : List UInt8 := dkwX5_ship_3 ++ []
def dkwX5_ship_2 : List UInt8 := [160, 0, 12, 42, 180, 0, 82, 27, 46, 167, 0, 22, 28, 6, 160, 0, 12, 42, 180, 0, 85, 27, 46]
abbrev dktX5_ship_2 : List UInt8 := dkwX5_ship_2 ++ dktX5_ship_3
def dkwX5_ship_1 : List UInt8 := [180, 0, 76, 27, 46, 167, 0, 50, 28, 4, 160, 0, 12, 42, 180, 0, 79, 27, 46, 167, 0, 36, 28, 5]
abbrev dktX5_ship_1 : List UInt8 := dkwX5_ship_1 ++ dktX5_ship_2
def dkwX5_ship_0 : List UInt8 := [42, 3, 181, 0, 194, 42, 27, 182, 1, 126, 154, 0, 9, 42, 4, 182, 1, 67, 172, 28, 154, 0, 12, 42]
abbrev dktX5_ship_0 : List UInt8 := dkwX5_ship_0 ++ dktX5_ship_1
theorem dksX5_ship_0 : cX5_ship.data.toList.drop 0 = dktX5_ship_0 := by decide +kernel
theorem dksX5_ship_1 : cX5_ship.data.toList.drop 24 = dktX5_ship_1 := dk_seg dksX5_ship_0 24 rfl rfl
theorem dksX5_ship_2 : cX5_ship.data.toList.drop 48 = dktX5_ship_2 := dk_seg dksX5_ship_1 24 rfl rfl
theorem dksX5_ship_3 : cX5_ship.data.toList.drop 71 = dktX5_ship_3 := dk_seg dksX5_ship_2 23 rfl rfl
theorem dX5_ship_0 : decode cX5_ship 0 = .ok (.aload_n 0, 1) := dk_42 (dk_at dksX5_ship_0 0 rfl rfl)
theorem dX5_ship_1 : decode cX5_ship 1 = .ok (.iconst 0, 1) := dk_3 (dk_at dksX5_ship_0 1 rfl rfl)
theorem dX5_ship_2 : decode cX5_ship 2 = .ok (.putfield 194, 3) := dk_181 0 194 (dk_at dksX5_ship_0 2 rfl rfl)
theorem dX5_ship_5 : decode cX5_ship 5 = .ok (.aload_n 0, 1) := dk_42 (dk_at dksX5_ship_0 5 rfl rfl)
theorem dX5_ship_6 : decode cX5_ship 6 = .ok (.iload_n 1, 1) := dk_27 (dk_at dksX5_ship_0 6 rfl rfl)
theorem dX5_ship_7 : decode cX5_ship 7 = .ok (.invokevirtual 382, 3) := dk_182 1 126 (dk_at dksX5_ship_0 7 rfl rfl)
theorem dX5_ship_10 : decode cX5_ship 10 = .ok (.ifCond .ne 9, 3) := dk_154 0 9 (dk_at dksX5_ship_0 10 rfl rfl)
theorem dX5_ship_13 : decode cX5_ship 13 = .ok (.aload_n 0, 1) := dk_42 (dk_at dksX5_ship_0 13 rfl rfl)
theorem dX5_ship_14 : decode cX5_ship 14 = .ok (.iconst 1, 1) := dk_4 (dk_at dksX5_ship_0 14 rfl rfl)
theorem dX5_ship_15 : decode cX5_ship 15 = .ok (.invokevirtual 323, 3) := dk_182 1 67 (dk_at dksX5_ship_0 15 rfl rfl)
theorem dX5_ship_18 : decode cX5_ship 18 = .ok (.ireturn, 1) := dk_172 (dk_at dksX5_ship_0 18 rfl rfl)
theorem dX5_ship_19 : decode cX5_ship 19 = .ok (.iload_n 2, 1) := dk_28 (dk_at dksX5_ship_0 19 rfl rfl)
theorem dX5_ship_20 : decode cX5_ship 20 = .ok (.ifCond .ne 12, 3) := dk_154 0 12 (dk_at dksX5_ship_0 20 rfl rfl)
theorem dX5_ship_23 : decode cX5_ship 23 = .ok (.aload_n 0, 1) := dk_42 (dk_at dksX5_ship_0 23 rfl rfl)
theorem dX5_ship_24 : decode cX5_ship 24 = .ok (.getfield 76, 3) := dk_180 0 76 (dk_at dksX5_ship_1 0 rfl rfl)
theorem dX5_ship_27 : decode cX5_ship 27 = .ok (.iload_n 1, 1) := dk_27 (dk_at dksX5_ship_1 3 rfl rfl)
theorem dX5_ship_28 : decode cX5_ship 28 = .ok (.iaload, 1) := dk_46 (dk_at dksX5_ship_1 4 rfl rfl)
theorem dX5_ship_29 : decode cX5_ship 29 = .ok (.goto 50, 3) := dk_167 0 50 (dk_at dksX5_ship_1 5 rfl rfl)
theorem dX5_ship_32 : decode cX5_ship 32 = .ok (.iload_n 2, 1) := dk_28 (dk_at dksX5_ship_1 8 rfl rfl)
theorem dX5_ship_33 : decode cX5_ship 33 = .ok (.iconst 1, 1) := dk_4 (dk_at dksX5_ship_1 9 rfl rfl)
theorem dX5_ship_34 : decode cX5_ship 34 = .ok (.if_icmp .ne 12, 3) := dk_160 0 12 (dk_at dksX5_ship_1 10 rfl rfl)
theorem dX5_ship_37 : decode cX5_ship 37 = .ok (.aload_n 0, 1) := dk_42 (dk_at dksX5_ship_1 13 rfl rfl)
theorem dX5_ship_38 : decode cX5_ship 38 = .ok (.getfield 79, 3) := dk_180 0 79 (dk_at dksX5_ship_1 14 rfl rfl)
theorem dX5_ship_41 : decode cX5_ship 41 = .ok (.iload_n 1, 1) := dk_27 (dk_at dksX5_ship_1 17 rfl rfl)
theorem dX5_ship_42 : decode cX5_ship 42 = .ok (.iaload, 1) := dk_46 (dk_at dksX5_ship_1 18 rfl rfl)
theorem dX5_ship_43 : decode cX5_ship 43 = .ok (.goto 36, 3) := dk_167 0 36 (dk_at dksX5_ship_1 19 rfl rfl)
theorem dX5_ship_46 : decode cX5_ship 46 = .ok (.iload_n 2, 1) := dk_28 (dk_at dksX5_ship_1 22 rfl rfl)
theorem dX5_ship_47 : decode cX5_ship 47 = .ok (.iconst 2, 1) := dk_5 (dk_at dksX5_ship_1 23 rfl rfl)
theorem dX5_ship_48 : decode cX5_ship 48 = .ok (.if_icmp .ne 12, 3) := dk_160 0 12 (dk_at dksX5_ship_2 0 rfl rfl)
theorem dX5_ship_51 : decode cX5_ship 51 = .ok (.aload_n 0, 1) := dk_42 (dk_at dksX5_ship_2 3 rfl rfl)
theorem dX5_ship_52 : decode cX5_ship 52 = .ok (.getfield 82, 3) := dk_180 0 82 (dk_at dksX5_ship_2 4 rfl rfl)
theorem dX5_ship_55 : decode cX5_ship 55 = .ok (.iload_n 1, 1) := dk_27 (dk_at dksX5_ship_2 7 rfl rfl)
theorem dX5_ship_56 : decode cX5_ship 56 = .ok (.iaload, 1) := dk_46 (dk_at dksX5_ship_2 8 rfl rfl)
theorem dX5_ship_57 : decode cX5_ship 57 = .ok (.goto 22, 3) := dk_167 0 22 (dk_at dksX5_ship_2 9 rfl rfl)
theorem dX5_ship_60 : decode cX5_ship 60 = .ok (.iload_n 2, 1) := dk_28 (dk_at dksX5_ship_2 12 rfl rfl)
theorem dX5_ship_61 : decode cX5_ship 61 = .ok (.iconst 3, 1) := dk_6 (dk_at dksX5_ship_2 13 rfl rfl)
theorem dX5_ship_62 : decode cX5_ship 62 = .ok (.if_icmp .ne 12, 3) := dk_160 0 12 (dk_at dksX5_ship_2 14 rfl rfl)
theorem dX5_ship_65 : decode cX5_ship 65 = .ok (.aload_n 0, 1) := dk_42 (dk_at dksX5_ship_2 17 rfl rfl)
theorem dX5_ship_66 : decode cX5_ship 66 = .ok (.getfield 85, 3) := dk_180 0 85 (dk_at dksX5_ship_2 18 rfl rfl)
theorem dX5_ship_69 : decode cX5_ship 69 = .ok (.iload_n 1, 1) := dk_27 (dk_at dksX5_ship_2 21 rfl rfl)
theorem dX5_ship_70 : decode cX5_ship 70 = .ok (.iaload, 1) := dk_46 (dk_at dksX5_ship_2 22 rfl rfl)
theorem dX5_ship_71 : decode cX5_ship 71 = .ok (.goto 8, 3) := dk_167 0 8 (dk_at dksX5_ship_3 0 rfl rfl)
theorem dX5_ship_74 : decode cX5_ship 74 = .ok (.aload_n 0, 1) := dk_42 (dk_at dksX5_ship_3 3 rfl rfl)
theorem dX5_ship_75 : decode cX5_ship 75 = .ok (.iconst 1, 1) := dk_4 (dk_at dksX5_ship_3 4 rfl rfl)
theorem dX5_ship_76 : decode cX5_ship 76 = .ok (.invokevirtual 323, 3) := dk_182 1 67 (dk_at dksX5_ship_3 5 rfl rfl)
theorem dX5_ship_79 : decode cX5_ship 79 = .ok (.ireturn, 1) := dk_172 (dk_at dksX5_ship_3 8 rfl rfl)
abbrev cX5_isShip : ByteArray := prog_23_method_7_code
def yX5_isShip : MethodName := ⟨RX5, "isShip", "(I)Z"⟩
def dkwX5_isShip_0 : List UInt8 := [27, 3, 42, 180, 0, 45, 5, 46, 4, 100, 184, 0, 197, 172]
abbrev dktX5_isShip_0 : List UInt8 := dkwX5_isShip_0 ++ []
theorem dksX5_isShip_0 : cX5_isShip.data.toList.drop 0 = dktX5_isShip_0 := by decide +kernel
theorem dX5_isShip_0 : decode cX5_isShip 0 = .ok (.iload_n 1, 1) := dk_27 (dk_at dksX5_isShip_0 0 rfl rfl)
theorem dX5_isShip_1 : decode cX5_isShip 1 = .ok (.iconst 0, 1) := dk_3 (dk_at dksX5_isShip_0 1 rfl rfl)
theorem dX5_isShip_2 : decode cX5_isShip 2 = .ok (.aload_n 0, 1) := dk_42 (dk_at dksX5_isShip_0 2 rfl rfl)
theorem dX5_isShip_3 : decode cX5_isShip 3 = .ok (.getfield 45, 3) := dk_180 0 45 (dk_at dksX5_isShip_0 3 rfl rfl)
theorem dX5_isShip_6 : decode cX5_isShip 6 = .ok (.iconst 2, 1) := dk_5 (dk_at dksX5_isShip_0 6 rfl rfl)
theorem dX5_isShip_7 : decode cX5_isShip 7 = .ok (.iaload, 1) := dk_46 (dk_at dksX5_isShip_0 7 rfl rfl)
theorem dX5_isShip_8 : decode cX5_isShip 8 = .ok (.iconst 1, 1) := dk_4 (dk_at dksX5_isShip_0 8 rfl rfl)
theorem dX5_isShip_9 : decode cX5_isShip 9 = .ok (.isub, 1) := dk_100 (dk_at dksX5_isShip_0 9 rfl rfl)
theorem dX5_isShip_10 : decode cX5_isShip 10 = .ok (.invokestatic 197, 3) := dk_184 0 197 (dk_at dksX5_isShip_0 10 rfl rfl)
theorem dX5_isShip_13 : decode cX5_isShip 13 = .ok (.ireturn, 1) := dk_172 (dk_at dksX5_isShip_0 13 rfl rfl)
abbrev cX5_meal : ByteArray := prog_23_method_49_code
def yX5_meal : MethodName := ⟨RX5, "meal", "(III)I"⟩
def dkwX5_meal_2 : List UInt8 := [180, 0, 103, 4, 92, 46, 4, 96, 79, 2, 172, 42, 27, 28, 29, 182, 1, 132, 42, 180, 1, 81, 172]
abbrev dktX5_meal_2 : List UInt8 := dkwX5_meal_2 ++ []
def dkwX5_meal_1 : List UInt8 := [182, 1, 67, 172, 42, 180, 1, 81, 16, 20, 159, 0, 12, 29, 3, 4, 184, 0, 197, 154, 0, 15, 42]
abbrev dktX5_meal_1 : List UInt8 := dkwX5_meal_1 ++ dktX5_meal_2
def dkwX5_meal_0 : List UInt8 := [42, 3, 181, 0, 194, 42, 27, 182, 1, 123, 153, 0, 10, 28, 184, 1, 129, 154, 0, 9, 42, 4]
abbrev dktX5_meal_0 : List UInt8 := dkwX5_meal_0 ++ dktX5_meal_1
theorem dksX5_meal_0 : cX5_meal.data.toList.drop 0 = dktX5_meal_0 := by decide +kernel
theorem dksX5_meal_1 : cX5_meal.data.toList.drop 22 = dktX5_meal_1 := dk_seg dksX5_meal_0 22 rfl rfl
theorem dksX5_meal_2 : cX5_meal.data.toList.drop 45 = dktX5_meal_2 := dk_seg dksX5_meal_1 23 rfl rfl
theorem dX5_meal_0 : decode cX5_meal 0 = .ok (.aload_n 0, 1) := dk_42 (dk_at dksX5_meal_0 0 rfl rfl)
theorem dX5_meal_1 : decode cX5_meal 1 = .ok (.iconst 0, 1) := dk_3 (dk_at dksX5_meal_0 1 rfl rfl)
theorem dX5_meal_2 : decode cX5_meal 2 = .ok (.putfield 194, 3) := dk_181 0 194 (dk_at dksX5_meal_0 2 rfl rfl)
theorem dX5_meal_5 : decode cX5_meal 5 = .ok (.aload_n 0, 1) := dk_42 (dk_at dksX5_meal_0 5 rfl rfl)
theorem dX5_meal_6 : decode cX5_meal 6 = .ok (.iload_n 1, 1) := dk_27 (dk_at dksX5_meal_0 6 rfl rfl)
theorem dX5_meal_7 : decode cX5_meal 7 = .ok (.invokevirtual 379, 3) := dk_182 1 123 (dk_at dksX5_meal_0 7 rfl rfl)
theorem dX5_meal_10 : decode cX5_meal 10 = .ok (.ifCond .eq 10, 3) := dk_153 0 10 (dk_at dksX5_meal_0 10 rfl rfl)
theorem dX5_meal_13 : decode cX5_meal 13 = .ok (.iload_n 2, 1) := dk_28 (dk_at dksX5_meal_0 13 rfl rfl)
theorem dX5_meal_14 : decode cX5_meal 14 = .ok (.invokestatic 385, 3) := dk_184 1 129 (dk_at dksX5_meal_0 14 rfl rfl)
theorem dX5_meal_17 : decode cX5_meal 17 = .ok (.ifCond .ne 9, 3) := dk_154 0 9 (dk_at dksX5_meal_0 17 rfl rfl)
theorem dX5_meal_20 : decode cX5_meal 20 = .ok (.aload_n 0, 1) := dk_42 (dk_at dksX5_meal_0 20 rfl rfl)
theorem dX5_meal_21 : decode cX5_meal 21 = .ok (.iconst 1, 1) := dk_4 (dk_at dksX5_meal_0 21 rfl rfl)
theorem dX5_meal_22 : decode cX5_meal 22 = .ok (.invokevirtual 323, 3) := dk_182 1 67 (dk_at dksX5_meal_1 0 rfl rfl)
theorem dX5_meal_25 : decode cX5_meal 25 = .ok (.ireturn, 1) := dk_172 (dk_at dksX5_meal_1 3 rfl rfl)
theorem dX5_meal_26 : decode cX5_meal 26 = .ok (.aload_n 0, 1) := dk_42 (dk_at dksX5_meal_1 4 rfl rfl)
theorem dX5_meal_27 : decode cX5_meal 27 = .ok (.getfield 337, 3) := dk_180 1 81 (dk_at dksX5_meal_1 5 rfl rfl)
theorem dX5_meal_30 : decode cX5_meal 30 = .ok (.bipush 20, 2) := dk_16 20 (dk_at dksX5_meal_1 8 rfl rfl)
theorem dX5_meal_32 : decode cX5_meal 32 = .ok (.if_icmp .eq 12, 3) := dk_159 0 12 (dk_at dksX5_meal_1 10 rfl rfl)
theorem dX5_meal_35 : decode cX5_meal 35 = .ok (.iload_n 3, 1) := dk_29 (dk_at dksX5_meal_1 13 rfl rfl)
theorem dX5_meal_36 : decode cX5_meal 36 = .ok (.iconst 0, 1) := dk_3 (dk_at dksX5_meal_1 14 rfl rfl)
theorem dX5_meal_37 : decode cX5_meal 37 = .ok (.iconst 1, 1) := dk_4 (dk_at dksX5_meal_1 15 rfl rfl)
theorem dX5_meal_38 : decode cX5_meal 38 = .ok (.invokestatic 197, 3) := dk_184 0 197 (dk_at dksX5_meal_1 16 rfl rfl)
theorem dX5_meal_41 : decode cX5_meal 41 = .ok (.ifCond .ne 15, 3) := dk_154 0 15 (dk_at dksX5_meal_1 19 rfl rfl)
theorem dX5_meal_44 : decode cX5_meal 44 = .ok (.aload_n 0, 1) := dk_42 (dk_at dksX5_meal_1 22 rfl rfl)
theorem dX5_meal_45 : decode cX5_meal 45 = .ok (.getfield 103, 3) := dk_180 0 103 (dk_at dksX5_meal_2 0 rfl rfl)
theorem dX5_meal_48 : decode cX5_meal 48 = .ok (.iconst 1, 1) := dk_4 (dk_at dksX5_meal_2 3 rfl rfl)
theorem dX5_meal_49 : decode cX5_meal 49 = .ok (.dup2, 1) := dk_92 (dk_at dksX5_meal_2 4 rfl rfl)
theorem dX5_meal_50 : decode cX5_meal 50 = .ok (.iaload, 1) := dk_46 (dk_at dksX5_meal_2 5 rfl rfl)
theorem dX5_meal_51 : decode cX5_meal 51 = .ok (.iconst 1, 1) := dk_4 (dk_at dksX5_meal_2 6 rfl rfl)
theorem dX5_meal_52 : decode cX5_meal 52 = .ok (.iadd, 1) := dk_96 (dk_at dksX5_meal_2 7 rfl rfl)
theorem dX5_meal_53 : decode cX5_meal 53 = .ok (.iastore, 1) := dk_79 (dk_at dksX5_meal_2 8 rfl rfl)
theorem dX5_meal_54 : decode cX5_meal 54 = .ok (.iconst (-1), 1) := dk_2 (dk_at dksX5_meal_2 9 rfl rfl)
theorem dX5_meal_55 : decode cX5_meal 55 = .ok (.ireturn, 1) := dk_172 (dk_at dksX5_meal_2 10 rfl rfl)
theorem dX5_meal_56 : decode cX5_meal 56 = .ok (.aload_n 0, 1) := dk_42 (dk_at dksX5_meal_2 11 rfl rfl)
theorem dX5_meal_57 : decode cX5_meal 57 = .ok (.iload_n 1, 1) := dk_27 (dk_at dksX5_meal_2 12 rfl rfl)
theorem dX5_meal_58 : decode cX5_meal 58 = .ok (.iload_n 2, 1) := dk_28 (dk_at dksX5_meal_2 13 rfl rfl)
theorem dX5_meal_59 : decode cX5_meal 59 = .ok (.iload_n 3, 1) := dk_29 (dk_at dksX5_meal_2 14 rfl rfl)
theorem dX5_meal_60 : decode cX5_meal 60 = .ok (.invokevirtual 388, 3) := dk_182 1 132 (dk_at dksX5_meal_2 15 rfl rfl)
theorem dX5_meal_63 : decode cX5_meal 63 = .ok (.aload_n 0, 1) := dk_42 (dk_at dksX5_meal_2 18 rfl rfl)
theorem dX5_meal_64 : decode cX5_meal 64 = .ok (.getfield 337, 3) := dk_180 1 81 (dk_at dksX5_meal_2 19 rfl rfl)
theorem dX5_meal_67 : decode cX5_meal 67 = .ok (.ireturn, 1) := dk_172 (dk_at dksX5_meal_2 22 rfl rfl)
abbrev cX5_isHour : ByteArray := prog_23_method_8_code
def yX5_isHour : MethodName := ⟨RX5, "isHour", "(I)Z"⟩
def dkwX5_isHour_0 : List UInt8 := [26, 3, 16, 23, 184, 0, 197, 172]
abbrev dktX5_isHour_0 : List UInt8 := dkwX5_isHour_0 ++ []
theorem dksX5_isHour_0 : cX5_isHour.data.toList.drop 0 = dktX5_isHour_0 := by decide +kernel
theorem dX5_isHour_0 : decode cX5_isHour 0 = .ok (.iload_n 0, 1) := dk_26 (dk_at dksX5_isHour_0 0 rfl rfl)
theorem dX5_isHour_1 : decode cX5_isHour 1 = .ok (.iconst 0, 1) := dk_3 (dk_at dksX5_isHour_0 1 rfl rfl)
theorem dX5_isHour_2 : decode cX5_isHour 2 = .ok (.bipush 23, 2) := dk_16 23 (dk_at dksX5_isHour_0 2 rfl rfl)
theorem dX5_isHour_4 : decode cX5_isHour 4 = .ok (.invokestatic 197, 3) := dk_184 0 197 (dk_at dksX5_isHour_0 4 rfl rfl)
theorem dX5_isHour_7 : decode cX5_isHour 7 = .ok (.ireturn, 1) := dk_172 (dk_at dksX5_isHour_0 7 rfl rfl)
abbrev cX5_give : ByteArray := prog_23_method_35_code
def yX5_give : MethodName := ⟨RX5, "give", "(III)V"⟩
def dkwX5_give_1 : List UInt8 := [42, 180, 1, 81, 29, 79, 42, 89, 180, 1, 81, 4, 96, 181, 1, 81, 177]
abbrev dktX5_give_1 : List UInt8 := dkwX5_give_1 ++ []
def dkwX5_give_0 : List UInt8 := [42, 180, 0, 113, 42, 180, 1, 81, 27, 79, 42, 180, 0, 116, 42, 180, 1, 81, 28, 79, 42, 180, 0, 119]
abbrev dktX5_give_0 : List UInt8 := dkwX5_give_0 ++ dktX5_give_1
theorem dksX5_give_0 : cX5_give.data.toList.drop 0 = dktX5_give_0 := by decide +kernel
theorem dksX5_give_1 : cX5_give.data.toList.drop 24 = dktX5_give_1 := dk_seg dksX5_give_0 24 rfl rfl
theorem dX5_give_0 : decode cX5_give 0 = .ok (.aload_n 0, 1) := dk_42 (dk_at dksX5_give_0 0 rfl rfl)
theorem dX5_give_1 : decode cX5_give 1 = .ok (.getfield 113, 3) := dk_180 0 113 (dk_at dksX5_give_0 1 rfl rfl)
theorem dX5_give_4 : decode cX5_give 4 = .ok (.aload_n 0, 1) := dk_42 (dk_at dksX5_give_0 4 rfl rfl)
theorem dX5_give_5 : decode cX5_give 5 = .ok (.getfield 337, 3) := dk_180 1 81 (dk_at dksX5_give_0 5 rfl rfl)
theorem dX5_give_8 : decode cX5_give 8 = .ok (.iload_n 1, 1) := dk_27 (dk_at dksX5_give_0 8 rfl rfl)
theorem dX5_give_9 : decode cX5_give 9 = .ok (.iastore, 1) := dk_79 (dk_at dksX5_give_0 9 rfl rfl)
theorem dX5_give_10 : decode cX5_give 10 = .ok (.aload_n 0, 1) := dk_42 (dk_at dksX5_give_0 10 rfl rfl)
theorem dX5_give_11 : decode cX5_give 11 = .ok (.getfield 116, 3) := dk_180 0 116 (dk_at dksX5_give_0 11 rfl rfl)
theorem dX5_give_14 : decode cX5_give 14 = .ok (.aload_n 0, 1) := dk_42 (dk_at dksX5_give_0 14 rfl rfl)
theorem dX5_give_15 : decode cX5_give 15 = .ok (.getfield 337, 3) := dk_180 1 81 (dk_at dksX5_give_0 15 rfl rfl)
theorem dX5_give_18 : decode cX5_give 18 = .ok (.iload_n 2, 1) := dk_28 (dk_at dksX5_give_0 18 rfl rfl)
theorem dX5_give_19 : decode cX5_give 19 = .ok (.iastore, 1) := dk_79 (dk_at dksX5_give_0 19 rfl rfl)
theorem dX5_give_20 : decode cX5_give 20 = .ok (.aload_n 0, 1) := dk_42 (dk_at dksX5_give_0 20 rfl rfl)
theorem dX5_give_21 : decode cX5_give 21 = .ok (.getfield 119, 3) := dk_180 0 119 (dk_at dksX5_give_0 21 rfl rfl)
theorem dX5_give_24 : decode cX5_give 24 = .ok (.aload_n 0, 1) := dk_42 (dk_at dksX5_give_1 0 rfl rfl)
theorem dX5_give_25 : decode cX5_give 25 = .ok (.getfield 337, 3) := dk_180 1 81 (dk_at dksX5_give_1 1 rfl rfl)
theorem dX5_give_28 : decode cX5_give 28 = .ok (.iload_n 3, 1) := dk_29 (dk_at dksX5_give_1 4 rfl rfl)
theorem dX5_give_29 : decode cX5_give 29 = .ok (.iastore, 1) := dk_79 (dk_at dksX5_give_1 5 rfl rfl)
theorem dX5_give_30 : decode cX5_give 30 = .ok (.aload_n 0, 1) := dk_42 (dk_at dksX5_give_1 6 rfl rfl)
theorem dX5_give_31 : decode cX5_give 31 = .ok (.dup, 1) := dk_89 (dk_at dksX5_give_1 7 rfl rfl)
theorem dX5_give_32 : decode cX5_give 32 = .ok (.getfield 337, 3) := dk_180 1 81 (dk_at dksX5_give_1 8 rfl rfl)
theorem dX5_give_35 : decode cX5_give 35 = .ok (.iconst 1, 1) := dk_4 (dk_at dksX5_give_1 11 rfl rfl)
theorem dX5_give_36 : decode cX5_give 36 = .ok (.iadd, 1) := dk_96 (dk_at dksX5_give_1 12 rfl rfl)
theorem dX5_give_37 : decode cX5_give 37 = .ok (.putfield 337, 3) := dk_181 1 81 (dk_at dksX5_give_1 13 rfl rfl)
theorem dX5_give_40 : decode cX5_give 40 = .ok (.return_, 1) := dk_177 (dk_at dksX5_give_1 16 rfl rfl)
abbrev cX5_undo : ByteArray := prog_23_method_50_code
def yX5_undo : MethodName := ⟨RX5, "undo", "()I"⟩
def dkwX5_undo_1 : List UInt8 := [42, 180, 1, 81, 172]
abbrev dktX5_undo_1 : List UInt8 := dkwX5_undo_1 ++ []
def dkwX5_undo_0 : List UInt8 := [42, 3, 181, 0, 194, 42, 180, 1, 81, 154, 0, 5, 2, 172, 42, 89, 180, 1, 81, 4, 100, 181, 1, 81]
abbrev dktX5_undo_0 : List UInt8 := dkwX5_undo_0 ++ dktX5_undo_1
theorem dksX5_undo_0 : cX5_undo.data.toList.drop 0 = dktX5_undo_0 := by decide +kernel
theorem dksX5_undo_1 : cX5_undo.data.toList.drop 24 = dktX5_undo_1 := dk_seg dksX5_undo_0 24 rfl rfl
theorem dX5_undo_0 : decode cX5_undo 0 = .ok (.aload_n 0, 1) := dk_42 (dk_at dksX5_undo_0 0 rfl rfl)
theorem dX5_undo_1 : decode cX5_undo 1 = .ok (.iconst 0, 1) := dk_3 (dk_at dksX5_undo_0 1 rfl rfl)
theorem dX5_undo_2 : decode cX5_undo 2 = .ok (.putfield 194, 3) := dk_181 0 194 (dk_at dksX5_undo_0 2 rfl rfl)
theorem dX5_undo_5 : decode cX5_undo 5 = .ok (.aload_n 0, 1) := dk_42 (dk_at dksX5_undo_0 5 rfl rfl)
theorem dX5_undo_6 : decode cX5_undo 6 = .ok (.getfield 337, 3) := dk_180 1 81 (dk_at dksX5_undo_0 6 rfl rfl)
theorem dX5_undo_9 : decode cX5_undo 9 = .ok (.ifCond .ne 5, 3) := dk_154 0 5 (dk_at dksX5_undo_0 9 rfl rfl)
theorem dX5_undo_12 : decode cX5_undo 12 = .ok (.iconst (-1), 1) := dk_2 (dk_at dksX5_undo_0 12 rfl rfl)
theorem dX5_undo_13 : decode cX5_undo 13 = .ok (.ireturn, 1) := dk_172 (dk_at dksX5_undo_0 13 rfl rfl)
theorem dX5_undo_14 : decode cX5_undo 14 = .ok (.aload_n 0, 1) := dk_42 (dk_at dksX5_undo_0 14 rfl rfl)
theorem dX5_undo_15 : decode cX5_undo 15 = .ok (.dup, 1) := dk_89 (dk_at dksX5_undo_0 15 rfl rfl)
theorem dX5_undo_16 : decode cX5_undo 16 = .ok (.getfield 337, 3) := dk_180 1 81 (dk_at dksX5_undo_0 16 rfl rfl)
theorem dX5_undo_19 : decode cX5_undo 19 = .ok (.iconst 1, 1) := dk_4 (dk_at dksX5_undo_0 19 rfl rfl)
theorem dX5_undo_20 : decode cX5_undo 20 = .ok (.isub, 1) := dk_100 (dk_at dksX5_undo_0 20 rfl rfl)
theorem dX5_undo_21 : decode cX5_undo 21 = .ok (.putfield 337, 3) := dk_181 1 81 (dk_at dksX5_undo_0 21 rfl rfl)
theorem dX5_undo_24 : decode cX5_undo 24 = .ok (.aload_n 0, 1) := dk_42 (dk_at dksX5_undo_1 0 rfl rfl)
theorem dX5_undo_25 : decode cX5_undo 25 = .ok (.getfield 337, 3) := dk_180 1 81 (dk_at dksX5_undo_1 1 rfl rfl)
theorem dX5_undo_28 : decode cX5_undo 28 = .ok (.ireturn, 1) := dk_172 (dk_at dksX5_undo_1 4 rfl rfl)
abbrev cX5_cold : ByteArray := prog_23_method_51_code
def yX5_cold : MethodName := ⟨RX5, "cold", "(I)I"⟩
def dkwX5_cold_1 : List UInt8 := [181, 1, 84, 28, 172]
abbrev dktX5_cold_1 : List UInt8 := dkwX5_cold_1 ++ []
def dkwX5_cold_0 : List UInt8 := [42, 3, 181, 0, 194, 27, 3, 16, 9, 184, 0, 197, 154, 0, 5, 2, 172, 42, 180, 1, 84, 61, 42, 27]
abbrev dktX5_cold_0 : List UInt8 := dkwX5_cold_0 ++ dktX5_cold_1
theorem dksX5_cold_0 : cX5_cold.data.toList.drop 0 = dktX5_cold_0 := by decide +kernel
theorem dksX5_cold_1 : cX5_cold.data.toList.drop 24 = dktX5_cold_1 := dk_seg dksX5_cold_0 24 rfl rfl
theorem dX5_cold_0 : decode cX5_cold 0 = .ok (.aload_n 0, 1) := dk_42 (dk_at dksX5_cold_0 0 rfl rfl)
theorem dX5_cold_1 : decode cX5_cold 1 = .ok (.iconst 0, 1) := dk_3 (dk_at dksX5_cold_0 1 rfl rfl)
theorem dX5_cold_2 : decode cX5_cold 2 = .ok (.putfield 194, 3) := dk_181 0 194 (dk_at dksX5_cold_0 2 rfl rfl)
theorem dX5_cold_5 : decode cX5_cold 5 = .ok (.iload_n 1, 1) := dk_27 (dk_at dksX5_cold_0 5 rfl rfl)
theorem dX5_cold_6 : decode cX5_cold 6 = .ok (.iconst 0, 1) := dk_3 (dk_at dksX5_cold_0 6 rfl rfl)
theorem dX5_cold_7 : decode cX5_cold 7 = .ok (.bipush 9, 2) := dk_16 9 (dk_at dksX5_cold_0 7 rfl rfl)
theorem dX5_cold_9 : decode cX5_cold 9 = .ok (.invokestatic 197, 3) := dk_184 0 197 (dk_at dksX5_cold_0 9 rfl rfl)
theorem dX5_cold_12 : decode cX5_cold 12 = .ok (.ifCond .ne 5, 3) := dk_154 0 5 (dk_at dksX5_cold_0 12 rfl rfl)
theorem dX5_cold_15 : decode cX5_cold 15 = .ok (.iconst (-1), 1) := dk_2 (dk_at dksX5_cold_0 15 rfl rfl)
theorem dX5_cold_16 : decode cX5_cold 16 = .ok (.ireturn, 1) := dk_172 (dk_at dksX5_cold_0 16 rfl rfl)
theorem dX5_cold_17 : decode cX5_cold 17 = .ok (.aload_n 0, 1) := dk_42 (dk_at dksX5_cold_0 17 rfl rfl)
theorem dX5_cold_18 : decode cX5_cold 18 = .ok (.getfield 340, 3) := dk_180 1 84 (dk_at dksX5_cold_0 18 rfl rfl)
theorem dX5_cold_21 : decode cX5_cold 21 = .ok (.istore_n 2, 1) := dk_61 (dk_at dksX5_cold_0 21 rfl rfl)
theorem dX5_cold_22 : decode cX5_cold 22 = .ok (.aload_n 0, 1) := dk_42 (dk_at dksX5_cold_0 22 rfl rfl)
theorem dX5_cold_23 : decode cX5_cold 23 = .ok (.iload_n 1, 1) := dk_27 (dk_at dksX5_cold_0 23 rfl rfl)
theorem dX5_cold_24 : decode cX5_cold 24 = .ok (.putfield 340, 3) := dk_181 1 84 (dk_at dksX5_cold_1 0 rfl rfl)
theorem dX5_cold_27 : decode cX5_cold 27 = .ok (.iload_n 2, 1) := dk_28 (dk_at dksX5_cold_1 3 rfl rfl)
theorem dX5_cold_28 : decode cX5_cold 28 = .ok (.ireturn, 1) := dk_172 (dk_at dksX5_cold_1 4 rfl rfl)
abbrev cX5_hunger : ByteArray := prog_23_method_52_code
def yX5_hunger : MethodName := ⟨RX5, "hunger", "(II)I"⟩
def dkwX5_hunger_1 : List UInt8 := [182, 1, 67, 172, 42, 182, 1, 136, 42, 180, 0, 122, 16, 24, 27, 104, 28, 96, 46, 172]
abbrev dktX5_hunger_1 : List UInt8 := dkwX5_hunger_1 ++ []
def dkwX5_hunger_0 : List UInt8 := [42, 3, 181, 0, 194, 42, 27, 182, 1, 123, 153, 0, 10, 28, 184, 1, 129, 154, 0, 9, 42, 4]
abbrev dktX5_hunger_0 : List UInt8 := dkwX5_hunger_0 ++ dktX5_hunger_1
theorem dksX5_hunger_0 : cX5_hunger.data.toList.drop 0 = dktX5_hunger_0 := by decide +kernel
theorem dksX5_hunger_1 : cX5_hunger.data.toList.drop 22 = dktX5_hunger_1 := dk_seg dksX5_hunger_0 22 rfl rfl
theorem dX5_hunger_0 : decode cX5_hunger 0 = .ok (.aload_n 0, 1) := dk_42 (dk_at dksX5_hunger_0 0 rfl rfl)
theorem dX5_hunger_1 : decode cX5_hunger 1 = .ok (.iconst 0, 1) := dk_3 (dk_at dksX5_hunger_0 1 rfl rfl)
theorem dX5_hunger_2 : decode cX5_hunger 2 = .ok (.putfield 194, 3) := dk_181 0 194 (dk_at dksX5_hunger_0 2 rfl rfl)
theorem dX5_hunger_5 : decode cX5_hunger 5 = .ok (.aload_n 0, 1) := dk_42 (dk_at dksX5_hunger_0 5 rfl rfl)
theorem dX5_hunger_6 : decode cX5_hunger 6 = .ok (.iload_n 1, 1) := dk_27 (dk_at dksX5_hunger_0 6 rfl rfl)
theorem dX5_hunger_7 : decode cX5_hunger 7 = .ok (.invokevirtual 379, 3) := dk_182 1 123 (dk_at dksX5_hunger_0 7 rfl rfl)
theorem dX5_hunger_10 : decode cX5_hunger 10 = .ok (.ifCond .eq 10, 3) := dk_153 0 10 (dk_at dksX5_hunger_0 10 rfl rfl)
theorem dX5_hunger_13 : decode cX5_hunger 13 = .ok (.iload_n 2, 1) := dk_28 (dk_at dksX5_hunger_0 13 rfl rfl)
theorem dX5_hunger_14 : decode cX5_hunger 14 = .ok (.invokestatic 385, 3) := dk_184 1 129 (dk_at dksX5_hunger_0 14 rfl rfl)
theorem dX5_hunger_17 : decode cX5_hunger 17 = .ok (.ifCond .ne 9, 3) := dk_154 0 9 (dk_at dksX5_hunger_0 17 rfl rfl)
theorem dX5_hunger_20 : decode cX5_hunger 20 = .ok (.aload_n 0, 1) := dk_42 (dk_at dksX5_hunger_0 20 rfl rfl)
theorem dX5_hunger_21 : decode cX5_hunger 21 = .ok (.iconst 1, 1) := dk_4 (dk_at dksX5_hunger_0 21 rfl rfl)
theorem dX5_hunger_22 : decode cX5_hunger 22 = .ok (.invokevirtual 323, 3) := dk_182 1 67 (dk_at dksX5_hunger_1 0 rfl rfl)
theorem dX5_hunger_25 : decode cX5_hunger 25 = .ok (.ireturn, 1) := dk_172 (dk_at dksX5_hunger_1 3 rfl rfl)
theorem dX5_hunger_26 : decode cX5_hunger 26 = .ok (.aload_n 0, 1) := dk_42 (dk_at dksX5_hunger_1 4 rfl rfl)
theorem dX5_hunger_27 : decode cX5_hunger 27 = .ok (.invokevirtual 392, 3) := dk_182 1 136 (dk_at dksX5_hunger_1 5 rfl rfl)
theorem dX5_hunger_30 : decode cX5_hunger 30 = .ok (.aload_n 0, 1) := dk_42 (dk_at dksX5_hunger_1 8 rfl rfl)
theorem dX5_hunger_31 : decode cX5_hunger 31 = .ok (.getfield 122, 3) := dk_180 0 122 (dk_at dksX5_hunger_1 9 rfl rfl)
theorem dX5_hunger_34 : decode cX5_hunger 34 = .ok (.bipush 24, 2) := dk_16 24 (dk_at dksX5_hunger_1 12 rfl rfl)
theorem dX5_hunger_36 : decode cX5_hunger 36 = .ok (.iload_n 1, 1) := dk_27 (dk_at dksX5_hunger_1 14 rfl rfl)
theorem dX5_hunger_37 : decode cX5_hunger 37 = .ok (.imul, 1) := dk_104 (dk_at dksX5_hunger_1 15 rfl rfl)
theorem dX5_hunger_38 : decode cX5_hunger 38 = .ok (.iload_n 2, 1) := dk_28 (dk_at dksX5_hunger_1 16 rfl rfl)
theorem dX5_hunger_39 : decode cX5_hunger 39 = .ok (.iadd, 1) := dk_96 (dk_at dksX5_hunger_1 17 rfl rfl)
theorem dX5_hunger_40 : decode cX5_hunger 40 = .ok (.iaload, 1) := dk_46 (dk_at dksX5_hunger_1 18 rfl rfl)
theorem dX5_hunger_41 : decode cX5_hunger 41 = .ok (.ireturn, 1) := dk_172 (dk_at dksX5_hunger_1 19 rfl rfl)
abbrev cX5_tellNight : ByteArray := prog_23_method_43_code
def yX5_tellNight : MethodName := ⟨RX5, "tellNight", "()V"⟩
def dkwX5_tellNight_1 : List UInt8 := [182, 1, 114, 177]
abbrev dktX5_tellNight_1 : List UInt8 := dkwX5_tellNight_1 ++ []
def dkwX5_tellNight_0 : List UInt8 := [3, 60, 27, 42, 180, 0, 45, 4, 46, 162, 0, 14, 42, 27, 182, 1, 111, 132, 1, 1, 167, 255, 238, 42]
abbrev dktX5_tellNight_0 : List UInt8 := dkwX5_tellNight_0 ++ dktX5_tellNight_1
theorem dksX5_tellNight_0 : cX5_tellNight.data.toList.drop 0 = dktX5_tellNight_0 := by decide +kernel
theorem dksX5_tellNight_1 : cX5_tellNight.data.toList.drop 24 = dktX5_tellNight_1 := dk_seg dksX5_tellNight_0 24 rfl rfl
theorem dX5_tellNight_0 : decode cX5_tellNight 0 = .ok (.iconst 0, 1) := dk_3 (dk_at dksX5_tellNight_0 0 rfl rfl)
theorem dX5_tellNight_1 : decode cX5_tellNight 1 = .ok (.istore_n 1, 1) := dk_60 (dk_at dksX5_tellNight_0 1 rfl rfl)
theorem dX5_tellNight_2 : decode cX5_tellNight 2 = .ok (.iload_n 1, 1) := dk_27 (dk_at dksX5_tellNight_0 2 rfl rfl)
theorem dX5_tellNight_3 : decode cX5_tellNight 3 = .ok (.aload_n 0, 1) := dk_42 (dk_at dksX5_tellNight_0 3 rfl rfl)
theorem dX5_tellNight_4 : decode cX5_tellNight 4 = .ok (.getfield 45, 3) := dk_180 0 45 (dk_at dksX5_tellNight_0 4 rfl rfl)
theorem dX5_tellNight_7 : decode cX5_tellNight 7 = .ok (.iconst 1, 1) := dk_4 (dk_at dksX5_tellNight_0 7 rfl rfl)
theorem dX5_tellNight_8 : decode cX5_tellNight 8 = .ok (.iaload, 1) := dk_46 (dk_at dksX5_tellNight_0 8 rfl rfl)
theorem dX5_tellNight_9 : decode cX5_tellNight 9 = .ok (.if_icmp .ge 14, 3) := dk_162 0 14 (dk_at dksX5_tellNight_0 9 rfl rfl)
theorem dX5_tellNight_12 : decode cX5_tellNight 12 = .ok (.aload_n 0, 1) := dk_42 (dk_at dksX5_tellNight_0 12 rfl rfl)
theorem dX5_tellNight_13 : decode cX5_tellNight 13 = .ok (.iload_n 1, 1) := dk_27 (dk_at dksX5_tellNight_0 13 rfl rfl)
theorem dX5_tellNight_14 : decode cX5_tellNight 14 = .ok (.invokevirtual 367, 3) := dk_182 1 111 (dk_at dksX5_tellNight_0 14 rfl rfl)
theorem dX5_tellNight_17 : decode cX5_tellNight 17 = .ok (.iinc 1 1, 3) := dk_132 1 1 (dk_at dksX5_tellNight_0 17 rfl rfl)
theorem dX5_tellNight_20 : decode cX5_tellNight 20 = .ok (.goto (-18), 3) := dk_167 255 238 (dk_at dksX5_tellNight_0 20 rfl rfl)
theorem dX5_tellNight_23 : decode cX5_tellNight 23 = .ok (.aload_n 0, 1) := dk_42 (dk_at dksX5_tellNight_0 23 rfl rfl)
theorem dX5_tellNight_24 : decode cX5_tellNight 24 = .ok (.invokevirtual 370, 3) := dk_182 1 114 (dk_at dksX5_tellNight_1 0 rfl rfl)
theorem dX5_tellNight_27 : decode cX5_tellNight 27 = .ok (.return_, 1) := dk_177 (dk_at dksX5_tellNight_1 3 rfl rfl)
abbrev cX5_tellEel : ByteArray := prog_23_method_39_code
def yX5_tellEel : MethodName := ⟨RX5, "tellEel", "(I)V"⟩
def dkwX5_tellEel_7 : List UInt8 := [160, 0, 7, 5, 167, 0, 4, 4, 96, 184, 0, 230, 61, 132, 4, 1, 167, 255, 93, 177]
abbrev dktX5_tellEel_7 : List UInt8 := dkwX5_tellEel_7 ++ []
def dkwX5_tellEel_6 : List UInt8 := [21, 4, 96, 46, 154, 0, 7, 2, 167, 0, 4, 29, 79, 16, 30, 28, 42, 180, 0, 61, 27, 46, 4]
abbrev dktX5_tellEel_6 : List UInt8 := dkwX5_tellEel_6 ++ dktX5_tellEel_7
def dkwX5_tellEel_5 : List UInt8 := [182, 1, 102, 79, 42, 180, 0, 128, 16, 24, 27, 104, 21, 4, 96, 42, 180, 0, 125, 16, 24, 27, 104]
abbrev dktX5_tellEel_5 : List UInt8 := dkwX5_tellEel_5 ++ dktX5_tellEel_6
def dkwX5_tellEel_4 : List UInt8 := [16, 24, 27, 104, 21, 4, 96, 28, 79, 42, 180, 0, 125, 16, 24, 27, 104, 21, 4, 96, 42, 27, 21, 4]
abbrev dktX5_tellEel_4 : List UInt8 := dkwX5_tellEel_4 ++ dktX5_tellEel_5
def dkwX5_tellEel_3 : List UInt8 := [167, 0, 4, 29, 62, 21, 6, 61, 42, 180, 0, 137, 21, 5, 46, 54, 5, 167, 255, 202, 42, 180, 0, 122]
abbrev dktX5_tellEel_3 : List UInt8 := dkwX5_tellEel_3 ++ dktX5_tellEel_4
def dkwX5_tellEel_2 : List UInt8 := [154, 0, 7, 3, 167, 0, 10, 3, 28, 8, 100, 184, 1, 96, 54, 6, 21, 6, 28, 162, 0, 8, 21, 5]
abbrev dktX5_tellEel_2 : List UInt8 := dkwX5_tellEel_2 ++ dktX5_tellEel_3
def dkwX5_tellEel_1 : List UInt8 := [42, 180, 0, 134, 21, 4, 46, 54, 5, 21, 5, 2, 159, 0, 54, 42, 180, 0, 119, 21, 5, 46]
abbrev dktX5_tellEel_1 : List UInt8 := dkwX5_tellEel_1 ++ dktX5_tellEel_2
def dkwX5_tellEel_0 : List UInt8 := [42, 27, 182, 1, 99, 42, 180, 0, 73, 27, 46, 61, 2, 62, 3, 54, 4, 21, 4, 16, 24, 162, 0, 162]
abbrev dktX5_tellEel_0 : List UInt8 := dkwX5_tellEel_0 ++ dktX5_tellEel_1
theorem dksX5_tellEel_0 : cX5_tellEel.data.toList.drop 0 = dktX5_tellEel_0 := by decide +kernel
theorem dksX5_tellEel_1 : cX5_tellEel.data.toList.drop 24 = dktX5_tellEel_1 := dk_seg dksX5_tellEel_0 24 rfl rfl
theorem dksX5_tellEel_2 : cX5_tellEel.data.toList.drop 46 = dktX5_tellEel_2 := dk_seg dksX5_tellEel_1 22 rfl rfl
theorem dksX5_tellEel_3 : cX5_tellEel.data.toList.drop 70 = dktX5_tellEel_3 := dk_seg dksX5_tellEel_2 24 rfl rfl
theorem dksX5_tellEel_4 : cX5_tellEel.data.toList.drop 94 = dktX5_tellEel_4 := dk_seg dksX5_tellEel_3 24 rfl rfl
theorem dksX5_tellEel_5 : cX5_tellEel.data.toList.drop 118 = dktX5_tellEel_5 := dk_seg dksX5_tellEel_4 24 rfl rfl
theorem dksX5_tellEel_6 : cX5_tellEel.data.toList.drop 141 = dktX5_tellEel_6 := dk_seg dksX5_tellEel_5 23 rfl rfl
theorem dksX5_tellEel_7 : cX5_tellEel.data.toList.drop 164 = dktX5_tellEel_7 := dk_seg dksX5_tellEel_6 23 rfl rfl
theorem dX5_tellEel_0 : decode cX5_tellEel 0 = .ok (.aload_n 0, 1) := dk_42 (dk_at dksX5_tellEel_0 0 rfl rfl)
theorem dX5_tellEel_1 : decode cX5_tellEel 1 = .ok (.iload_n 1, 1) := dk_27 (dk_at dksX5_tellEel_0 1 rfl rfl)
theorem dX5_tellEel_2 : decode cX5_tellEel 2 = .ok (.invokevirtual 355, 3) := dk_182 1 99 (dk_at dksX5_tellEel_0 2 rfl rfl)
theorem dX5_tellEel_5 : decode cX5_tellEel 5 = .ok (.aload_n 0, 1) := dk_42 (dk_at dksX5_tellEel_0 5 rfl rfl)
theorem dX5_tellEel_6 : decode cX5_tellEel 6 = .ok (.getfield 73, 3) := dk_180 0 73 (dk_at dksX5_tellEel_0 6 rfl rfl)
theorem dX5_tellEel_9 : decode cX5_tellEel 9 = .ok (.iload_n 1, 1) := dk_27 (dk_at dksX5_tellEel_0 9 rfl rfl)
theorem dX5_tellEel_10 : decode cX5_tellEel 10 = .ok (.iaload, 1) := dk_46 (dk_at dksX5_tellEel_0 10 rfl rfl)
theorem dX5_tellEel_11 : decode cX5_tellEel 11 = .ok (.istore_n 2, 1) := dk_61 (dk_at dksX5_tellEel_0 11 rfl rfl)
theorem dX5_tellEel_12 : decode cX5_tellEel 12 = .ok (.iconst (-1), 1) := dk_2 (dk_at dksX5_tellEel_0 12 rfl rfl)
theorem dX5_tellEel_13 : decode cX5_tellEel 13 = .ok (.istore_n 3, 1) := dk_62 (dk_at dksX5_tellEel_0 13 rfl rfl)
theorem dX5_tellEel_14 : decode cX5_tellEel 14 = .ok (.iconst 0, 1) := dk_3 (dk_at dksX5_tellEel_0 14 rfl rfl)
theorem dX5_tellEel_15 : decode cX5_tellEel 15 = .ok (.istore 4, 2) := dk_54 4 (dk_at dksX5_tellEel_0 15 rfl rfl)
theorem dX5_tellEel_17 : decode cX5_tellEel 17 = .ok (.iload 4, 2) := dk_21 4 (dk_at dksX5_tellEel_0 17 rfl rfl)
theorem dX5_tellEel_19 : decode cX5_tellEel 19 = .ok (.bipush 24, 2) := dk_16 24 (dk_at dksX5_tellEel_0 19 rfl rfl)
theorem dX5_tellEel_21 : decode cX5_tellEel 21 = .ok (.if_icmp .ge 162, 3) := dk_162 0 162 (dk_at dksX5_tellEel_0 21 rfl rfl)
theorem dX5_tellEel_24 : decode cX5_tellEel 24 = .ok (.aload_n 0, 1) := dk_42 (dk_at dksX5_tellEel_1 0 rfl rfl)
theorem dX5_tellEel_25 : decode cX5_tellEel 25 = .ok (.getfield 134, 3) := dk_180 0 134 (dk_at dksX5_tellEel_1 1 rfl rfl)
theorem dX5_tellEel_28 : decode cX5_tellEel 28 = .ok (.iload 4, 2) := dk_21 4 (dk_at dksX5_tellEel_1 4 rfl rfl)
theorem dX5_tellEel_30 : decode cX5_tellEel 30 = .ok (.iaload, 1) := dk_46 (dk_at dksX5_tellEel_1 6 rfl rfl)
theorem dX5_tellEel_31 : decode cX5_tellEel 31 = .ok (.istore 5, 2) := dk_54 5 (dk_at dksX5_tellEel_1 7 rfl rfl)
theorem dX5_tellEel_33 : decode cX5_tellEel 33 = .ok (.iload 5, 2) := dk_21 5 (dk_at dksX5_tellEel_1 9 rfl rfl)
theorem dX5_tellEel_35 : decode cX5_tellEel 35 = .ok (.iconst (-1), 1) := dk_2 (dk_at dksX5_tellEel_1 11 rfl rfl)
theorem dX5_tellEel_36 : decode cX5_tellEel 36 = .ok (.if_icmp .eq 54, 3) := dk_159 0 54 (dk_at dksX5_tellEel_1 12 rfl rfl)
theorem dX5_tellEel_39 : decode cX5_tellEel 39 = .ok (.aload_n 0, 1) := dk_42 (dk_at dksX5_tellEel_1 15 rfl rfl)
theorem dX5_tellEel_40 : decode cX5_tellEel 40 = .ok (.getfield 119, 3) := dk_180 0 119 (dk_at dksX5_tellEel_1 16 rfl rfl)
theorem dX5_tellEel_43 : decode cX5_tellEel 43 = .ok (.iload 5, 2) := dk_21 5 (dk_at dksX5_tellEel_1 19 rfl rfl)
theorem dX5_tellEel_45 : decode cX5_tellEel 45 = .ok (.iaload, 1) := dk_46 (dk_at dksX5_tellEel_1 21 rfl rfl)
theorem dX5_tellEel_46 : decode cX5_tellEel 46 = .ok (.ifCond .ne 7, 3) := dk_154 0 7 (dk_at dksX5_tellEel_2 0 rfl rfl)
theorem dX5_tellEel_49 : decode cX5_tellEel 49 = .ok (.iconst 0, 1) := dk_3 (dk_at dksX5_tellEel_2 3 rfl rfl)
theorem dX5_tellEel_50 : decode cX5_tellEel 50 = .ok (.goto 10, 3) := dk_167 0 10 (dk_at dksX5_tellEel_2 4 rfl rfl)
theorem dX5_tellEel_53 : decode cX5_tellEel 53 = .ok (.iconst 0, 1) := dk_3 (dk_at dksX5_tellEel_2 7 rfl rfl)
theorem dX5_tellEel_54 : decode cX5_tellEel 54 = .ok (.iload_n 2, 1) := dk_28 (dk_at dksX5_tellEel_2 8 rfl rfl)
theorem dX5_tellEel_55 : decode cX5_tellEel 55 = .ok (.iconst 5, 1) := dk_8 (dk_at dksX5_tellEel_2 9 rfl rfl)
theorem dX5_tellEel_56 : decode cX5_tellEel 56 = .ok (.isub, 1) := dk_100 (dk_at dksX5_tellEel_2 10 rfl rfl)
theorem dX5_tellEel_57 : decode cX5_tellEel 57 = .ok (.invokestatic 352, 3) := dk_184 1 96 (dk_at dksX5_tellEel_2 11 rfl rfl)
theorem dX5_tellEel_60 : decode cX5_tellEel 60 = .ok (.istore 6, 2) := dk_54 6 (dk_at dksX5_tellEel_2 14 rfl rfl)
theorem dX5_tellEel_62 : decode cX5_tellEel 62 = .ok (.iload 6, 2) := dk_21 6 (dk_at dksX5_tellEel_2 16 rfl rfl)
theorem dX5_tellEel_64 : decode cX5_tellEel 64 = .ok (.iload_n 2, 1) := dk_28 (dk_at dksX5_tellEel_2 18 rfl rfl)
theorem dX5_tellEel_65 : decode cX5_tellEel 65 = .ok (.if_icmp .ge 8, 3) := dk_162 0 8 (dk_at dksX5_tellEel_2 19 rfl rfl)
theorem dX5_tellEel_68 : decode cX5_tellEel 68 = .ok (.iload 5, 2) := dk_21 5 (dk_at dksX5_tellEel_2 22 rfl rfl)
theorem dX5_tellEel_70 : decode cX5_tellEel 70 = .ok (.goto 4, 3) := dk_167 0 4 (dk_at dksX5_tellEel_3 0 rfl rfl)
theorem dX5_tellEel_73 : decode cX5_tellEel 73 = .ok (.iload_n 3, 1) := dk_29 (dk_at dksX5_tellEel_3 3 rfl rfl)
theorem dX5_tellEel_74 : decode cX5_tellEel 74 = .ok (.istore_n 3, 1) := dk_62 (dk_at dksX5_tellEel_3 4 rfl rfl)
theorem dX5_tellEel_75 : decode cX5_tellEel 75 = .ok (.iload 6, 2) := dk_21 6 (dk_at dksX5_tellEel_3 5 rfl rfl)
theorem dX5_tellEel_77 : decode cX5_tellEel 77 = .ok (.istore_n 2, 1) := dk_61 (dk_at dksX5_tellEel_3 7 rfl rfl)
theorem dX5_tellEel_78 : decode cX5_tellEel 78 = .ok (.aload_n 0, 1) := dk_42 (dk_at dksX5_tellEel_3 8 rfl rfl)
theorem dX5_tellEel_79 : decode cX5_tellEel 79 = .ok (.getfield 137, 3) := dk_180 0 137 (dk_at dksX5_tellEel_3 9 rfl rfl)
theorem dX5_tellEel_82 : decode cX5_tellEel 82 = .ok (.iload 5, 2) := dk_21 5 (dk_at dksX5_tellEel_3 12 rfl rfl)
theorem dX5_tellEel_84 : decode cX5_tellEel 84 = .ok (.iaload, 1) := dk_46 (dk_at dksX5_tellEel_3 14 rfl rfl)
theorem dX5_tellEel_85 : decode cX5_tellEel 85 = .ok (.istore 5, 2) := dk_54 5 (dk_at dksX5_tellEel_3 15 rfl rfl)
theorem dX5_tellEel_87 : decode cX5_tellEel 87 = .ok (.goto (-54), 3) := dk_167 255 202 (dk_at dksX5_tellEel_3 17 rfl rfl)
theorem dX5_tellEel_90 : decode cX5_tellEel 90 = .ok (.aload_n 0, 1) := dk_42 (dk_at dksX5_tellEel_3 20 rfl rfl)
theorem dX5_tellEel_91 : decode cX5_tellEel 91 = .ok (.getfield 122, 3) := dk_180 0 122 (dk_at dksX5_tellEel_3 21 rfl rfl)
theorem dX5_tellEel_94 : decode cX5_tellEel 94 = .ok (.bipush 24, 2) := dk_16 24 (dk_at dksX5_tellEel_4 0 rfl rfl)
theorem dX5_tellEel_96 : decode cX5_tellEel 96 = .ok (.iload_n 1, 1) := dk_27 (dk_at dksX5_tellEel_4 2 rfl rfl)
theorem dX5_tellEel_97 : decode cX5_tellEel 97 = .ok (.imul, 1) := dk_104 (dk_at dksX5_tellEel_4 3 rfl rfl)
theorem dX5_tellEel_98 : decode cX5_tellEel 98 = .ok (.iload 4, 2) := dk_21 4 (dk_at dksX5_tellEel_4 4 rfl rfl)
theorem dX5_tellEel_100 : decode cX5_tellEel 100 = .ok (.iadd, 1) := dk_96 (dk_at dksX5_tellEel_4 6 rfl rfl)
theorem dX5_tellEel_101 : decode cX5_tellEel 101 = .ok (.iload_n 2, 1) := dk_28 (dk_at dksX5_tellEel_4 7 rfl rfl)
theorem dX5_tellEel_102 : decode cX5_tellEel 102 = .ok (.iastore, 1) := dk_79 (dk_at dksX5_tellEel_4 8 rfl rfl)
theorem dX5_tellEel_103 : decode cX5_tellEel 103 = .ok (.aload_n 0, 1) := dk_42 (dk_at dksX5_tellEel_4 9 rfl rfl)
theorem dX5_tellEel_104 : decode cX5_tellEel 104 = .ok (.getfield 125, 3) := dk_180 0 125 (dk_at dksX5_tellEel_4 10 rfl rfl)
theorem dX5_tellEel_107 : decode cX5_tellEel 107 = .ok (.bipush 24, 2) := dk_16 24 (dk_at dksX5_tellEel_4 13 rfl rfl)
theorem dX5_tellEel_109 : decode cX5_tellEel 109 = .ok (.iload_n 1, 1) := dk_27 (dk_at dksX5_tellEel_4 15 rfl rfl)
theorem dX5_tellEel_110 : decode cX5_tellEel 110 = .ok (.imul, 1) := dk_104 (dk_at dksX5_tellEel_4 16 rfl rfl)
theorem dX5_tellEel_111 : decode cX5_tellEel 111 = .ok (.iload 4, 2) := dk_21 4 (dk_at dksX5_tellEel_4 17 rfl rfl)
theorem dX5_tellEel_113 : decode cX5_tellEel 113 = .ok (.iadd, 1) := dk_96 (dk_at dksX5_tellEel_4 19 rfl rfl)
theorem dX5_tellEel_114 : decode cX5_tellEel 114 = .ok (.aload_n 0, 1) := dk_42 (dk_at dksX5_tellEel_4 20 rfl rfl)
theorem dX5_tellEel_115 : decode cX5_tellEel 115 = .ok (.iload_n 1, 1) := dk_27 (dk_at dksX5_tellEel_4 21 rfl rfl)
theorem dX5_tellEel_116 : decode cX5_tellEel 116 = .ok (.iload 4, 2) := dk_21 4 (dk_at dksX5_tellEel_4 22 rfl rfl)
theorem dX5_tellEel_118 : decode cX5_tellEel 118 = .ok (.invokevirtual 358, 3) := dk_182 1 102 (dk_at dksX5_tellEel_5 0 rfl rfl)
theorem dX5_tellEel_121 : decode cX5_tellEel 121 = .ok (.iastore, 1) := dk_79 (dk_at dksX5_tellEel_5 3 rfl rfl)
theorem dX5_tellEel_122 : decode cX5_tellEel 122 = .ok (.aload_n 0, 1) := dk_42 (dk_at dksX5_tellEel_5 4 rfl rfl)
theorem dX5_tellEel_123 : decode cX5_tellEel 123 = .ok (.getfield 128, 3) := dk_180 0 128 (dk_at dksX5_tellEel_5 5 rfl rfl)
theorem dX5_tellEel_126 : decode cX5_tellEel 126 = .ok (.bipush 24, 2) := dk_16 24 (dk_at dksX5_tellEel_5 8 rfl rfl)
theorem dX5_tellEel_128 : decode cX5_tellEel 128 = .ok (.iload_n 1, 1) := dk_27 (dk_at dksX5_tellEel_5 10 rfl rfl)
theorem dX5_tellEel_129 : decode cX5_tellEel 129 = .ok (.imul, 1) := dk_104 (dk_at dksX5_tellEel_5 11 rfl rfl)
theorem dX5_tellEel_130 : decode cX5_tellEel 130 = .ok (.iload 4, 2) := dk_21 4 (dk_at dksX5_tellEel_5 12 rfl rfl)
theorem dX5_tellEel_132 : decode cX5_tellEel 132 = .ok (.iadd, 1) := dk_96 (dk_at dksX5_tellEel_5 14 rfl rfl)
theorem dX5_tellEel_133 : decode cX5_tellEel 133 = .ok (.aload_n 0, 1) := dk_42 (dk_at dksX5_tellEel_5 15 rfl rfl)
theorem dX5_tellEel_134 : decode cX5_tellEel 134 = .ok (.getfield 125, 3) := dk_180 0 125 (dk_at dksX5_tellEel_5 16 rfl rfl)
theorem dX5_tellEel_137 : decode cX5_tellEel 137 = .ok (.bipush 24, 2) := dk_16 24 (dk_at dksX5_tellEel_5 19 rfl rfl)
theorem dX5_tellEel_139 : decode cX5_tellEel 139 = .ok (.iload_n 1, 1) := dk_27 (dk_at dksX5_tellEel_5 21 rfl rfl)
theorem dX5_tellEel_140 : decode cX5_tellEel 140 = .ok (.imul, 1) := dk_104 (dk_at dksX5_tellEel_5 22 rfl rfl)
theorem dX5_tellEel_141 : decode cX5_tellEel 141 = .ok (.iload 4, 2) := dk_21 4 (dk_at dksX5_tellEel_6 0 rfl rfl)
theorem dX5_tellEel_143 : decode cX5_tellEel 143 = .ok (.iadd, 1) := dk_96 (dk_at dksX5_tellEel_6 2 rfl rfl)
theorem dX5_tellEel_144 : decode cX5_tellEel 144 = .ok (.iaload, 1) := dk_46 (dk_at dksX5_tellEel_6 3 rfl rfl)
theorem dX5_tellEel_145 : decode cX5_tellEel 145 = .ok (.ifCond .ne 7, 3) := dk_154 0 7 (dk_at dksX5_tellEel_6 4 rfl rfl)
theorem dX5_tellEel_148 : decode cX5_tellEel 148 = .ok (.iconst (-1), 1) := dk_2 (dk_at dksX5_tellEel_6 7 rfl rfl)
theorem dX5_tellEel_149 : decode cX5_tellEel 149 = .ok (.goto 4, 3) := dk_167 0 4 (dk_at dksX5_tellEel_6 8 rfl rfl)
theorem dX5_tellEel_152 : decode cX5_tellEel 152 = .ok (.iload_n 3, 1) := dk_29 (dk_at dksX5_tellEel_6 11 rfl rfl)
theorem dX5_tellEel_153 : decode cX5_tellEel 153 = .ok (.iastore, 1) := dk_79 (dk_at dksX5_tellEel_6 12 rfl rfl)
theorem dX5_tellEel_154 : decode cX5_tellEel 154 = .ok (.bipush 30, 2) := dk_16 30 (dk_at dksX5_tellEel_6 13 rfl rfl)
theorem dX5_tellEel_156 : decode cX5_tellEel 156 = .ok (.iload_n 2, 1) := dk_28 (dk_at dksX5_tellEel_6 15 rfl rfl)
theorem dX5_tellEel_157 : decode cX5_tellEel 157 = .ok (.aload_n 0, 1) := dk_42 (dk_at dksX5_tellEel_6 16 rfl rfl)
theorem dX5_tellEel_158 : decode cX5_tellEel 158 = .ok (.getfield 61, 3) := dk_180 0 61 (dk_at dksX5_tellEel_6 17 rfl rfl)
theorem dX5_tellEel_161 : decode cX5_tellEel 161 = .ok (.iload_n 1, 1) := dk_27 (dk_at dksX5_tellEel_6 20 rfl rfl)
theorem dX5_tellEel_162 : decode cX5_tellEel 162 = .ok (.iaload, 1) := dk_46 (dk_at dksX5_tellEel_6 21 rfl rfl)
theorem dX5_tellEel_163 : decode cX5_tellEel 163 = .ok (.iconst 1, 1) := dk_4 (dk_at dksX5_tellEel_6 22 rfl rfl)
theorem dX5_tellEel_164 : decode cX5_tellEel 164 = .ok (.if_icmp .ne 7, 3) := dk_160 0 7 (dk_at dksX5_tellEel_7 0 rfl rfl)
theorem dX5_tellEel_167 : decode cX5_tellEel 167 = .ok (.iconst 2, 1) := dk_5 (dk_at dksX5_tellEel_7 3 rfl rfl)
theorem dX5_tellEel_168 : decode cX5_tellEel 168 = .ok (.goto 4, 3) := dk_167 0 4 (dk_at dksX5_tellEel_7 4 rfl rfl)
theorem dX5_tellEel_171 : decode cX5_tellEel 171 = .ok (.iconst 1, 1) := dk_4 (dk_at dksX5_tellEel_7 7 rfl rfl)
theorem dX5_tellEel_172 : decode cX5_tellEel 172 = .ok (.iadd, 1) := dk_96 (dk_at dksX5_tellEel_7 8 rfl rfl)
theorem dX5_tellEel_173 : decode cX5_tellEel 173 = .ok (.invokestatic 230, 3) := dk_184 0 230 (dk_at dksX5_tellEel_7 9 rfl rfl)
theorem dX5_tellEel_176 : decode cX5_tellEel 176 = .ok (.istore_n 2, 1) := dk_61 (dk_at dksX5_tellEel_7 12 rfl rfl)
theorem dX5_tellEel_177 : decode cX5_tellEel 177 = .ok (.iinc 4 1, 3) := dk_132 4 1 (dk_at dksX5_tellEel_7 13 rfl rfl)
theorem dX5_tellEel_180 : decode cX5_tellEel 180 = .ok (.goto (-163), 3) := dk_167 255 93 (dk_at dksX5_tellEel_7 16 rfl rfl)
theorem dX5_tellEel_183 : decode cX5_tellEel 183 = .ok (.return_, 1) := dk_177 (dk_at dksX5_tellEel_7 19 rfl rfl)
abbrev cX5_tellMeals : ByteArray := prog_23_method_38_code
def yX5_tellMeals : MethodName := ⟨RX5, "tellMeals", "(I)V"⟩
def dkwX5_tellMeals_3 : List UInt8 := [28, 46, 28, 79, 132, 2, 255, 167, 255, 207, 177]
abbrev dktX5_tellMeals_3 : List UInt8 := dkwX5_tellMeals_3 ++ []
def dkwX5_tellMeals_2 : List UInt8 := [180, 0, 137, 28, 42, 180, 0, 134, 42, 180, 0, 116, 28, 46, 46, 79, 42, 180, 0, 134, 42, 180, 0, 116]
abbrev dktX5_tellMeals_2 : List UInt8 := dkwX5_tellMeals_2 ++ dktX5_tellMeals_3
def dkwX5_tellMeals_1 : List UInt8 := [180, 1, 81, 4, 100, 61, 28, 155, 0, 51, 42, 180, 0, 113, 28, 46, 27, 159, 0, 6, 167, 0, 32, 42]
abbrev dktX5_tellMeals_1 : List UInt8 := dkwX5_tellMeals_1 ++ dktX5_tellMeals_2
def dkwX5_tellMeals_0 : List UInt8 := [3, 61, 28, 16, 24, 162, 0, 16, 42, 180, 0, 134, 28, 2, 79, 132, 2, 1, 167, 255, 240, 42]
abbrev dktX5_tellMeals_0 : List UInt8 := dkwX5_tellMeals_0 ++ dktX5_tellMeals_1
theorem dksX5_tellMeals_0 : cX5_tellMeals.data.toList.drop 0 = dktX5_tellMeals_0 := by decide +kernel
theorem dksX5_tellMeals_1 : cX5_tellMeals.data.toList.drop 22 = dktX5_tellMeals_1 := dk_seg dksX5_tellMeals_0 22 rfl rfl
theorem dksX5_tellMeals_2 : cX5_tellMeals.data.toList.drop 46 = dktX5_tellMeals_2 := dk_seg dksX5_tellMeals_1 24 rfl rfl
theorem dksX5_tellMeals_3 : cX5_tellMeals.data.toList.drop 70 = dktX5_tellMeals_3 := dk_seg dksX5_tellMeals_2 24 rfl rfl
theorem dX5_tellMeals_0 : decode cX5_tellMeals 0 = .ok (.iconst 0, 1) := dk_3 (dk_at dksX5_tellMeals_0 0 rfl rfl)
theorem dX5_tellMeals_1 : decode cX5_tellMeals 1 = .ok (.istore_n 2, 1) := dk_61 (dk_at dksX5_tellMeals_0 1 rfl rfl)
theorem dX5_tellMeals_2 : decode cX5_tellMeals 2 = .ok (.iload_n 2, 1) := dk_28 (dk_at dksX5_tellMeals_0 2 rfl rfl)
theorem dX5_tellMeals_3 : decode cX5_tellMeals 3 = .ok (.bipush 24, 2) := dk_16 24 (dk_at dksX5_tellMeals_0 3 rfl rfl)
theorem dX5_tellMeals_5 : decode cX5_tellMeals 5 = .ok (.if_icmp .ge 16, 3) := dk_162 0 16 (dk_at dksX5_tellMeals_0 5 rfl rfl)
theorem dX5_tellMeals_8 : decode cX5_tellMeals 8 = .ok (.aload_n 0, 1) := dk_42 (dk_at dksX5_tellMeals_0 8 rfl rfl)
theorem dX5_tellMeals_9 : decode cX5_tellMeals 9 = .ok (.getfield 134, 3) := dk_180 0 134 (dk_at dksX5_tellMeals_0 9 rfl rfl)
theorem dX5_tellMeals_12 : decode cX5_tellMeals 12 = .ok (.iload_n 2, 1) := dk_28 (dk_at dksX5_tellMeals_0 12 rfl rfl)
theorem dX5_tellMeals_13 : decode cX5_tellMeals 13 = .ok (.iconst (-1), 1) := dk_2 (dk_at dksX5_tellMeals_0 13 rfl rfl)
theorem dX5_tellMeals_14 : decode cX5_tellMeals 14 = .ok (.iastore, 1) := dk_79 (dk_at dksX5_tellMeals_0 14 rfl rfl)
theorem dX5_tellMeals_15 : decode cX5_tellMeals 15 = .ok (.iinc 2 1, 3) := dk_132 2 1 (dk_at dksX5_tellMeals_0 15 rfl rfl)
theorem dX5_tellMeals_18 : decode cX5_tellMeals 18 = .ok (.goto (-16), 3) := dk_167 255 240 (dk_at dksX5_tellMeals_0 18 rfl rfl)
theorem dX5_tellMeals_21 : decode cX5_tellMeals 21 = .ok (.aload_n 0, 1) := dk_42 (dk_at dksX5_tellMeals_0 21 rfl rfl)
theorem dX5_tellMeals_22 : decode cX5_tellMeals 22 = .ok (.getfield 337, 3) := dk_180 1 81 (dk_at dksX5_tellMeals_1 0 rfl rfl)
theorem dX5_tellMeals_25 : decode cX5_tellMeals 25 = .ok (.iconst 1, 1) := dk_4 (dk_at dksX5_tellMeals_1 3 rfl rfl)
theorem dX5_tellMeals_26 : decode cX5_tellMeals 26 = .ok (.isub, 1) := dk_100 (dk_at dksX5_tellMeals_1 4 rfl rfl)
theorem dX5_tellMeals_27 : decode cX5_tellMeals 27 = .ok (.istore_n 2, 1) := dk_61 (dk_at dksX5_tellMeals_1 5 rfl rfl)
theorem dX5_tellMeals_28 : decode cX5_tellMeals 28 = .ok (.iload_n 2, 1) := dk_28 (dk_at dksX5_tellMeals_1 6 rfl rfl)
theorem dX5_tellMeals_29 : decode cX5_tellMeals 29 = .ok (.ifCond .lt 51, 3) := dk_155 0 51 (dk_at dksX5_tellMeals_1 7 rfl rfl)
theorem dX5_tellMeals_32 : decode cX5_tellMeals 32 = .ok (.aload_n 0, 1) := dk_42 (dk_at dksX5_tellMeals_1 10 rfl rfl)
theorem dX5_tellMeals_33 : decode cX5_tellMeals 33 = .ok (.getfield 113, 3) := dk_180 0 113 (dk_at dksX5_tellMeals_1 11 rfl rfl)
theorem dX5_tellMeals_36 : decode cX5_tellMeals 36 = .ok (.iload_n 2, 1) := dk_28 (dk_at dksX5_tellMeals_1 14 rfl rfl)
theorem dX5_tellMeals_37 : decode cX5_tellMeals 37 = .ok (.iaload, 1) := dk_46 (dk_at dksX5_tellMeals_1 15 rfl rfl)
theorem dX5_tellMeals_38 : decode cX5_tellMeals 38 = .ok (.iload_n 1, 1) := dk_27 (dk_at dksX5_tellMeals_1 16 rfl rfl)
theorem dX5_tellMeals_39 : decode cX5_tellMeals 39 = .ok (.if_icmp .eq 6, 3) := dk_159 0 6 (dk_at dksX5_tellMeals_1 17 rfl rfl)
theorem dX5_tellMeals_42 : decode cX5_tellMeals 42 = .ok (.goto 32, 3) := dk_167 0 32 (dk_at dksX5_tellMeals_1 20 rfl rfl)
theorem dX5_tellMeals_45 : decode cX5_tellMeals 45 = .ok (.aload_n 0, 1) := dk_42 (dk_at dksX5_tellMeals_1 23 rfl rfl)
theorem dX5_tellMeals_46 : decode cX5_tellMeals 46 = .ok (.getfield 137, 3) := dk_180 0 137 (dk_at dksX5_tellMeals_2 0 rfl rfl)
theorem dX5_tellMeals_49 : decode cX5_tellMeals 49 = .ok (.iload_n 2, 1) := dk_28 (dk_at dksX5_tellMeals_2 3 rfl rfl)
theorem dX5_tellMeals_50 : decode cX5_tellMeals 50 = .ok (.aload_n 0, 1) := dk_42 (dk_at dksX5_tellMeals_2 4 rfl rfl)
theorem dX5_tellMeals_51 : decode cX5_tellMeals 51 = .ok (.getfield 134, 3) := dk_180 0 134 (dk_at dksX5_tellMeals_2 5 rfl rfl)
theorem dX5_tellMeals_54 : decode cX5_tellMeals 54 = .ok (.aload_n 0, 1) := dk_42 (dk_at dksX5_tellMeals_2 8 rfl rfl)
theorem dX5_tellMeals_55 : decode cX5_tellMeals 55 = .ok (.getfield 116, 3) := dk_180 0 116 (dk_at dksX5_tellMeals_2 9 rfl rfl)
theorem dX5_tellMeals_58 : decode cX5_tellMeals 58 = .ok (.iload_n 2, 1) := dk_28 (dk_at dksX5_tellMeals_2 12 rfl rfl)
theorem dX5_tellMeals_59 : decode cX5_tellMeals 59 = .ok (.iaload, 1) := dk_46 (dk_at dksX5_tellMeals_2 13 rfl rfl)
theorem dX5_tellMeals_60 : decode cX5_tellMeals 60 = .ok (.iaload, 1) := dk_46 (dk_at dksX5_tellMeals_2 14 rfl rfl)
theorem dX5_tellMeals_61 : decode cX5_tellMeals 61 = .ok (.iastore, 1) := dk_79 (dk_at dksX5_tellMeals_2 15 rfl rfl)
theorem dX5_tellMeals_62 : decode cX5_tellMeals 62 = .ok (.aload_n 0, 1) := dk_42 (dk_at dksX5_tellMeals_2 16 rfl rfl)
theorem dX5_tellMeals_63 : decode cX5_tellMeals 63 = .ok (.getfield 134, 3) := dk_180 0 134 (dk_at dksX5_tellMeals_2 17 rfl rfl)
theorem dX5_tellMeals_66 : decode cX5_tellMeals 66 = .ok (.aload_n 0, 1) := dk_42 (dk_at dksX5_tellMeals_2 20 rfl rfl)
theorem dX5_tellMeals_67 : decode cX5_tellMeals 67 = .ok (.getfield 116, 3) := dk_180 0 116 (dk_at dksX5_tellMeals_2 21 rfl rfl)
theorem dX5_tellMeals_70 : decode cX5_tellMeals 70 = .ok (.iload_n 2, 1) := dk_28 (dk_at dksX5_tellMeals_3 0 rfl rfl)
theorem dX5_tellMeals_71 : decode cX5_tellMeals 71 = .ok (.iaload, 1) := dk_46 (dk_at dksX5_tellMeals_3 1 rfl rfl)
theorem dX5_tellMeals_72 : decode cX5_tellMeals 72 = .ok (.iload_n 2, 1) := dk_28 (dk_at dksX5_tellMeals_3 2 rfl rfl)
theorem dX5_tellMeals_73 : decode cX5_tellMeals 73 = .ok (.iastore, 1) := dk_79 (dk_at dksX5_tellMeals_3 3 rfl rfl)
theorem dX5_tellMeals_74 : decode cX5_tellMeals 74 = .ok (.iinc 2 (-1), 3) := dk_132 2 255 (dk_at dksX5_tellMeals_3 4 rfl rfl)
theorem dX5_tellMeals_77 : decode cX5_tellMeals 77 = .ok (.goto (-49), 3) := dk_167 255 207 (dk_at dksX5_tellMeals_3 7 rfl rfl)
theorem dX5_tellMeals_80 : decode cX5_tellMeals 80 = .ok (.return_, 1) := dk_177 (dk_at dksX5_tellMeals_3 10 rfl rfl)
abbrev cX5_glowOf : ByteArray := prog_23_method_37_code
def yX5_glowOf : MethodName := ⟨RX5, "glowOf", "(II)I"⟩
def dkwX5_glowOf_3 : List UInt8 := [100, 184, 1, 96, 172]
abbrev dktX5_glowOf_3 : List UInt8 := dkwX5_glowOf_3 ++ []
def dkwX5_glowOf_2 : List UInt8 := [27, 46, 42, 180, 0, 61, 27, 46, 5, 160, 0, 9, 29, 5, 108, 167, 0, 4, 29, 100, 42, 180, 1, 84]
abbrev dktX5_glowOf_2 : List UInt8 := dkwX5_glowOf_2 ++ dktX5_glowOf_3
def dkwX5_glowOf_1 : List UInt8 := [46, 8, 161, 0, 5, 3, 172, 42, 180, 0, 122, 16, 24, 27, 104, 28, 96, 46, 62, 3, 42, 180, 0, 70]
abbrev dktX5_glowOf_1 : List UInt8 := dkwX5_glowOf_1 ++ dktX5_glowOf_2
def dkwX5_glowOf_0 : List UInt8 := [42, 27, 28, 182, 1, 93, 154, 0, 23, 42, 180, 0, 61, 27, 46, 6, 160, 0, 15, 42, 180, 0, 88, 28]
abbrev dktX5_glowOf_0 : List UInt8 := dkwX5_glowOf_0 ++ dktX5_glowOf_1
theorem dksX5_glowOf_0 : cX5_glowOf.data.toList.drop 0 = dktX5_glowOf_0 := by decide +kernel
theorem dksX5_glowOf_1 : cX5_glowOf.data.toList.drop 24 = dktX5_glowOf_1 := dk_seg dksX5_glowOf_0 24 rfl rfl
theorem dksX5_glowOf_2 : cX5_glowOf.data.toList.drop 48 = dktX5_glowOf_2 := dk_seg dksX5_glowOf_1 24 rfl rfl
theorem dksX5_glowOf_3 : cX5_glowOf.data.toList.drop 72 = dktX5_glowOf_3 := dk_seg dksX5_glowOf_2 24 rfl rfl
theorem dX5_glowOf_0 : decode cX5_glowOf 0 = .ok (.aload_n 0, 1) := dk_42 (dk_at dksX5_glowOf_0 0 rfl rfl)
theorem dX5_glowOf_1 : decode cX5_glowOf 1 = .ok (.iload_n 1, 1) := dk_27 (dk_at dksX5_glowOf_0 1 rfl rfl)
theorem dX5_glowOf_2 : decode cX5_glowOf 2 = .ok (.iload_n 2, 1) := dk_28 (dk_at dksX5_glowOf_0 2 rfl rfl)
theorem dX5_glowOf_3 : decode cX5_glowOf 3 = .ok (.invokevirtual 349, 3) := dk_182 1 93 (dk_at dksX5_glowOf_0 3 rfl rfl)
theorem dX5_glowOf_6 : decode cX5_glowOf 6 = .ok (.ifCond .ne 23, 3) := dk_154 0 23 (dk_at dksX5_glowOf_0 6 rfl rfl)
theorem dX5_glowOf_9 : decode cX5_glowOf 9 = .ok (.aload_n 0, 1) := dk_42 (dk_at dksX5_glowOf_0 9 rfl rfl)
theorem dX5_glowOf_10 : decode cX5_glowOf 10 = .ok (.getfield 61, 3) := dk_180 0 61 (dk_at dksX5_glowOf_0 10 rfl rfl)
theorem dX5_glowOf_13 : decode cX5_glowOf 13 = .ok (.iload_n 1, 1) := dk_27 (dk_at dksX5_glowOf_0 13 rfl rfl)
theorem dX5_glowOf_14 : decode cX5_glowOf 14 = .ok (.iaload, 1) := dk_46 (dk_at dksX5_glowOf_0 14 rfl rfl)
theorem dX5_glowOf_15 : decode cX5_glowOf 15 = .ok (.iconst 3, 1) := dk_6 (dk_at dksX5_glowOf_0 15 rfl rfl)
theorem dX5_glowOf_16 : decode cX5_glowOf 16 = .ok (.if_icmp .ne 15, 3) := dk_160 0 15 (dk_at dksX5_glowOf_0 16 rfl rfl)
theorem dX5_glowOf_19 : decode cX5_glowOf 19 = .ok (.aload_n 0, 1) := dk_42 (dk_at dksX5_glowOf_0 19 rfl rfl)
theorem dX5_glowOf_20 : decode cX5_glowOf 20 = .ok (.getfield 88, 3) := dk_180 0 88 (dk_at dksX5_glowOf_0 20 rfl rfl)
theorem dX5_glowOf_23 : decode cX5_glowOf 23 = .ok (.iload_n 2, 1) := dk_28 (dk_at dksX5_glowOf_0 23 rfl rfl)
theorem dX5_glowOf_24 : decode cX5_glowOf 24 = .ok (.iaload, 1) := dk_46 (dk_at dksX5_glowOf_1 0 rfl rfl)
theorem dX5_glowOf_25 : decode cX5_glowOf 25 = .ok (.iconst 5, 1) := dk_8 (dk_at dksX5_glowOf_1 1 rfl rfl)
theorem dX5_glowOf_26 : decode cX5_glowOf 26 = .ok (.if_icmp .lt 5, 3) := dk_161 0 5 (dk_at dksX5_glowOf_1 2 rfl rfl)
theorem dX5_glowOf_29 : decode cX5_glowOf 29 = .ok (.iconst 0, 1) := dk_3 (dk_at dksX5_glowOf_1 5 rfl rfl)
theorem dX5_glowOf_30 : decode cX5_glowOf 30 = .ok (.ireturn, 1) := dk_172 (dk_at dksX5_glowOf_1 6 rfl rfl)
theorem dX5_glowOf_31 : decode cX5_glowOf 31 = .ok (.aload_n 0, 1) := dk_42 (dk_at dksX5_glowOf_1 7 rfl rfl)
theorem dX5_glowOf_32 : decode cX5_glowOf 32 = .ok (.getfield 122, 3) := dk_180 0 122 (dk_at dksX5_glowOf_1 8 rfl rfl)
theorem dX5_glowOf_35 : decode cX5_glowOf 35 = .ok (.bipush 24, 2) := dk_16 24 (dk_at dksX5_glowOf_1 11 rfl rfl)
theorem dX5_glowOf_37 : decode cX5_glowOf 37 = .ok (.iload_n 1, 1) := dk_27 (dk_at dksX5_glowOf_1 13 rfl rfl)
theorem dX5_glowOf_38 : decode cX5_glowOf 38 = .ok (.imul, 1) := dk_104 (dk_at dksX5_glowOf_1 14 rfl rfl)
theorem dX5_glowOf_39 : decode cX5_glowOf 39 = .ok (.iload_n 2, 1) := dk_28 (dk_at dksX5_glowOf_1 15 rfl rfl)
theorem dX5_glowOf_40 : decode cX5_glowOf 40 = .ok (.iadd, 1) := dk_96 (dk_at dksX5_glowOf_1 16 rfl rfl)
theorem dX5_glowOf_41 : decode cX5_glowOf 41 = .ok (.iaload, 1) := dk_46 (dk_at dksX5_glowOf_1 17 rfl rfl)
theorem dX5_glowOf_42 : decode cX5_glowOf 42 = .ok (.istore_n 3, 1) := dk_62 (dk_at dksX5_glowOf_1 18 rfl rfl)
theorem dX5_glowOf_43 : decode cX5_glowOf 43 = .ok (.iconst 0, 1) := dk_3 (dk_at dksX5_glowOf_1 19 rfl rfl)
theorem dX5_glowOf_44 : decode cX5_glowOf 44 = .ok (.aload_n 0, 1) := dk_42 (dk_at dksX5_glowOf_1 20 rfl rfl)
theorem dX5_glowOf_45 : decode cX5_glowOf 45 = .ok (.getfield 70, 3) := dk_180 0 70 (dk_at dksX5_glowOf_1 21 rfl rfl)
theorem dX5_glowOf_48 : decode cX5_glowOf 48 = .ok (.iload_n 1, 1) := dk_27 (dk_at dksX5_glowOf_2 0 rfl rfl)
theorem dX5_glowOf_49 : decode cX5_glowOf 49 = .ok (.iaload, 1) := dk_46 (dk_at dksX5_glowOf_2 1 rfl rfl)
theorem dX5_glowOf_50 : decode cX5_glowOf 50 = .ok (.aload_n 0, 1) := dk_42 (dk_at dksX5_glowOf_2 2 rfl rfl)
theorem dX5_glowOf_51 : decode cX5_glowOf 51 = .ok (.getfield 61, 3) := dk_180 0 61 (dk_at dksX5_glowOf_2 3 rfl rfl)
theorem dX5_glowOf_54 : decode cX5_glowOf 54 = .ok (.iload_n 1, 1) := dk_27 (dk_at dksX5_glowOf_2 6 rfl rfl)
theorem dX5_glowOf_55 : decode cX5_glowOf 55 = .ok (.iaload, 1) := dk_46 (dk_at dksX5_glowOf_2 7 rfl rfl)
theorem dX5_glowOf_56 : decode cX5_glowOf 56 = .ok (.iconst 2, 1) := dk_5 (dk_at dksX5_glowOf_2 8 rfl rfl)
theorem dX5_glowOf_57 : decode cX5_glowOf 57 = .ok (.if_icmp .ne 9, 3) := dk_160 0 9 (dk_at dksX5_glowOf_2 9 rfl rfl)
theorem dX5_glowOf_60 : decode cX5_glowOf 60 = .ok (.iload_n 3, 1) := dk_29 (dk_at dksX5_glowOf_2 12 rfl rfl)
theorem dX5_glowOf_61 : decode cX5_glowOf 61 = .ok (.iconst 2, 1) := dk_5 (dk_at dksX5_glowOf_2 13 rfl rfl)
theorem dX5_glowOf_62 : decode cX5_glowOf 62 = .ok (.idiv, 1) := dk_108 (dk_at dksX5_glowOf_2 14 rfl rfl)
theorem dX5_glowOf_63 : decode cX5_glowOf 63 = .ok (.goto 4, 3) := dk_167 0 4 (dk_at dksX5_glowOf_2 15 rfl rfl)
theorem dX5_glowOf_66 : decode cX5_glowOf 66 = .ok (.iload_n 3, 1) := dk_29 (dk_at dksX5_glowOf_2 18 rfl rfl)
theorem dX5_glowOf_67 : decode cX5_glowOf 67 = .ok (.isub, 1) := dk_100 (dk_at dksX5_glowOf_2 19 rfl rfl)
theorem dX5_glowOf_68 : decode cX5_glowOf 68 = .ok (.aload_n 0, 1) := dk_42 (dk_at dksX5_glowOf_2 20 rfl rfl)
theorem dX5_glowOf_69 : decode cX5_glowOf 69 = .ok (.getfield 340, 3) := dk_180 1 84 (dk_at dksX5_glowOf_2 21 rfl rfl)
theorem dX5_glowOf_72 : decode cX5_glowOf 72 = .ok (.isub, 1) := dk_100 (dk_at dksX5_glowOf_3 0 rfl rfl)
theorem dX5_glowOf_73 : decode cX5_glowOf 73 = .ok (.invokestatic 352, 3) := dk_184 1 96 (dk_at dksX5_glowOf_3 1 rfl rfl)
theorem dX5_glowOf_76 : decode cX5_glowOf 76 = .ok (.ireturn, 1) := dk_172 (dk_at dksX5_glowOf_3 4 rfl rfl)
abbrev cX5_isHooded : ByteArray := prog_23_method_36_code
def yX5_isHooded : MethodName := ⟨RX5, "isHooded", "(II)Z"⟩
def dkwX5_isHooded_2 : List UInt8 := [167, 255, 212, 3, 172]
abbrev dktX5_isHooded_2 : List UInt8 := dkwX5_isHooded_2 ++ []
def dkwX5_isHooded_1 : List UInt8 := [180, 0, 97, 29, 46, 42, 180, 0, 100, 29, 46, 184, 0, 197, 153, 0, 5, 4, 172, 132, 3, 1]
abbrev dktX5_isHooded_1 : List UInt8 := dkwX5_isHooded_1 ++ dktX5_isHooded_2
def dkwX5_isHooded_0 : List UInt8 := [3, 62, 29, 42, 180, 0, 45, 6, 46, 162, 0, 40, 42, 180, 0, 94, 29, 46, 27, 160, 0, 24, 28, 42]
abbrev dktX5_isHooded_0 : List UInt8 := dkwX5_isHooded_0 ++ dktX5_isHooded_1
theorem dksX5_isHooded_0 : cX5_isHooded.data.toList.drop 0 = dktX5_isHooded_0 := by decide +kernel
theorem dksX5_isHooded_1 : cX5_isHooded.data.toList.drop 24 = dktX5_isHooded_1 := dk_seg dksX5_isHooded_0 24 rfl rfl
theorem dksX5_isHooded_2 : cX5_isHooded.data.toList.drop 46 = dktX5_isHooded_2 := dk_seg dksX5_isHooded_1 22 rfl rfl
theorem dX5_isHooded_0 : decode cX5_isHooded 0 = .ok (.iconst 0, 1) := dk_3 (dk_at dksX5_isHooded_0 0 rfl rfl)
theorem dX5_isHooded_1 : decode cX5_isHooded 1 = .ok (.istore_n 3, 1) := dk_62 (dk_at dksX5_isHooded_0 1 rfl rfl)
theorem dX5_isHooded_2 : decode cX5_isHooded 2 = .ok (.iload_n 3, 1) := dk_29 (dk_at dksX5_isHooded_0 2 rfl rfl)
theorem dX5_isHooded_3 : decode cX5_isHooded 3 = .ok (.aload_n 0, 1) := dk_42 (dk_at dksX5_isHooded_0 3 rfl rfl)
theorem dX5_isHooded_4 : decode cX5_isHooded 4 = .ok (.getfield 45, 3) := dk_180 0 45 (dk_at dksX5_isHooded_0 4 rfl rfl)
theorem dX5_isHooded_7 : decode cX5_isHooded 7 = .ok (.iconst 3, 1) := dk_6 (dk_at dksX5_isHooded_0 7 rfl rfl)
theorem dX5_isHooded_8 : decode cX5_isHooded 8 = .ok (.iaload, 1) := dk_46 (dk_at dksX5_isHooded_0 8 rfl rfl)
theorem dX5_isHooded_9 : decode cX5_isHooded 9 = .ok (.if_icmp .ge 40, 3) := dk_162 0 40 (dk_at dksX5_isHooded_0 9 rfl rfl)
theorem dX5_isHooded_12 : decode cX5_isHooded 12 = .ok (.aload_n 0, 1) := dk_42 (dk_at dksX5_isHooded_0 12 rfl rfl)
theorem dX5_isHooded_13 : decode cX5_isHooded 13 = .ok (.getfield 94, 3) := dk_180 0 94 (dk_at dksX5_isHooded_0 13 rfl rfl)
theorem dX5_isHooded_16 : decode cX5_isHooded 16 = .ok (.iload_n 3, 1) := dk_29 (dk_at dksX5_isHooded_0 16 rfl rfl)
theorem dX5_isHooded_17 : decode cX5_isHooded 17 = .ok (.iaload, 1) := dk_46 (dk_at dksX5_isHooded_0 17 rfl rfl)
theorem dX5_isHooded_18 : decode cX5_isHooded 18 = .ok (.iload_n 1, 1) := dk_27 (dk_at dksX5_isHooded_0 18 rfl rfl)
theorem dX5_isHooded_19 : decode cX5_isHooded 19 = .ok (.if_icmp .ne 24, 3) := dk_160 0 24 (dk_at dksX5_isHooded_0 19 rfl rfl)
theorem dX5_isHooded_22 : decode cX5_isHooded 22 = .ok (.iload_n 2, 1) := dk_28 (dk_at dksX5_isHooded_0 22 rfl rfl)
theorem dX5_isHooded_23 : decode cX5_isHooded 23 = .ok (.aload_n 0, 1) := dk_42 (dk_at dksX5_isHooded_0 23 rfl rfl)
theorem dX5_isHooded_24 : decode cX5_isHooded 24 = .ok (.getfield 97, 3) := dk_180 0 97 (dk_at dksX5_isHooded_1 0 rfl rfl)
theorem dX5_isHooded_27 : decode cX5_isHooded 27 = .ok (.iload_n 3, 1) := dk_29 (dk_at dksX5_isHooded_1 3 rfl rfl)
theorem dX5_isHooded_28 : decode cX5_isHooded 28 = .ok (.iaload, 1) := dk_46 (dk_at dksX5_isHooded_1 4 rfl rfl)
theorem dX5_isHooded_29 : decode cX5_isHooded 29 = .ok (.aload_n 0, 1) := dk_42 (dk_at dksX5_isHooded_1 5 rfl rfl)
theorem dX5_isHooded_30 : decode cX5_isHooded 30 = .ok (.getfield 100, 3) := dk_180 0 100 (dk_at dksX5_isHooded_1 6 rfl rfl)
theorem dX5_isHooded_33 : decode cX5_isHooded 33 = .ok (.iload_n 3, 1) := dk_29 (dk_at dksX5_isHooded_1 9 rfl rfl)
theorem dX5_isHooded_34 : decode cX5_isHooded 34 = .ok (.iaload, 1) := dk_46 (dk_at dksX5_isHooded_1 10 rfl rfl)
theorem dX5_isHooded_35 : decode cX5_isHooded 35 = .ok (.invokestatic 197, 3) := dk_184 0 197 (dk_at dksX5_isHooded_1 11 rfl rfl)
theorem dX5_isHooded_38 : decode cX5_isHooded 38 = .ok (.ifCond .eq 5, 3) := dk_153 0 5 (dk_at dksX5_isHooded_1 14 rfl rfl)
theorem dX5_isHooded_41 : decode cX5_isHooded 41 = .ok (.iconst 1, 1) := dk_4 (dk_at dksX5_isHooded_1 17 rfl rfl)
theorem dX5_isHooded_42 : decode cX5_isHooded 42 = .ok (.ireturn, 1) := dk_172 (dk_at dksX5_isHooded_1 18 rfl rfl)
theorem dX5_isHooded_43 : decode cX5_isHooded 43 = .ok (.iinc 3 1, 3) := dk_132 3 1 (dk_at dksX5_isHooded_1 19 rfl rfl)
theorem dX5_isHooded_46 : decode cX5_isHooded 46 = .ok (.goto (-44), 3) := dk_167 255 212 (dk_at dksX5_isHooded_2 0 rfl rfl)
theorem dX5_isHooded_49 : decode cX5_isHooded 49 = .ok (.iconst 0, 1) := dk_3 (dk_at dksX5_isHooded_2 3 rfl rfl)
theorem dX5_isHooded_50 : decode cX5_isHooded 50 = .ok (.ireturn, 1) := dk_172 (dk_at dksX5_isHooded_2 4 rfl rfl)
abbrev cX5_tellLights : ByteArray := prog_23_method_42_code
def yX5_tellLights : MethodName := ⟨RX5, "tellLights", "()V"⟩
def dkwX5_tellLights_2 : List UInt8 := [167, 255, 212, 177]
abbrev dktX5_tellLights_2 : List UInt8 := dkwX5_tellLights_2 ++ []
def dkwX5_tellLights_1 : List UInt8 := [16, 24, 27, 104, 28, 96, 42, 27, 28, 182, 1, 108, 79, 132, 2, 1, 167, 255, 230, 132, 1, 1]
abbrev dktX5_tellLights_1 : List UInt8 := dkwX5_tellLights_1 ++ dktX5_tellLights_2
def dkwX5_tellLights_0 : List UInt8 := [3, 60, 27, 42, 180, 0, 45, 3, 46, 162, 0, 40, 3, 61, 28, 16, 24, 162, 0, 26, 42, 180, 0, 131]
abbrev dktX5_tellLights_0 : List UInt8 := dkwX5_tellLights_0 ++ dktX5_tellLights_1
theorem dksX5_tellLights_0 : cX5_tellLights.data.toList.drop 0 = dktX5_tellLights_0 := by decide +kernel
theorem dksX5_tellLights_1 : cX5_tellLights.data.toList.drop 24 = dktX5_tellLights_1 := dk_seg dksX5_tellLights_0 24 rfl rfl
theorem dksX5_tellLights_2 : cX5_tellLights.data.toList.drop 46 = dktX5_tellLights_2 := dk_seg dksX5_tellLights_1 22 rfl rfl
theorem dX5_tellLights_0 : decode cX5_tellLights 0 = .ok (.iconst 0, 1) := dk_3 (dk_at dksX5_tellLights_0 0 rfl rfl)
theorem dX5_tellLights_1 : decode cX5_tellLights 1 = .ok (.istore_n 1, 1) := dk_60 (dk_at dksX5_tellLights_0 1 rfl rfl)
theorem dX5_tellLights_2 : decode cX5_tellLights 2 = .ok (.iload_n 1, 1) := dk_27 (dk_at dksX5_tellLights_0 2 rfl rfl)
theorem dX5_tellLights_3 : decode cX5_tellLights 3 = .ok (.aload_n 0, 1) := dk_42 (dk_at dksX5_tellLights_0 3 rfl rfl)
theorem dX5_tellLights_4 : decode cX5_tellLights 4 = .ok (.getfield 45, 3) := dk_180 0 45 (dk_at dksX5_tellLights_0 4 rfl rfl)
theorem dX5_tellLights_7 : decode cX5_tellLights 7 = .ok (.iconst 0, 1) := dk_3 (dk_at dksX5_tellLights_0 7 rfl rfl)
theorem dX5_tellLights_8 : decode cX5_tellLights 8 = .ok (.iaload, 1) := dk_46 (dk_at dksX5_tellLights_0 8 rfl rfl)
theorem dX5_tellLights_9 : decode cX5_tellLights 9 = .ok (.if_icmp .ge 40, 3) := dk_162 0 40 (dk_at dksX5_tellLights_0 9 rfl rfl)
theorem dX5_tellLights_12 : decode cX5_tellLights 12 = .ok (.iconst 0, 1) := dk_3 (dk_at dksX5_tellLights_0 12 rfl rfl)
theorem dX5_tellLights_13 : decode cX5_tellLights 13 = .ok (.istore_n 2, 1) := dk_61 (dk_at dksX5_tellLights_0 13 rfl rfl)
theorem dX5_tellLights_14 : decode cX5_tellLights 14 = .ok (.iload_n 2, 1) := dk_28 (dk_at dksX5_tellLights_0 14 rfl rfl)
theorem dX5_tellLights_15 : decode cX5_tellLights 15 = .ok (.bipush 24, 2) := dk_16 24 (dk_at dksX5_tellLights_0 15 rfl rfl)
theorem dX5_tellLights_17 : decode cX5_tellLights 17 = .ok (.if_icmp .ge 26, 3) := dk_162 0 26 (dk_at dksX5_tellLights_0 17 rfl rfl)
theorem dX5_tellLights_20 : decode cX5_tellLights 20 = .ok (.aload_n 0, 1) := dk_42 (dk_at dksX5_tellLights_0 20 rfl rfl)
theorem dX5_tellLights_21 : decode cX5_tellLights 21 = .ok (.getfield 131, 3) := dk_180 0 131 (dk_at dksX5_tellLights_0 21 rfl rfl)
theorem dX5_tellLights_24 : decode cX5_tellLights 24 = .ok (.bipush 24, 2) := dk_16 24 (dk_at dksX5_tellLights_1 0 rfl rfl)
theorem dX5_tellLights_26 : decode cX5_tellLights 26 = .ok (.iload_n 1, 1) := dk_27 (dk_at dksX5_tellLights_1 2 rfl rfl)
theorem dX5_tellLights_27 : decode cX5_tellLights 27 = .ok (.imul, 1) := dk_104 (dk_at dksX5_tellLights_1 3 rfl rfl)
theorem dX5_tellLights_28 : decode cX5_tellLights 28 = .ok (.iload_n 2, 1) := dk_28 (dk_at dksX5_tellLights_1 4 rfl rfl)
theorem dX5_tellLights_29 : decode cX5_tellLights 29 = .ok (.iadd, 1) := dk_96 (dk_at dksX5_tellLights_1 5 rfl rfl)
theorem dX5_tellLights_30 : decode cX5_tellLights 30 = .ok (.aload_n 0, 1) := dk_42 (dk_at dksX5_tellLights_1 6 rfl rfl)
theorem dX5_tellLights_31 : decode cX5_tellLights 31 = .ok (.iload_n 1, 1) := dk_27 (dk_at dksX5_tellLights_1 7 rfl rfl)
theorem dX5_tellLights_32 : decode cX5_tellLights 32 = .ok (.iload_n 2, 1) := dk_28 (dk_at dksX5_tellLights_1 8 rfl rfl)
theorem dX5_tellLights_33 : decode cX5_tellLights 33 = .ok (.invokevirtual 364, 3) := dk_182 1 108 (dk_at dksX5_tellLights_1 9 rfl rfl)
theorem dX5_tellLights_36 : decode cX5_tellLights 36 = .ok (.iastore, 1) := dk_79 (dk_at dksX5_tellLights_1 12 rfl rfl)
theorem dX5_tellLights_37 : decode cX5_tellLights 37 = .ok (.iinc 2 1, 3) := dk_132 2 1 (dk_at dksX5_tellLights_1 13 rfl rfl)
theorem dX5_tellLights_40 : decode cX5_tellLights 40 = .ok (.goto (-26), 3) := dk_167 255 230 (dk_at dksX5_tellLights_1 16 rfl rfl)
theorem dX5_tellLights_43 : decode cX5_tellLights 43 = .ok (.iinc 1 1, 3) := dk_132 1 1 (dk_at dksX5_tellLights_1 19 rfl rfl)
theorem dX5_tellLights_46 : decode cX5_tellLights 46 = .ok (.goto (-44), 3) := dk_167 255 212 (dk_at dksX5_tellLights_2 0 rfl rfl)
theorem dX5_tellLights_49 : decode cX5_tellLights 49 = .ok (.return_, 1) := dk_177 (dk_at dksX5_tellLights_2 3 rfl rfl)
abbrev cX5_lightOf : ByteArray := prog_23_method_41_code
def yX5_lightOf : MethodName := ⟨RX5, "lightOf", "(II)I"⟩
def dkwX5_lightOf_1 : List UInt8 := [167, 0, 11, 42, 27, 28, 4, 100, 182, 1, 105, 172]
abbrev dktX5_lightOf_1 : List UInt8 := dkwX5_lightOf_1 ++ []
def dkwX5_lightOf_0 : List UInt8 := [42, 180, 0, 49, 27, 46, 4, 159, 0, 12, 42, 27, 28, 182, 1, 105, 167, 0, 19, 28, 154, 0, 7, 3]
abbrev dktX5_lightOf_0 : List UInt8 := dkwX5_lightOf_0 ++ dktX5_lightOf_1
theorem dksX5_lightOf_0 : cX5_lightOf.data.toList.drop 0 = dktX5_lightOf_0 := by decide +kernel
theorem dksX5_lightOf_1 : cX5_lightOf.data.toList.drop 24 = dktX5_lightOf_1 := dk_seg dksX5_lightOf_0 24 rfl rfl
theorem dX5_lightOf_0 : decode cX5_lightOf 0 = .ok (.aload_n 0, 1) := dk_42 (dk_at dksX5_lightOf_0 0 rfl rfl)
theorem dX5_lightOf_1 : decode cX5_lightOf 1 = .ok (.getfield 49, 3) := dk_180 0 49 (dk_at dksX5_lightOf_0 1 rfl rfl)
theorem dX5_lightOf_4 : decode cX5_lightOf 4 = .ok (.iload_n 1, 1) := dk_27 (dk_at dksX5_lightOf_0 4 rfl rfl)
theorem dX5_lightOf_5 : decode cX5_lightOf 5 = .ok (.iaload, 1) := dk_46 (dk_at dksX5_lightOf_0 5 rfl rfl)
theorem dX5_lightOf_6 : decode cX5_lightOf 6 = .ok (.iconst 1, 1) := dk_4 (dk_at dksX5_lightOf_0 6 rfl rfl)
theorem dX5_lightOf_7 : decode cX5_lightOf 7 = .ok (.if_icmp .eq 12, 3) := dk_159 0 12 (dk_at dksX5_lightOf_0 7 rfl rfl)
theorem dX5_lightOf_10 : decode cX5_lightOf 10 = .ok (.aload_n 0, 1) := dk_42 (dk_at dksX5_lightOf_0 10 rfl rfl)
theorem dX5_lightOf_11 : decode cX5_lightOf 11 = .ok (.iload_n 1, 1) := dk_27 (dk_at dksX5_lightOf_0 11 rfl rfl)
theorem dX5_lightOf_12 : decode cX5_lightOf 12 = .ok (.iload_n 2, 1) := dk_28 (dk_at dksX5_lightOf_0 12 rfl rfl)
theorem dX5_lightOf_13 : decode cX5_lightOf 13 = .ok (.invokevirtual 361, 3) := dk_182 1 105 (dk_at dksX5_lightOf_0 13 rfl rfl)
theorem dX5_lightOf_16 : decode cX5_lightOf 16 = .ok (.goto 19, 3) := dk_167 0 19 (dk_at dksX5_lightOf_0 16 rfl rfl)
theorem dX5_lightOf_19 : decode cX5_lightOf 19 = .ok (.iload_n 2, 1) := dk_28 (dk_at dksX5_lightOf_0 19 rfl rfl)
theorem dX5_lightOf_20 : decode cX5_lightOf 20 = .ok (.ifCond .ne 7, 3) := dk_154 0 7 (dk_at dksX5_lightOf_0 20 rfl rfl)
theorem dX5_lightOf_23 : decode cX5_lightOf 23 = .ok (.iconst 0, 1) := dk_3 (dk_at dksX5_lightOf_0 23 rfl rfl)
theorem dX5_lightOf_24 : decode cX5_lightOf 24 = .ok (.goto 11, 3) := dk_167 0 11 (dk_at dksX5_lightOf_1 0 rfl rfl)
theorem dX5_lightOf_27 : decode cX5_lightOf 27 = .ok (.aload_n 0, 1) := dk_42 (dk_at dksX5_lightOf_1 3 rfl rfl)
theorem dX5_lightOf_28 : decode cX5_lightOf 28 = .ok (.iload_n 1, 1) := dk_27 (dk_at dksX5_lightOf_1 4 rfl rfl)
theorem dX5_lightOf_29 : decode cX5_lightOf 29 = .ok (.iload_n 2, 1) := dk_28 (dk_at dksX5_lightOf_1 5 rfl rfl)
theorem dX5_lightOf_30 : decode cX5_lightOf 30 = .ok (.iconst 1, 1) := dk_4 (dk_at dksX5_lightOf_1 6 rfl rfl)
theorem dX5_lightOf_31 : decode cX5_lightOf 31 = .ok (.isub, 1) := dk_100 (dk_at dksX5_lightOf_1 7 rfl rfl)
theorem dX5_lightOf_32 : decode cX5_lightOf 32 = .ok (.invokevirtual 361, 3) := dk_182 1 105 (dk_at dksX5_lightOf_1 8 rfl rfl)
theorem dX5_lightOf_35 : decode cX5_lightOf 35 = .ok (.ireturn, 1) := dk_172 (dk_at dksX5_lightOf_1 11 rfl rfl)
abbrev cX5_shineAt : ByteArray := prog_23_method_40_code
def yX5_shineAt : MethodName := ⟨RX5, "shineAt", "(II)I"⟩
def dkwX5_shineAt_2 : List UInt8 := [132, 4, 1, 167, 255, 212, 29, 16, 100, 42, 180, 0, 55, 27, 46, 100, 104, 16, 100, 108, 172]
abbrev dktX5_shineAt_2 : List UInt8 := dkwX5_shineAt_2 ++ []
def dkwX5_shineAt_1 : List UInt8 := [27, 160, 0, 18, 42, 180, 0, 125, 16, 24, 21, 4, 104, 28, 96, 46, 167, 0, 4, 3, 96, 62]
abbrev dktX5_shineAt_1 : List UInt8 := dkwX5_shineAt_1 ++ dktX5_shineAt_2
def dkwX5_shineAt_0 : List UInt8 := [3, 62, 3, 54, 4, 21, 4, 42, 180, 0, 45, 4, 46, 162, 0, 39, 29, 42, 180, 0, 67, 21, 4, 46]
abbrev dktX5_shineAt_0 : List UInt8 := dkwX5_shineAt_0 ++ dktX5_shineAt_1
theorem dksX5_shineAt_0 : cX5_shineAt.data.toList.drop 0 = dktX5_shineAt_0 := by decide +kernel
theorem dksX5_shineAt_1 : cX5_shineAt.data.toList.drop 24 = dktX5_shineAt_1 := dk_seg dksX5_shineAt_0 24 rfl rfl
theorem dksX5_shineAt_2 : cX5_shineAt.data.toList.drop 46 = dktX5_shineAt_2 := dk_seg dksX5_shineAt_1 22 rfl rfl
theorem dX5_shineAt_0 : decode cX5_shineAt 0 = .ok (.iconst 0, 1) := dk_3 (dk_at dksX5_shineAt_0 0 rfl rfl)
theorem dX5_shineAt_1 : decode cX5_shineAt 1 = .ok (.istore_n 3, 1) := dk_62 (dk_at dksX5_shineAt_0 1 rfl rfl)
theorem dX5_shineAt_2 : decode cX5_shineAt 2 = .ok (.iconst 0, 1) := dk_3 (dk_at dksX5_shineAt_0 2 rfl rfl)
theorem dX5_shineAt_3 : decode cX5_shineAt 3 = .ok (.istore 4, 2) := dk_54 4 (dk_at dksX5_shineAt_0 3 rfl rfl)
theorem dX5_shineAt_5 : decode cX5_shineAt 5 = .ok (.iload 4, 2) := dk_21 4 (dk_at dksX5_shineAt_0 5 rfl rfl)
theorem dX5_shineAt_7 : decode cX5_shineAt 7 = .ok (.aload_n 0, 1) := dk_42 (dk_at dksX5_shineAt_0 7 rfl rfl)
theorem dX5_shineAt_8 : decode cX5_shineAt 8 = .ok (.getfield 45, 3) := dk_180 0 45 (dk_at dksX5_shineAt_0 8 rfl rfl)
theorem dX5_shineAt_11 : decode cX5_shineAt 11 = .ok (.iconst 1, 1) := dk_4 (dk_at dksX5_shineAt_0 11 rfl rfl)
theorem dX5_shineAt_12 : decode cX5_shineAt 12 = .ok (.iaload, 1) := dk_46 (dk_at dksX5_shineAt_0 12 rfl rfl)
theorem dX5_shineAt_13 : decode cX5_shineAt 13 = .ok (.if_icmp .ge 39, 3) := dk_162 0 39 (dk_at dksX5_shineAt_0 13 rfl rfl)
theorem dX5_shineAt_16 : decode cX5_shineAt 16 = .ok (.iload_n 3, 1) := dk_29 (dk_at dksX5_shineAt_0 16 rfl rfl)
theorem dX5_shineAt_17 : decode cX5_shineAt 17 = .ok (.aload_n 0, 1) := dk_42 (dk_at dksX5_shineAt_0 17 rfl rfl)
theorem dX5_shineAt_18 : decode cX5_shineAt 18 = .ok (.getfield 67, 3) := dk_180 0 67 (dk_at dksX5_shineAt_0 18 rfl rfl)
theorem dX5_shineAt_21 : decode cX5_shineAt 21 = .ok (.iload 4, 2) := dk_21 4 (dk_at dksX5_shineAt_0 21 rfl rfl)
theorem dX5_shineAt_23 : decode cX5_shineAt 23 = .ok (.iaload, 1) := dk_46 (dk_at dksX5_shineAt_0 23 rfl rfl)
theorem dX5_shineAt_24 : decode cX5_shineAt 24 = .ok (.iload_n 1, 1) := dk_27 (dk_at dksX5_shineAt_1 0 rfl rfl)
theorem dX5_shineAt_25 : decode cX5_shineAt 25 = .ok (.if_icmp .ne 18, 3) := dk_160 0 18 (dk_at dksX5_shineAt_1 1 rfl rfl)
theorem dX5_shineAt_28 : decode cX5_shineAt 28 = .ok (.aload_n 0, 1) := dk_42 (dk_at dksX5_shineAt_1 4 rfl rfl)
theorem dX5_shineAt_29 : decode cX5_shineAt 29 = .ok (.getfield 125, 3) := dk_180 0 125 (dk_at dksX5_shineAt_1 5 rfl rfl)
theorem dX5_shineAt_32 : decode cX5_shineAt 32 = .ok (.bipush 24, 2) := dk_16 24 (dk_at dksX5_shineAt_1 8 rfl rfl)
theorem dX5_shineAt_34 : decode cX5_shineAt 34 = .ok (.iload 4, 2) := dk_21 4 (dk_at dksX5_shineAt_1 10 rfl rfl)
theorem dX5_shineAt_36 : decode cX5_shineAt 36 = .ok (.imul, 1) := dk_104 (dk_at dksX5_shineAt_1 12 rfl rfl)
theorem dX5_shineAt_37 : decode cX5_shineAt 37 = .ok (.iload_n 2, 1) := dk_28 (dk_at dksX5_shineAt_1 13 rfl rfl)
theorem dX5_shineAt_38 : decode cX5_shineAt 38 = .ok (.iadd, 1) := dk_96 (dk_at dksX5_shineAt_1 14 rfl rfl)
theorem dX5_shineAt_39 : decode cX5_shineAt 39 = .ok (.iaload, 1) := dk_46 (dk_at dksX5_shineAt_1 15 rfl rfl)
theorem dX5_shineAt_40 : decode cX5_shineAt 40 = .ok (.goto 4, 3) := dk_167 0 4 (dk_at dksX5_shineAt_1 16 rfl rfl)
theorem dX5_shineAt_43 : decode cX5_shineAt 43 = .ok (.iconst 0, 1) := dk_3 (dk_at dksX5_shineAt_1 19 rfl rfl)
theorem dX5_shineAt_44 : decode cX5_shineAt 44 = .ok (.iadd, 1) := dk_96 (dk_at dksX5_shineAt_1 20 rfl rfl)
theorem dX5_shineAt_45 : decode cX5_shineAt 45 = .ok (.istore_n 3, 1) := dk_62 (dk_at dksX5_shineAt_1 21 rfl rfl)
theorem dX5_shineAt_46 : decode cX5_shineAt 46 = .ok (.iinc 4 1, 3) := dk_132 4 1 (dk_at dksX5_shineAt_2 0 rfl rfl)
theorem dX5_shineAt_49 : decode cX5_shineAt 49 = .ok (.goto (-44), 3) := dk_167 255 212 (dk_at dksX5_shineAt_2 3 rfl rfl)
theorem dX5_shineAt_52 : decode cX5_shineAt 52 = .ok (.iload_n 3, 1) := dk_29 (dk_at dksX5_shineAt_2 6 rfl rfl)
theorem dX5_shineAt_53 : decode cX5_shineAt 53 = .ok (.bipush 100, 2) := dk_16 100 (dk_at dksX5_shineAt_2 7 rfl rfl)
theorem dX5_shineAt_55 : decode cX5_shineAt 55 = .ok (.aload_n 0, 1) := dk_42 (dk_at dksX5_shineAt_2 9 rfl rfl)
theorem dX5_shineAt_56 : decode cX5_shineAt 56 = .ok (.getfield 55, 3) := dk_180 0 55 (dk_at dksX5_shineAt_2 10 rfl rfl)
theorem dX5_shineAt_59 : decode cX5_shineAt 59 = .ok (.iload_n 1, 1) := dk_27 (dk_at dksX5_shineAt_2 13 rfl rfl)
theorem dX5_shineAt_60 : decode cX5_shineAt 60 = .ok (.iaload, 1) := dk_46 (dk_at dksX5_shineAt_2 14 rfl rfl)
theorem dX5_shineAt_61 : decode cX5_shineAt 61 = .ok (.isub, 1) := dk_100 (dk_at dksX5_shineAt_2 15 rfl rfl)
theorem dX5_shineAt_62 : decode cX5_shineAt 62 = .ok (.imul, 1) := dk_104 (dk_at dksX5_shineAt_2 16 rfl rfl)
theorem dX5_shineAt_63 : decode cX5_shineAt 63 = .ok (.bipush 100, 2) := dk_16 100 (dk_at dksX5_shineAt_2 17 rfl rfl)
theorem dX5_shineAt_65 : decode cX5_shineAt 65 = .ok (.idiv, 1) := dk_108 (dk_at dksX5_shineAt_2 19 rfl rfl)
theorem dX5_shineAt_66 : decode cX5_shineAt 66 = .ok (.ireturn, 1) := dk_172 (dk_at dksX5_shineAt_2 20 rfl rfl)
abbrev cX5_glow : ByteArray := prog_23_method_53_code
def yX5_glow : MethodName := ⟨RX5, "glow", "(II)I"⟩
def dkwX5_glow_1 : List UInt8 := [182, 1, 67, 172, 42, 182, 1, 136, 42, 180, 0, 125, 16, 24, 27, 104, 28, 96, 46, 172]
abbrev dktX5_glow_1 : List UInt8 := dkwX5_glow_1 ++ []
def dkwX5_glow_0 : List UInt8 := [42, 3, 181, 0, 194, 42, 27, 182, 1, 123, 153, 0, 10, 28, 184, 1, 129, 154, 0, 9, 42, 4]
abbrev dktX5_glow_0 : List UInt8 := dkwX5_glow_0 ++ dktX5_glow_1
theorem dksX5_glow_0 : cX5_glow.data.toList.drop 0 = dktX5_glow_0 := by decide +kernel
theorem dksX5_glow_1 : cX5_glow.data.toList.drop 22 = dktX5_glow_1 := dk_seg dksX5_glow_0 22 rfl rfl
theorem dX5_glow_0 : decode cX5_glow 0 = .ok (.aload_n 0, 1) := dk_42 (dk_at dksX5_glow_0 0 rfl rfl)
theorem dX5_glow_1 : decode cX5_glow 1 = .ok (.iconst 0, 1) := dk_3 (dk_at dksX5_glow_0 1 rfl rfl)
theorem dX5_glow_2 : decode cX5_glow 2 = .ok (.putfield 194, 3) := dk_181 0 194 (dk_at dksX5_glow_0 2 rfl rfl)
theorem dX5_glow_5 : decode cX5_glow 5 = .ok (.aload_n 0, 1) := dk_42 (dk_at dksX5_glow_0 5 rfl rfl)
theorem dX5_glow_6 : decode cX5_glow 6 = .ok (.iload_n 1, 1) := dk_27 (dk_at dksX5_glow_0 6 rfl rfl)
theorem dX5_glow_7 : decode cX5_glow 7 = .ok (.invokevirtual 379, 3) := dk_182 1 123 (dk_at dksX5_glow_0 7 rfl rfl)
theorem dX5_glow_10 : decode cX5_glow 10 = .ok (.ifCond .eq 10, 3) := dk_153 0 10 (dk_at dksX5_glow_0 10 rfl rfl)
theorem dX5_glow_13 : decode cX5_glow 13 = .ok (.iload_n 2, 1) := dk_28 (dk_at dksX5_glow_0 13 rfl rfl)
theorem dX5_glow_14 : decode cX5_glow 14 = .ok (.invokestatic 385, 3) := dk_184 1 129 (dk_at dksX5_glow_0 14 rfl rfl)
theorem dX5_glow_17 : decode cX5_glow 17 = .ok (.ifCond .ne 9, 3) := dk_154 0 9 (dk_at dksX5_glow_0 17 rfl rfl)
theorem dX5_glow_20 : decode cX5_glow 20 = .ok (.aload_n 0, 1) := dk_42 (dk_at dksX5_glow_0 20 rfl rfl)
theorem dX5_glow_21 : decode cX5_glow 21 = .ok (.iconst 1, 1) := dk_4 (dk_at dksX5_glow_0 21 rfl rfl)
theorem dX5_glow_22 : decode cX5_glow 22 = .ok (.invokevirtual 323, 3) := dk_182 1 67 (dk_at dksX5_glow_1 0 rfl rfl)
theorem dX5_glow_25 : decode cX5_glow 25 = .ok (.ireturn, 1) := dk_172 (dk_at dksX5_glow_1 3 rfl rfl)
theorem dX5_glow_26 : decode cX5_glow 26 = .ok (.aload_n 0, 1) := dk_42 (dk_at dksX5_glow_1 4 rfl rfl)
theorem dX5_glow_27 : decode cX5_glow 27 = .ok (.invokevirtual 392, 3) := dk_182 1 136 (dk_at dksX5_glow_1 5 rfl rfl)
theorem dX5_glow_30 : decode cX5_glow 30 = .ok (.aload_n 0, 1) := dk_42 (dk_at dksX5_glow_1 8 rfl rfl)
theorem dX5_glow_31 : decode cX5_glow 31 = .ok (.getfield 125, 3) := dk_180 0 125 (dk_at dksX5_glow_1 9 rfl rfl)
theorem dX5_glow_34 : decode cX5_glow 34 = .ok (.bipush 24, 2) := dk_16 24 (dk_at dksX5_glow_1 12 rfl rfl)
theorem dX5_glow_36 : decode cX5_glow 36 = .ok (.iload_n 1, 1) := dk_27 (dk_at dksX5_glow_1 14 rfl rfl)
theorem dX5_glow_37 : decode cX5_glow 37 = .ok (.imul, 1) := dk_104 (dk_at dksX5_glow_1 15 rfl rfl)
theorem dX5_glow_38 : decode cX5_glow 38 = .ok (.iload_n 2, 1) := dk_28 (dk_at dksX5_glow_1 16 rfl rfl)
theorem dX5_glow_39 : decode cX5_glow 39 = .ok (.iadd, 1) := dk_96 (dk_at dksX5_glow_1 17 rfl rfl)
theorem dX5_glow_40 : decode cX5_glow 40 = .ok (.iaload, 1) := dk_46 (dk_at dksX5_glow_1 18 rfl rfl)
theorem dX5_glow_41 : decode cX5_glow 41 = .ok (.ireturn, 1) := dk_172 (dk_at dksX5_glow_1 19 rfl rfl)
abbrev cX5_led : ByteArray := prog_23_method_54_code
def yX5_led : MethodName := ⟨RX5, "led", "(II)I"⟩
def dkwX5_led_1 : List UInt8 := [182, 1, 67, 172, 42, 182, 1, 136, 42, 180, 0, 128, 16, 24, 27, 104, 28, 96, 46, 172]
abbrev dktX5_led_1 : List UInt8 := dkwX5_led_1 ++ []
def dkwX5_led_0 : List UInt8 := [42, 3, 181, 0, 194, 42, 27, 182, 1, 123, 153, 0, 10, 28, 184, 1, 129, 154, 0, 9, 42, 4]
abbrev dktX5_led_0 : List UInt8 := dkwX5_led_0 ++ dktX5_led_1
theorem dksX5_led_0 : cX5_led.data.toList.drop 0 = dktX5_led_0 := by decide +kernel
theorem dksX5_led_1 : cX5_led.data.toList.drop 22 = dktX5_led_1 := dk_seg dksX5_led_0 22 rfl rfl
theorem dX5_led_0 : decode cX5_led 0 = .ok (.aload_n 0, 1) := dk_42 (dk_at dksX5_led_0 0 rfl rfl)
theorem dX5_led_1 : decode cX5_led 1 = .ok (.iconst 0, 1) := dk_3 (dk_at dksX5_led_0 1 rfl rfl)
theorem dX5_led_2 : decode cX5_led 2 = .ok (.putfield 194, 3) := dk_181 0 194 (dk_at dksX5_led_0 2 rfl rfl)
theorem dX5_led_5 : decode cX5_led 5 = .ok (.aload_n 0, 1) := dk_42 (dk_at dksX5_led_0 5 rfl rfl)
theorem dX5_led_6 : decode cX5_led 6 = .ok (.iload_n 1, 1) := dk_27 (dk_at dksX5_led_0 6 rfl rfl)
theorem dX5_led_7 : decode cX5_led 7 = .ok (.invokevirtual 379, 3) := dk_182 1 123 (dk_at dksX5_led_0 7 rfl rfl)
theorem dX5_led_10 : decode cX5_led 10 = .ok (.ifCond .eq 10, 3) := dk_153 0 10 (dk_at dksX5_led_0 10 rfl rfl)
theorem dX5_led_13 : decode cX5_led 13 = .ok (.iload_n 2, 1) := dk_28 (dk_at dksX5_led_0 13 rfl rfl)
theorem dX5_led_14 : decode cX5_led 14 = .ok (.invokestatic 385, 3) := dk_184 1 129 (dk_at dksX5_led_0 14 rfl rfl)
theorem dX5_led_17 : decode cX5_led 17 = .ok (.ifCond .ne 9, 3) := dk_154 0 9 (dk_at dksX5_led_0 17 rfl rfl)
theorem dX5_led_20 : decode cX5_led 20 = .ok (.aload_n 0, 1) := dk_42 (dk_at dksX5_led_0 20 rfl rfl)
theorem dX5_led_21 : decode cX5_led 21 = .ok (.iconst 1, 1) := dk_4 (dk_at dksX5_led_0 21 rfl rfl)
theorem dX5_led_22 : decode cX5_led 22 = .ok (.invokevirtual 323, 3) := dk_182 1 67 (dk_at dksX5_led_1 0 rfl rfl)
theorem dX5_led_25 : decode cX5_led 25 = .ok (.ireturn, 1) := dk_172 (dk_at dksX5_led_1 3 rfl rfl)
theorem dX5_led_26 : decode cX5_led 26 = .ok (.aload_n 0, 1) := dk_42 (dk_at dksX5_led_1 4 rfl rfl)
theorem dX5_led_27 : decode cX5_led 27 = .ok (.invokevirtual 392, 3) := dk_182 1 136 (dk_at dksX5_led_1 5 rfl rfl)
theorem dX5_led_30 : decode cX5_led 30 = .ok (.aload_n 0, 1) := dk_42 (dk_at dksX5_led_1 8 rfl rfl)
theorem dX5_led_31 : decode cX5_led 31 = .ok (.getfield 128, 3) := dk_180 0 128 (dk_at dksX5_led_1 9 rfl rfl)
theorem dX5_led_34 : decode cX5_led 34 = .ok (.bipush 24, 2) := dk_16 24 (dk_at dksX5_led_1 12 rfl rfl)
theorem dX5_led_36 : decode cX5_led 36 = .ok (.iload_n 1, 1) := dk_27 (dk_at dksX5_led_1 14 rfl rfl)
theorem dX5_led_37 : decode cX5_led 37 = .ok (.imul, 1) := dk_104 (dk_at dksX5_led_1 15 rfl rfl)
theorem dX5_led_38 : decode cX5_led 38 = .ok (.iload_n 2, 1) := dk_28 (dk_at dksX5_led_1 16 rfl rfl)
theorem dX5_led_39 : decode cX5_led 39 = .ok (.iadd, 1) := dk_96 (dk_at dksX5_led_1 17 rfl rfl)
theorem dX5_led_40 : decode cX5_led 40 = .ok (.iaload, 1) := dk_46 (dk_at dksX5_led_1 18 rfl rfl)
theorem dX5_led_41 : decode cX5_led 41 = .ok (.ireturn, 1) := dk_172 (dk_at dksX5_led_1 19 rfl rfl)
abbrev cX5_light : ByteArray := prog_23_method_55_code
def yX5_light : MethodName := ⟨RX5, "light", "(II)I"⟩
def dkwX5_light_1 : List UInt8 := [182, 1, 67, 172, 42, 182, 1, 136, 42, 180, 0, 131, 16, 24, 27, 104, 28, 96, 46, 172]
abbrev dktX5_light_1 : List UInt8 := dkwX5_light_1 ++ []
def dkwX5_light_0 : List UInt8 := [42, 3, 181, 0, 194, 42, 27, 182, 1, 120, 153, 0, 10, 28, 184, 1, 129, 154, 0, 9, 42, 4]
abbrev dktX5_light_0 : List UInt8 := dkwX5_light_0 ++ dktX5_light_1
theorem dksX5_light_0 : cX5_light.data.toList.drop 0 = dktX5_light_0 := by decide +kernel
theorem dksX5_light_1 : cX5_light.data.toList.drop 22 = dktX5_light_1 := dk_seg dksX5_light_0 22 rfl rfl
theorem dX5_light_0 : decode cX5_light 0 = .ok (.aload_n 0, 1) := dk_42 (dk_at dksX5_light_0 0 rfl rfl)
theorem dX5_light_1 : decode cX5_light 1 = .ok (.iconst 0, 1) := dk_3 (dk_at dksX5_light_0 1 rfl rfl)
theorem dX5_light_2 : decode cX5_light 2 = .ok (.putfield 194, 3) := dk_181 0 194 (dk_at dksX5_light_0 2 rfl rfl)
theorem dX5_light_5 : decode cX5_light 5 = .ok (.aload_n 0, 1) := dk_42 (dk_at dksX5_light_0 5 rfl rfl)
theorem dX5_light_6 : decode cX5_light 6 = .ok (.iload_n 1, 1) := dk_27 (dk_at dksX5_light_0 6 rfl rfl)
theorem dX5_light_7 : decode cX5_light 7 = .ok (.invokevirtual 376, 3) := dk_182 1 120 (dk_at dksX5_light_0 7 rfl rfl)
theorem dX5_light_10 : decode cX5_light 10 = .ok (.ifCond .eq 10, 3) := dk_153 0 10 (dk_at dksX5_light_0 10 rfl rfl)
theorem dX5_light_13 : decode cX5_light 13 = .ok (.iload_n 2, 1) := dk_28 (dk_at dksX5_light_0 13 rfl rfl)
theorem dX5_light_14 : decode cX5_light 14 = .ok (.invokestatic 385, 3) := dk_184 1 129 (dk_at dksX5_light_0 14 rfl rfl)
theorem dX5_light_17 : decode cX5_light 17 = .ok (.ifCond .ne 9, 3) := dk_154 0 9 (dk_at dksX5_light_0 17 rfl rfl)
theorem dX5_light_20 : decode cX5_light 20 = .ok (.aload_n 0, 1) := dk_42 (dk_at dksX5_light_0 20 rfl rfl)
theorem dX5_light_21 : decode cX5_light 21 = .ok (.iconst 1, 1) := dk_4 (dk_at dksX5_light_0 21 rfl rfl)
theorem dX5_light_22 : decode cX5_light 22 = .ok (.invokevirtual 323, 3) := dk_182 1 67 (dk_at dksX5_light_1 0 rfl rfl)
theorem dX5_light_25 : decode cX5_light 25 = .ok (.ireturn, 1) := dk_172 (dk_at dksX5_light_1 3 rfl rfl)
theorem dX5_light_26 : decode cX5_light 26 = .ok (.aload_n 0, 1) := dk_42 (dk_at dksX5_light_1 4 rfl rfl)
theorem dX5_light_27 : decode cX5_light 27 = .ok (.invokevirtual 392, 3) := dk_182 1 136 (dk_at dksX5_light_1 5 rfl rfl)
theorem dX5_light_30 : decode cX5_light 30 = .ok (.aload_n 0, 1) := dk_42 (dk_at dksX5_light_1 8 rfl rfl)
theorem dX5_light_31 : decode cX5_light 31 = .ok (.getfield 131, 3) := dk_180 0 131 (dk_at dksX5_light_1 9 rfl rfl)
theorem dX5_light_34 : decode cX5_light 34 = .ok (.bipush 24, 2) := dk_16 24 (dk_at dksX5_light_1 12 rfl rfl)
theorem dX5_light_36 : decode cX5_light 36 = .ok (.iload_n 1, 1) := dk_27 (dk_at dksX5_light_1 14 rfl rfl)
theorem dX5_light_37 : decode cX5_light 37 = .ok (.imul, 1) := dk_104 (dk_at dksX5_light_1 15 rfl rfl)
theorem dX5_light_38 : decode cX5_light 38 = .ok (.iload_n 2, 1) := dk_28 (dk_at dksX5_light_1 16 rfl rfl)
theorem dX5_light_39 : decode cX5_light 39 = .ok (.iadd, 1) := dk_96 (dk_at dksX5_light_1 17 rfl rfl)
theorem dX5_light_40 : decode cX5_light 40 = .ok (.iaload, 1) := dk_46 (dk_at dksX5_light_1 18 rfl rfl)
theorem dX5_light_41 : decode cX5_light 41 = .ok (.ireturn, 1) := dk_172 (dk_at dksX5_light_1 19 rfl rfl)
abbrev cX5_at : ByteArray := prog_23_method_62_code
def yX5_at : MethodName := ⟨RX5, "at", "(II)I"⟩
def dkwX5_at_1 : List UInt8 := [4, 182, 1, 67, 172, 42, 182, 1, 136, 42, 27, 182, 1, 155, 42, 180, 0, 140, 28, 46, 172]
abbrev dktX5_at_1 : List UInt8 := dkwX5_at_1 ++ []
def dkwX5_at_0 : List UInt8 := [42, 3, 181, 0, 194, 42, 27, 182, 1, 126, 153, 0, 13, 28, 3, 16, 24, 184, 0, 197, 154, 0, 9, 42]
abbrev dktX5_at_0 : List UInt8 := dkwX5_at_0 ++ dktX5_at_1
theorem dksX5_at_0 : cX5_at.data.toList.drop 0 = dktX5_at_0 := by decide +kernel
theorem dksX5_at_1 : cX5_at.data.toList.drop 24 = dktX5_at_1 := dk_seg dksX5_at_0 24 rfl rfl
theorem dX5_at_0 : decode cX5_at 0 = .ok (.aload_n 0, 1) := dk_42 (dk_at dksX5_at_0 0 rfl rfl)
theorem dX5_at_1 : decode cX5_at 1 = .ok (.iconst 0, 1) := dk_3 (dk_at dksX5_at_0 1 rfl rfl)
theorem dX5_at_2 : decode cX5_at 2 = .ok (.putfield 194, 3) := dk_181 0 194 (dk_at dksX5_at_0 2 rfl rfl)
theorem dX5_at_5 : decode cX5_at 5 = .ok (.aload_n 0, 1) := dk_42 (dk_at dksX5_at_0 5 rfl rfl)
theorem dX5_at_6 : decode cX5_at 6 = .ok (.iload_n 1, 1) := dk_27 (dk_at dksX5_at_0 6 rfl rfl)
theorem dX5_at_7 : decode cX5_at 7 = .ok (.invokevirtual 382, 3) := dk_182 1 126 (dk_at dksX5_at_0 7 rfl rfl)
theorem dX5_at_10 : decode cX5_at 10 = .ok (.ifCond .eq 13, 3) := dk_153 0 13 (dk_at dksX5_at_0 10 rfl rfl)
theorem dX5_at_13 : decode cX5_at 13 = .ok (.iload_n 2, 1) := dk_28 (dk_at dksX5_at_0 13 rfl rfl)
theorem dX5_at_14 : decode cX5_at 14 = .ok (.iconst 0, 1) := dk_3 (dk_at dksX5_at_0 14 rfl rfl)
theorem dX5_at_15 : decode cX5_at 15 = .ok (.bipush 24, 2) := dk_16 24 (dk_at dksX5_at_0 15 rfl rfl)
theorem dX5_at_17 : decode cX5_at 17 = .ok (.invokestatic 197, 3) := dk_184 0 197 (dk_at dksX5_at_0 17 rfl rfl)
theorem dX5_at_20 : decode cX5_at 20 = .ok (.ifCond .ne 9, 3) := dk_154 0 9 (dk_at dksX5_at_0 20 rfl rfl)
theorem dX5_at_23 : decode cX5_at 23 = .ok (.aload_n 0, 1) := dk_42 (dk_at dksX5_at_0 23 rfl rfl)
theorem dX5_at_24 : decode cX5_at 24 = .ok (.iconst 1, 1) := dk_4 (dk_at dksX5_at_1 0 rfl rfl)
theorem dX5_at_25 : decode cX5_at 25 = .ok (.invokevirtual 323, 3) := dk_182 1 67 (dk_at dksX5_at_1 1 rfl rfl)
theorem dX5_at_28 : decode cX5_at 28 = .ok (.ireturn, 1) := dk_172 (dk_at dksX5_at_1 4 rfl rfl)
theorem dX5_at_29 : decode cX5_at 29 = .ok (.aload_n 0, 1) := dk_42 (dk_at dksX5_at_1 5 rfl rfl)
theorem dX5_at_30 : decode cX5_at 30 = .ok (.invokevirtual 392, 3) := dk_182 1 136 (dk_at dksX5_at_1 6 rfl rfl)
theorem dX5_at_33 : decode cX5_at 33 = .ok (.aload_n 0, 1) := dk_42 (dk_at dksX5_at_1 9 rfl rfl)
theorem dX5_at_34 : decode cX5_at 34 = .ok (.iload_n 1, 1) := dk_27 (dk_at dksX5_at_1 10 rfl rfl)
theorem dX5_at_35 : decode cX5_at 35 = .ok (.invokevirtual 411, 3) := dk_182 1 155 (dk_at dksX5_at_1 11 rfl rfl)
theorem dX5_at_38 : decode cX5_at 38 = .ok (.aload_n 0, 1) := dk_42 (dk_at dksX5_at_1 14 rfl rfl)
theorem dX5_at_39 : decode cX5_at 39 = .ok (.getfield 140, 3) := dk_180 0 140 (dk_at dksX5_at_1 15 rfl rfl)
theorem dX5_at_42 : decode cX5_at 42 = .ok (.iload_n 2, 1) := dk_28 (dk_at dksX5_at_1 18 rfl rfl)
theorem dX5_at_43 : decode cX5_at 43 = .ok (.iaload, 1) := dk_46 (dk_at dksX5_at_1 19 rfl rfl)
theorem dX5_at_44 : decode cX5_at 44 = .ok (.ireturn, 1) := dk_172 (dk_at dksX5_at_1 20 rfl rfl)
abbrev cX5_sail : ByteArray := prog_23_method_61_code
def yX5_sail : MethodName := ⟨RX5, "sail", "(I)V"⟩
def dkwX5_sail_4 : List UInt8 := [167, 0, 4, 29, 79, 132, 2, 1, 167, 255, 205, 177]
abbrev dktX5_sail_4 : List UInt8 := dkwX5_sail_4 ++ []
def dkwX5_sail_3 : List UInt8 := [180, 0, 140, 28, 4, 96, 42, 180, 0, 76, 27, 46, 4, 160, 0, 13, 42, 27, 29, 28, 182, 1, 152]
abbrev dktX5_sail_3 : List UInt8 := dkwX5_sail_3 ++ dktX5_sail_4
def dkwX5_sail_2 : List UInt8 := [27, 46, 61, 28, 16, 24, 162, 0, 51, 42, 27, 42, 180, 0, 140, 28, 46, 28, 182, 1, 152, 62, 42]
abbrev dktX5_sail_2 : List UInt8 := dkwX5_sail_2 ++ dktX5_sail_3
def dkwX5_sail_1 : List UInt8 := [162, 0, 7, 2, 167, 0, 9, 42, 180, 0, 79, 27, 46, 79, 132, 2, 1, 167, 255, 217, 42, 180, 0, 82]
abbrev dktX5_sail_1 : List UInt8 := dkwX5_sail_1 ++ dktX5_sail_2
def dkwX5_sail_0 : List UInt8 := [3, 61, 28, 42, 180, 0, 82, 27, 46, 163, 0, 35, 42, 180, 0, 140, 28, 28, 42, 180, 0, 82, 27, 46]
abbrev dktX5_sail_0 : List UInt8 := dkwX5_sail_0 ++ dktX5_sail_1
theorem dksX5_sail_0 : cX5_sail.data.toList.drop 0 = dktX5_sail_0 := by decide +kernel
theorem dksX5_sail_1 : cX5_sail.data.toList.drop 24 = dktX5_sail_1 := dk_seg dksX5_sail_0 24 rfl rfl
theorem dksX5_sail_2 : cX5_sail.data.toList.drop 48 = dktX5_sail_2 := dk_seg dksX5_sail_1 24 rfl rfl
theorem dksX5_sail_3 : cX5_sail.data.toList.drop 71 = dktX5_sail_3 := dk_seg dksX5_sail_2 23 rfl rfl
theorem dksX5_sail_4 : cX5_sail.data.toList.drop 94 = dktX5_sail_4 := dk_seg dksX5_sail_3 23 rfl rfl
theorem dX5_sail_0 : decode cX5_sail 0 = .ok (.iconst 0, 1) := dk_3 (dk_at dksX5_sail_0 0 rfl rfl)
theorem dX5_sail_1 : decode cX5_sail 1 = .ok (.istore_n 2, 1) := dk_61 (dk_at dksX5_sail_0 1 rfl rfl)
theorem dX5_sail_2 : decode cX5_sail 2 = .ok (.iload_n 2, 1) := dk_28 (dk_at dksX5_sail_0 2 rfl rfl)
theorem dX5_sail_3 : decode cX5_sail 3 = .ok (.aload_n 0, 1) := dk_42 (dk_at dksX5_sail_0 3 rfl rfl)
theorem dX5_sail_4 : decode cX5_sail 4 = .ok (.getfield 82, 3) := dk_180 0 82 (dk_at dksX5_sail_0 4 rfl rfl)
theorem dX5_sail_7 : decode cX5_sail 7 = .ok (.iload_n 1, 1) := dk_27 (dk_at dksX5_sail_0 7 rfl rfl)
theorem dX5_sail_8 : decode cX5_sail 8 = .ok (.iaload, 1) := dk_46 (dk_at dksX5_sail_0 8 rfl rfl)
theorem dX5_sail_9 : decode cX5_sail 9 = .ok (.if_icmp .gt 35, 3) := dk_163 0 35 (dk_at dksX5_sail_0 9 rfl rfl)
theorem dX5_sail_12 : decode cX5_sail 12 = .ok (.aload_n 0, 1) := dk_42 (dk_at dksX5_sail_0 12 rfl rfl)
theorem dX5_sail_13 : decode cX5_sail 13 = .ok (.getfield 140, 3) := dk_180 0 140 (dk_at dksX5_sail_0 13 rfl rfl)
theorem dX5_sail_16 : decode cX5_sail 16 = .ok (.iload_n 2, 1) := dk_28 (dk_at dksX5_sail_0 16 rfl rfl)
theorem dX5_sail_17 : decode cX5_sail 17 = .ok (.iload_n 2, 1) := dk_28 (dk_at dksX5_sail_0 17 rfl rfl)
theorem dX5_sail_18 : decode cX5_sail 18 = .ok (.aload_n 0, 1) := dk_42 (dk_at dksX5_sail_0 18 rfl rfl)
theorem dX5_sail_19 : decode cX5_sail 19 = .ok (.getfield 82, 3) := dk_180 0 82 (dk_at dksX5_sail_0 19 rfl rfl)
theorem dX5_sail_22 : decode cX5_sail 22 = .ok (.iload_n 1, 1) := dk_27 (dk_at dksX5_sail_0 22 rfl rfl)
theorem dX5_sail_23 : decode cX5_sail 23 = .ok (.iaload, 1) := dk_46 (dk_at dksX5_sail_0 23 rfl rfl)
theorem dX5_sail_24 : decode cX5_sail 24 = .ok (.if_icmp .ge 7, 3) := dk_162 0 7 (dk_at dksX5_sail_1 0 rfl rfl)
theorem dX5_sail_27 : decode cX5_sail 27 = .ok (.iconst (-1), 1) := dk_2 (dk_at dksX5_sail_1 3 rfl rfl)
theorem dX5_sail_28 : decode cX5_sail 28 = .ok (.goto 9, 3) := dk_167 0 9 (dk_at dksX5_sail_1 4 rfl rfl)
theorem dX5_sail_31 : decode cX5_sail 31 = .ok (.aload_n 0, 1) := dk_42 (dk_at dksX5_sail_1 7 rfl rfl)
theorem dX5_sail_32 : decode cX5_sail 32 = .ok (.getfield 79, 3) := dk_180 0 79 (dk_at dksX5_sail_1 8 rfl rfl)
theorem dX5_sail_35 : decode cX5_sail 35 = .ok (.iload_n 1, 1) := dk_27 (dk_at dksX5_sail_1 11 rfl rfl)
theorem dX5_sail_36 : decode cX5_sail 36 = .ok (.iaload, 1) := dk_46 (dk_at dksX5_sail_1 12 rfl rfl)
theorem dX5_sail_37 : decode cX5_sail 37 = .ok (.iastore, 1) := dk_79 (dk_at dksX5_sail_1 13 rfl rfl)
theorem dX5_sail_38 : decode cX5_sail 38 = .ok (.iinc 2 1, 3) := dk_132 2 1 (dk_at dksX5_sail_1 14 rfl rfl)
theorem dX5_sail_41 : decode cX5_sail 41 = .ok (.goto (-39), 3) := dk_167 255 217 (dk_at dksX5_sail_1 17 rfl rfl)
theorem dX5_sail_44 : decode cX5_sail 44 = .ok (.aload_n 0, 1) := dk_42 (dk_at dksX5_sail_1 20 rfl rfl)
theorem dX5_sail_45 : decode cX5_sail 45 = .ok (.getfield 82, 3) := dk_180 0 82 (dk_at dksX5_sail_1 21 rfl rfl)
theorem dX5_sail_48 : decode cX5_sail 48 = .ok (.iload_n 1, 1) := dk_27 (dk_at dksX5_sail_2 0 rfl rfl)
theorem dX5_sail_49 : decode cX5_sail 49 = .ok (.iaload, 1) := dk_46 (dk_at dksX5_sail_2 1 rfl rfl)
theorem dX5_sail_50 : decode cX5_sail 50 = .ok (.istore_n 2, 1) := dk_61 (dk_at dksX5_sail_2 2 rfl rfl)
theorem dX5_sail_51 : decode cX5_sail 51 = .ok (.iload_n 2, 1) := dk_28 (dk_at dksX5_sail_2 3 rfl rfl)
theorem dX5_sail_52 : decode cX5_sail 52 = .ok (.bipush 24, 2) := dk_16 24 (dk_at dksX5_sail_2 4 rfl rfl)
theorem dX5_sail_54 : decode cX5_sail 54 = .ok (.if_icmp .ge 51, 3) := dk_162 0 51 (dk_at dksX5_sail_2 6 rfl rfl)
theorem dX5_sail_57 : decode cX5_sail 57 = .ok (.aload_n 0, 1) := dk_42 (dk_at dksX5_sail_2 9 rfl rfl)
theorem dX5_sail_58 : decode cX5_sail 58 = .ok (.iload_n 1, 1) := dk_27 (dk_at dksX5_sail_2 10 rfl rfl)
theorem dX5_sail_59 : decode cX5_sail 59 = .ok (.aload_n 0, 1) := dk_42 (dk_at dksX5_sail_2 11 rfl rfl)
theorem dX5_sail_60 : decode cX5_sail 60 = .ok (.getfield 140, 3) := dk_180 0 140 (dk_at dksX5_sail_2 12 rfl rfl)
theorem dX5_sail_63 : decode cX5_sail 63 = .ok (.iload_n 2, 1) := dk_28 (dk_at dksX5_sail_2 15 rfl rfl)
theorem dX5_sail_64 : decode cX5_sail 64 = .ok (.iaload, 1) := dk_46 (dk_at dksX5_sail_2 16 rfl rfl)
theorem dX5_sail_65 : decode cX5_sail 65 = .ok (.iload_n 2, 1) := dk_28 (dk_at dksX5_sail_2 17 rfl rfl)
theorem dX5_sail_66 : decode cX5_sail 66 = .ok (.invokevirtual 408, 3) := dk_182 1 152 (dk_at dksX5_sail_2 18 rfl rfl)
theorem dX5_sail_69 : decode cX5_sail 69 = .ok (.istore_n 3, 1) := dk_62 (dk_at dksX5_sail_2 21 rfl rfl)
theorem dX5_sail_70 : decode cX5_sail 70 = .ok (.aload_n 0, 1) := dk_42 (dk_at dksX5_sail_2 22 rfl rfl)
theorem dX5_sail_71 : decode cX5_sail 71 = .ok (.getfield 140, 3) := dk_180 0 140 (dk_at dksX5_sail_3 0 rfl rfl)
theorem dX5_sail_74 : decode cX5_sail 74 = .ok (.iload_n 2, 1) := dk_28 (dk_at dksX5_sail_3 3 rfl rfl)
theorem dX5_sail_75 : decode cX5_sail 75 = .ok (.iconst 1, 1) := dk_4 (dk_at dksX5_sail_3 4 rfl rfl)
theorem dX5_sail_76 : decode cX5_sail 76 = .ok (.iadd, 1) := dk_96 (dk_at dksX5_sail_3 5 rfl rfl)
theorem dX5_sail_77 : decode cX5_sail 77 = .ok (.aload_n 0, 1) := dk_42 (dk_at dksX5_sail_3 6 rfl rfl)
theorem dX5_sail_78 : decode cX5_sail 78 = .ok (.getfield 76, 3) := dk_180 0 76 (dk_at dksX5_sail_3 7 rfl rfl)
theorem dX5_sail_81 : decode cX5_sail 81 = .ok (.iload_n 1, 1) := dk_27 (dk_at dksX5_sail_3 10 rfl rfl)
theorem dX5_sail_82 : decode cX5_sail 82 = .ok (.iaload, 1) := dk_46 (dk_at dksX5_sail_3 11 rfl rfl)
theorem dX5_sail_83 : decode cX5_sail 83 = .ok (.iconst 1, 1) := dk_4 (dk_at dksX5_sail_3 12 rfl rfl)
theorem dX5_sail_84 : decode cX5_sail 84 = .ok (.if_icmp .ne 13, 3) := dk_160 0 13 (dk_at dksX5_sail_3 13 rfl rfl)
theorem dX5_sail_87 : decode cX5_sail 87 = .ok (.aload_n 0, 1) := dk_42 (dk_at dksX5_sail_3 16 rfl rfl)
theorem dX5_sail_88 : decode cX5_sail 88 = .ok (.iload_n 1, 1) := dk_27 (dk_at dksX5_sail_3 17 rfl rfl)
theorem dX5_sail_89 : decode cX5_sail 89 = .ok (.iload_n 3, 1) := dk_29 (dk_at dksX5_sail_3 18 rfl rfl)
theorem dX5_sail_90 : decode cX5_sail 90 = .ok (.iload_n 2, 1) := dk_28 (dk_at dksX5_sail_3 19 rfl rfl)
theorem dX5_sail_91 : decode cX5_sail 91 = .ok (.invokevirtual 408, 3) := dk_182 1 152 (dk_at dksX5_sail_3 20 rfl rfl)
theorem dX5_sail_94 : decode cX5_sail 94 = .ok (.goto 4, 3) := dk_167 0 4 (dk_at dksX5_sail_4 0 rfl rfl)
theorem dX5_sail_97 : decode cX5_sail 97 = .ok (.iload_n 3, 1) := dk_29 (dk_at dksX5_sail_4 3 rfl rfl)
theorem dX5_sail_98 : decode cX5_sail 98 = .ok (.iastore, 1) := dk_79 (dk_at dksX5_sail_4 4 rfl rfl)
theorem dX5_sail_99 : decode cX5_sail 99 = .ok (.iinc 2 1, 3) := dk_132 2 1 (dk_at dksX5_sail_4 5 rfl rfl)
theorem dX5_sail_102 : decode cX5_sail 102 = .ok (.goto (-51), 3) := dk_167 255 205 (dk_at dksX5_sail_4 8 rfl rfl)
theorem dX5_sail_105 : decode cX5_sail 105 = .ok (.return_, 1) := dk_177 (dk_at dksX5_sail_4 11 rfl rfl)
abbrev cX5_nextOf : ByteArray := prog_23_method_60_code
def yX5_nextOf : MethodName := ⟨RX5, "nextOf", "(III)I"⟩
def dkwX5_nextOf_3 : List UInt8 := [21, 7, 54, 5, 21, 6, 54, 4, 132, 6, 1, 167, 255, 197, 21, 4, 172]
abbrev dktX5_nextOf_3 : List UInt8 := dkwX5_nextOf_3 ++ []
def dkwX5_nextOf_2 : List UInt8 := [167, 0, 31, 42, 27, 21, 6, 29, 182, 1, 148, 54, 7, 21, 7, 21, 5, 163, 0, 6, 167, 0, 11]
abbrev dktX5_nextOf_2 : List UInt8 := dkwX5_nextOf_2 ++ dktX5_nextOf_3
def dkwX5_nextOf_1 : List UInt8 := [180, 0, 45, 3, 46, 162, 0, 54, 42, 180, 0, 58, 28, 46, 21, 6, 122, 4, 126, 154, 0, 6]
abbrev dktX5_nextOf_1 : List UInt8 := dkwX5_nextOf_1 ++ dktX5_nextOf_2
def dkwX5_nextOf_0 : List UInt8 := [42, 28, 182, 1, 145, 153, 0, 5, 28, 172, 28, 54, 4, 2, 54, 5, 3, 54, 6, 21, 6, 42]
abbrev dktX5_nextOf_0 : List UInt8 := dkwX5_nextOf_0 ++ dktX5_nextOf_1
theorem dksX5_nextOf_0 : cX5_nextOf.data.toList.drop 0 = dktX5_nextOf_0 := by decide +kernel
theorem dksX5_nextOf_1 : cX5_nextOf.data.toList.drop 22 = dktX5_nextOf_1 := dk_seg dksX5_nextOf_0 22 rfl rfl
theorem dksX5_nextOf_2 : cX5_nextOf.data.toList.drop 44 = dktX5_nextOf_2 := dk_seg dksX5_nextOf_1 22 rfl rfl
theorem dksX5_nextOf_3 : cX5_nextOf.data.toList.drop 67 = dktX5_nextOf_3 := dk_seg dksX5_nextOf_2 23 rfl rfl
theorem dX5_nextOf_0 : decode cX5_nextOf 0 = .ok (.aload_n 0, 1) := dk_42 (dk_at dksX5_nextOf_0 0 rfl rfl)
theorem dX5_nextOf_1 : decode cX5_nextOf 1 = .ok (.iload_n 2, 1) := dk_28 (dk_at dksX5_nextOf_0 1 rfl rfl)
theorem dX5_nextOf_2 : decode cX5_nextOf 2 = .ok (.invokevirtual 401, 3) := dk_182 1 145 (dk_at dksX5_nextOf_0 2 rfl rfl)
theorem dX5_nextOf_5 : decode cX5_nextOf 5 = .ok (.ifCond .eq 5, 3) := dk_153 0 5 (dk_at dksX5_nextOf_0 5 rfl rfl)
theorem dX5_nextOf_8 : decode cX5_nextOf 8 = .ok (.iload_n 2, 1) := dk_28 (dk_at dksX5_nextOf_0 8 rfl rfl)
theorem dX5_nextOf_9 : decode cX5_nextOf 9 = .ok (.ireturn, 1) := dk_172 (dk_at dksX5_nextOf_0 9 rfl rfl)
theorem dX5_nextOf_10 : decode cX5_nextOf 10 = .ok (.iload_n 2, 1) := dk_28 (dk_at dksX5_nextOf_0 10 rfl rfl)
theorem dX5_nextOf_11 : decode cX5_nextOf 11 = .ok (.istore 4, 2) := dk_54 4 (dk_at dksX5_nextOf_0 11 rfl rfl)
theorem dX5_nextOf_13 : decode cX5_nextOf 13 = .ok (.iconst (-1), 1) := dk_2 (dk_at dksX5_nextOf_0 13 rfl rfl)
theorem dX5_nextOf_14 : decode cX5_nextOf 14 = .ok (.istore 5, 2) := dk_54 5 (dk_at dksX5_nextOf_0 14 rfl rfl)
theorem dX5_nextOf_16 : decode cX5_nextOf 16 = .ok (.iconst 0, 1) := dk_3 (dk_at dksX5_nextOf_0 16 rfl rfl)
theorem dX5_nextOf_17 : decode cX5_nextOf 17 = .ok (.istore 6, 2) := dk_54 6 (dk_at dksX5_nextOf_0 17 rfl rfl)
theorem dX5_nextOf_19 : decode cX5_nextOf 19 = .ok (.iload 6, 2) := dk_21 6 (dk_at dksX5_nextOf_0 19 rfl rfl)
theorem dX5_nextOf_21 : decode cX5_nextOf 21 = .ok (.aload_n 0, 1) := dk_42 (dk_at dksX5_nextOf_0 21 rfl rfl)
theorem dX5_nextOf_22 : decode cX5_nextOf 22 = .ok (.getfield 45, 3) := dk_180 0 45 (dk_at dksX5_nextOf_1 0 rfl rfl)
theorem dX5_nextOf_25 : decode cX5_nextOf 25 = .ok (.iconst 0, 1) := dk_3 (dk_at dksX5_nextOf_1 3 rfl rfl)
theorem dX5_nextOf_26 : decode cX5_nextOf 26 = .ok (.iaload, 1) := dk_46 (dk_at dksX5_nextOf_1 4 rfl rfl)
theorem dX5_nextOf_27 : decode cX5_nextOf 27 = .ok (.if_icmp .ge 54, 3) := dk_162 0 54 (dk_at dksX5_nextOf_1 5 rfl rfl)
theorem dX5_nextOf_30 : decode cX5_nextOf 30 = .ok (.aload_n 0, 1) := dk_42 (dk_at dksX5_nextOf_1 8 rfl rfl)
theorem dX5_nextOf_31 : decode cX5_nextOf 31 = .ok (.getfield 58, 3) := dk_180 0 58 (dk_at dksX5_nextOf_1 9 rfl rfl)
theorem dX5_nextOf_34 : decode cX5_nextOf 34 = .ok (.iload_n 2, 1) := dk_28 (dk_at dksX5_nextOf_1 12 rfl rfl)
theorem dX5_nextOf_35 : decode cX5_nextOf 35 = .ok (.iaload, 1) := dk_46 (dk_at dksX5_nextOf_1 13 rfl rfl)
theorem dX5_nextOf_36 : decode cX5_nextOf 36 = .ok (.iload 6, 2) := dk_21 6 (dk_at dksX5_nextOf_1 14 rfl rfl)
theorem dX5_nextOf_38 : decode cX5_nextOf 38 = .ok (.ishr, 1) := dk_122 (dk_at dksX5_nextOf_1 16 rfl rfl)
theorem dX5_nextOf_39 : decode cX5_nextOf 39 = .ok (.iconst 1, 1) := dk_4 (dk_at dksX5_nextOf_1 17 rfl rfl)
theorem dX5_nextOf_40 : decode cX5_nextOf 40 = .ok (.iand, 1) := dk_126 (dk_at dksX5_nextOf_1 18 rfl rfl)
theorem dX5_nextOf_41 : decode cX5_nextOf 41 = .ok (.ifCond .ne 6, 3) := dk_154 0 6 (dk_at dksX5_nextOf_1 19 rfl rfl)
theorem dX5_nextOf_44 : decode cX5_nextOf 44 = .ok (.goto 31, 3) := dk_167 0 31 (dk_at dksX5_nextOf_2 0 rfl rfl)
theorem dX5_nextOf_47 : decode cX5_nextOf 47 = .ok (.aload_n 0, 1) := dk_42 (dk_at dksX5_nextOf_2 3 rfl rfl)
theorem dX5_nextOf_48 : decode cX5_nextOf 48 = .ok (.iload_n 1, 1) := dk_27 (dk_at dksX5_nextOf_2 4 rfl rfl)
theorem dX5_nextOf_49 : decode cX5_nextOf 49 = .ok (.iload 6, 2) := dk_21 6 (dk_at dksX5_nextOf_2 5 rfl rfl)
theorem dX5_nextOf_51 : decode cX5_nextOf 51 = .ok (.iload_n 3, 1) := dk_29 (dk_at dksX5_nextOf_2 7 rfl rfl)
theorem dX5_nextOf_52 : decode cX5_nextOf 52 = .ok (.invokevirtual 404, 3) := dk_182 1 148 (dk_at dksX5_nextOf_2 8 rfl rfl)
theorem dX5_nextOf_55 : decode cX5_nextOf 55 = .ok (.istore 7, 2) := dk_54 7 (dk_at dksX5_nextOf_2 11 rfl rfl)
theorem dX5_nextOf_57 : decode cX5_nextOf 57 = .ok (.iload 7, 2) := dk_21 7 (dk_at dksX5_nextOf_2 13 rfl rfl)
theorem dX5_nextOf_59 : decode cX5_nextOf 59 = .ok (.iload 5, 2) := dk_21 5 (dk_at dksX5_nextOf_2 15 rfl rfl)
theorem dX5_nextOf_61 : decode cX5_nextOf 61 = .ok (.if_icmp .gt 6, 3) := dk_163 0 6 (dk_at dksX5_nextOf_2 17 rfl rfl)
theorem dX5_nextOf_64 : decode cX5_nextOf 64 = .ok (.goto 11, 3) := dk_167 0 11 (dk_at dksX5_nextOf_2 20 rfl rfl)
theorem dX5_nextOf_67 : decode cX5_nextOf 67 = .ok (.iload 7, 2) := dk_21 7 (dk_at dksX5_nextOf_3 0 rfl rfl)
theorem dX5_nextOf_69 : decode cX5_nextOf 69 = .ok (.istore 5, 2) := dk_54 5 (dk_at dksX5_nextOf_3 2 rfl rfl)
theorem dX5_nextOf_71 : decode cX5_nextOf 71 = .ok (.iload 6, 2) := dk_21 6 (dk_at dksX5_nextOf_3 4 rfl rfl)
theorem dX5_nextOf_73 : decode cX5_nextOf 73 = .ok (.istore 4, 2) := dk_54 4 (dk_at dksX5_nextOf_3 6 rfl rfl)
theorem dX5_nextOf_75 : decode cX5_nextOf 75 = .ok (.iinc 6 1, 3) := dk_132 6 1 (dk_at dksX5_nextOf_3 8 rfl rfl)
theorem dX5_nextOf_78 : decode cX5_nextOf 78 = .ok (.goto (-59), 3) := dk_167 255 197 (dk_at dksX5_nextOf_3 11 rfl rfl)
theorem dX5_nextOf_81 : decode cX5_nextOf 81 = .ok (.iload 4, 2) := dk_21 4 (dk_at dksX5_nextOf_3 14 rfl rfl)
theorem dX5_nextOf_83 : decode cX5_nextOf 83 = .ok (.ireturn, 1) := dk_172 (dk_at dksX5_nextOf_3 16 rfl rfl)
abbrev cX5_stays : ByteArray := prog_23_method_56_code
def yX5_stays : MethodName := ⟨RX5, "stays", "(I)Z"⟩
def dkwX5_stays_1 : List UInt8 := [3, 172]
abbrev dktX5_stays_1 : List UInt8 := dkwX5_stays_1 ++ []
def dkwX5_stays_0 : List UInt8 := [42, 180, 0, 49, 27, 46, 6, 159, 0, 13, 42, 180, 0, 49, 27, 46, 5, 160, 0, 7, 4, 167, 0, 4]
abbrev dktX5_stays_0 : List UInt8 := dkwX5_stays_0 ++ dktX5_stays_1
theorem dksX5_stays_0 : cX5_stays.data.toList.drop 0 = dktX5_stays_0 := by decide +kernel
theorem dksX5_stays_1 : cX5_stays.data.toList.drop 24 = dktX5_stays_1 := dk_seg dksX5_stays_0 24 rfl rfl
theorem dX5_stays_0 : decode cX5_stays 0 = .ok (.aload_n 0, 1) := dk_42 (dk_at dksX5_stays_0 0 rfl rfl)
theorem dX5_stays_1 : decode cX5_stays 1 = .ok (.getfield 49, 3) := dk_180 0 49 (dk_at dksX5_stays_0 1 rfl rfl)
theorem dX5_stays_4 : decode cX5_stays 4 = .ok (.iload_n 1, 1) := dk_27 (dk_at dksX5_stays_0 4 rfl rfl)
theorem dX5_stays_5 : decode cX5_stays 5 = .ok (.iaload, 1) := dk_46 (dk_at dksX5_stays_0 5 rfl rfl)
theorem dX5_stays_6 : decode cX5_stays 6 = .ok (.iconst 3, 1) := dk_6 (dk_at dksX5_stays_0 6 rfl rfl)
theorem dX5_stays_7 : decode cX5_stays 7 = .ok (.if_icmp .eq 13, 3) := dk_159 0 13 (dk_at dksX5_stays_0 7 rfl rfl)
theorem dX5_stays_10 : decode cX5_stays 10 = .ok (.aload_n 0, 1) := dk_42 (dk_at dksX5_stays_0 10 rfl rfl)
theorem dX5_stays_11 : decode cX5_stays 11 = .ok (.getfield 49, 3) := dk_180 0 49 (dk_at dksX5_stays_0 11 rfl rfl)
theorem dX5_stays_14 : decode cX5_stays 14 = .ok (.iload_n 1, 1) := dk_27 (dk_at dksX5_stays_0 14 rfl rfl)
theorem dX5_stays_15 : decode cX5_stays 15 = .ok (.iaload, 1) := dk_46 (dk_at dksX5_stays_0 15 rfl rfl)
theorem dX5_stays_16 : decode cX5_stays 16 = .ok (.iconst 2, 1) := dk_5 (dk_at dksX5_stays_0 16 rfl rfl)
theorem dX5_stays_17 : decode cX5_stays 17 = .ok (.if_icmp .ne 7, 3) := dk_160 0 7 (dk_at dksX5_stays_0 17 rfl rfl)
theorem dX5_stays_20 : decode cX5_stays 20 = .ok (.iconst 1, 1) := dk_4 (dk_at dksX5_stays_0 20 rfl rfl)
theorem dX5_stays_21 : decode cX5_stays 21 = .ok (.goto 4, 3) := dk_167 0 4 (dk_at dksX5_stays_0 21 rfl rfl)
theorem dX5_stays_24 : decode cX5_stays 24 = .ok (.iconst 0, 1) := dk_3 (dk_at dksX5_stays_1 0 rfl rfl)
theorem dX5_stays_25 : decode cX5_stays 25 = .ok (.ireturn, 1) := dk_172 (dk_at dksX5_stays_1 1 rfl rfl)
abbrev cX5_draw : ByteArray := prog_23_method_59_code
def yX5_draw : MethodName := ⟨RX5, "draw", "(III)I"⟩
def dkwX5_draw_2 : List UInt8 := [29, 182, 1, 142, 153, 0, 17, 42, 180, 0, 131, 16, 24, 28, 104, 29, 96, 46, 167, 0, 4, 2, 172]
abbrev dktX5_draw_2 : List UInt8 := dkwX5_draw_2 ++ []
def dkwX5_draw_1 : List UInt8 := [100, 172, 42, 180, 0, 76, 27, 46, 6, 160, 0, 12, 42, 28, 29, 182, 1, 139, 167, 0, 28, 42, 27, 28]
abbrev dktX5_draw_1 : List UInt8 := dkwX5_draw_1 ++ dktX5_draw_2
def dkwX5_draw_0 : List UInt8 := [42, 180, 0, 76, 27, 46, 5, 160, 0, 19, 17, 3, 232, 42, 180, 0, 131, 16, 24, 28, 104, 29, 96, 46]
abbrev dktX5_draw_0 : List UInt8 := dkwX5_draw_0 ++ dktX5_draw_1
theorem dksX5_draw_0 : cX5_draw.data.toList.drop 0 = dktX5_draw_0 := by decide +kernel
theorem dksX5_draw_1 : cX5_draw.data.toList.drop 24 = dktX5_draw_1 := dk_seg dksX5_draw_0 24 rfl rfl
theorem dksX5_draw_2 : cX5_draw.data.toList.drop 48 = dktX5_draw_2 := dk_seg dksX5_draw_1 24 rfl rfl
theorem dX5_draw_0 : decode cX5_draw 0 = .ok (.aload_n 0, 1) := dk_42 (dk_at dksX5_draw_0 0 rfl rfl)
theorem dX5_draw_1 : decode cX5_draw 1 = .ok (.getfield 76, 3) := dk_180 0 76 (dk_at dksX5_draw_0 1 rfl rfl)
theorem dX5_draw_4 : decode cX5_draw 4 = .ok (.iload_n 1, 1) := dk_27 (dk_at dksX5_draw_0 4 rfl rfl)
theorem dX5_draw_5 : decode cX5_draw 5 = .ok (.iaload, 1) := dk_46 (dk_at dksX5_draw_0 5 rfl rfl)
theorem dX5_draw_6 : decode cX5_draw 6 = .ok (.iconst 2, 1) := dk_5 (dk_at dksX5_draw_0 6 rfl rfl)
theorem dX5_draw_7 : decode cX5_draw 7 = .ok (.if_icmp .ne 19, 3) := dk_160 0 19 (dk_at dksX5_draw_0 7 rfl rfl)
theorem dX5_draw_10 : decode cX5_draw 10 = .ok (.sipush 1000, 3) := dk_17 3 232 (dk_at dksX5_draw_0 10 rfl rfl)
theorem dX5_draw_13 : decode cX5_draw 13 = .ok (.aload_n 0, 1) := dk_42 (dk_at dksX5_draw_0 13 rfl rfl)
theorem dX5_draw_14 : decode cX5_draw 14 = .ok (.getfield 131, 3) := dk_180 0 131 (dk_at dksX5_draw_0 14 rfl rfl)
theorem dX5_draw_17 : decode cX5_draw 17 = .ok (.bipush 24, 2) := dk_16 24 (dk_at dksX5_draw_0 17 rfl rfl)
theorem dX5_draw_19 : decode cX5_draw 19 = .ok (.iload_n 2, 1) := dk_28 (dk_at dksX5_draw_0 19 rfl rfl)
theorem dX5_draw_20 : decode cX5_draw 20 = .ok (.imul, 1) := dk_104 (dk_at dksX5_draw_0 20 rfl rfl)
theorem dX5_draw_21 : decode cX5_draw 21 = .ok (.iload_n 3, 1) := dk_29 (dk_at dksX5_draw_0 21 rfl rfl)
theorem dX5_draw_22 : decode cX5_draw 22 = .ok (.iadd, 1) := dk_96 (dk_at dksX5_draw_0 22 rfl rfl)
theorem dX5_draw_23 : decode cX5_draw 23 = .ok (.iaload, 1) := dk_46 (dk_at dksX5_draw_0 23 rfl rfl)
theorem dX5_draw_24 : decode cX5_draw 24 = .ok (.isub, 1) := dk_100 (dk_at dksX5_draw_1 0 rfl rfl)
theorem dX5_draw_25 : decode cX5_draw 25 = .ok (.ireturn, 1) := dk_172 (dk_at dksX5_draw_1 1 rfl rfl)
theorem dX5_draw_26 : decode cX5_draw 26 = .ok (.aload_n 0, 1) := dk_42 (dk_at dksX5_draw_1 2 rfl rfl)
theorem dX5_draw_27 : decode cX5_draw 27 = .ok (.getfield 76, 3) := dk_180 0 76 (dk_at dksX5_draw_1 3 rfl rfl)
theorem dX5_draw_30 : decode cX5_draw 30 = .ok (.iload_n 1, 1) := dk_27 (dk_at dksX5_draw_1 6 rfl rfl)
theorem dX5_draw_31 : decode cX5_draw 31 = .ok (.iaload, 1) := dk_46 (dk_at dksX5_draw_1 7 rfl rfl)
theorem dX5_draw_32 : decode cX5_draw 32 = .ok (.iconst 3, 1) := dk_6 (dk_at dksX5_draw_1 8 rfl rfl)
theorem dX5_draw_33 : decode cX5_draw 33 = .ok (.if_icmp .ne 12, 3) := dk_160 0 12 (dk_at dksX5_draw_1 9 rfl rfl)
theorem dX5_draw_36 : decode cX5_draw 36 = .ok (.aload_n 0, 1) := dk_42 (dk_at dksX5_draw_1 12 rfl rfl)
theorem dX5_draw_37 : decode cX5_draw 37 = .ok (.iload_n 2, 1) := dk_28 (dk_at dksX5_draw_1 13 rfl rfl)
theorem dX5_draw_38 : decode cX5_draw 38 = .ok (.iload_n 3, 1) := dk_29 (dk_at dksX5_draw_1 14 rfl rfl)
theorem dX5_draw_39 : decode cX5_draw 39 = .ok (.invokevirtual 395, 3) := dk_182 1 139 (dk_at dksX5_draw_1 15 rfl rfl)
theorem dX5_draw_42 : decode cX5_draw 42 = .ok (.goto 28, 3) := dk_167 0 28 (dk_at dksX5_draw_1 18 rfl rfl)
theorem dX5_draw_45 : decode cX5_draw 45 = .ok (.aload_n 0, 1) := dk_42 (dk_at dksX5_draw_1 21 rfl rfl)
theorem dX5_draw_46 : decode cX5_draw 46 = .ok (.iload_n 1, 1) := dk_27 (dk_at dksX5_draw_1 22 rfl rfl)
theorem dX5_draw_47 : decode cX5_draw 47 = .ok (.iload_n 2, 1) := dk_28 (dk_at dksX5_draw_1 23 rfl rfl)
theorem dX5_draw_48 : decode cX5_draw 48 = .ok (.iload_n 3, 1) := dk_29 (dk_at dksX5_draw_2 0 rfl rfl)
theorem dX5_draw_49 : decode cX5_draw 49 = .ok (.invokevirtual 398, 3) := dk_182 1 142 (dk_at dksX5_draw_2 1 rfl rfl)
theorem dX5_draw_52 : decode cX5_draw 52 = .ok (.ifCond .eq 17, 3) := dk_153 0 17 (dk_at dksX5_draw_2 4 rfl rfl)
theorem dX5_draw_55 : decode cX5_draw 55 = .ok (.aload_n 0, 1) := dk_42 (dk_at dksX5_draw_2 7 rfl rfl)
theorem dX5_draw_56 : decode cX5_draw 56 = .ok (.getfield 131, 3) := dk_180 0 131 (dk_at dksX5_draw_2 8 rfl rfl)
theorem dX5_draw_59 : decode cX5_draw 59 = .ok (.bipush 24, 2) := dk_16 24 (dk_at dksX5_draw_2 11 rfl rfl)
theorem dX5_draw_61 : decode cX5_draw 61 = .ok (.iload_n 2, 1) := dk_28 (dk_at dksX5_draw_2 13 rfl rfl)
theorem dX5_draw_62 : decode cX5_draw 62 = .ok (.imul, 1) := dk_104 (dk_at dksX5_draw_2 14 rfl rfl)
theorem dX5_draw_63 : decode cX5_draw 63 = .ok (.iload_n 3, 1) := dk_29 (dk_at dksX5_draw_2 15 rfl rfl)
theorem dX5_draw_64 : decode cX5_draw 64 = .ok (.iadd, 1) := dk_96 (dk_at dksX5_draw_2 16 rfl rfl)
theorem dX5_draw_65 : decode cX5_draw 65 = .ok (.iaload, 1) := dk_46 (dk_at dksX5_draw_2 17 rfl rfl)
theorem dX5_draw_66 : decode cX5_draw 66 = .ok (.goto 4, 3) := dk_167 0 4 (dk_at dksX5_draw_2 18 rfl rfl)
theorem dX5_draw_69 : decode cX5_draw 69 = .ok (.iconst (-1), 1) := dk_2 (dk_at dksX5_draw_2 21 rfl rfl)
theorem dX5_draw_70 : decode cX5_draw 70 = .ok (.ireturn, 1) := dk_172 (dk_at dksX5_draw_2 22 rfl rfl)
abbrev cX5_hungersAt : ByteArray := prog_23_method_58_code
def yX5_hungersAt : MethodName := ⟨RX5, "hungersAt", "(II)I"⟩
def dkwX5_hungersAt_2 : List UInt8 := [29, 62, 132, 4, 1, 167, 255, 208, 29, 172]
abbrev dktX5_hungersAt_2 : List UInt8 := dkwX5_hungersAt_2 ++ []
def dkwX5_hungersAt_1 : List UInt8 := [160, 0, 24, 3, 29, 184, 1, 96, 42, 180, 0, 122, 16, 24, 21, 4, 104, 28, 96, 46, 96, 167, 0, 4]
abbrev dktX5_hungersAt_1 : List UInt8 := dkwX5_hungersAt_1 ++ dktX5_hungersAt_2
def dkwX5_hungersAt_0 : List UInt8 := [2, 62, 3, 54, 4, 21, 4, 42, 180, 0, 45, 4, 46, 162, 0, 43, 42, 180, 0, 67, 21, 4, 46, 27]
abbrev dktX5_hungersAt_0 : List UInt8 := dkwX5_hungersAt_0 ++ dktX5_hungersAt_1
theorem dksX5_hungersAt_0 : cX5_hungersAt.data.toList.drop 0 = dktX5_hungersAt_0 := by decide +kernel
theorem dksX5_hungersAt_1 : cX5_hungersAt.data.toList.drop 24 = dktX5_hungersAt_1 := dk_seg dksX5_hungersAt_0 24 rfl rfl
theorem dksX5_hungersAt_2 : cX5_hungersAt.data.toList.drop 48 = dktX5_hungersAt_2 := dk_seg dksX5_hungersAt_1 24 rfl rfl
theorem dX5_hungersAt_0 : decode cX5_hungersAt 0 = .ok (.iconst (-1), 1) := dk_2 (dk_at dksX5_hungersAt_0 0 rfl rfl)
theorem dX5_hungersAt_1 : decode cX5_hungersAt 1 = .ok (.istore_n 3, 1) := dk_62 (dk_at dksX5_hungersAt_0 1 rfl rfl)
theorem dX5_hungersAt_2 : decode cX5_hungersAt 2 = .ok (.iconst 0, 1) := dk_3 (dk_at dksX5_hungersAt_0 2 rfl rfl)
theorem dX5_hungersAt_3 : decode cX5_hungersAt 3 = .ok (.istore 4, 2) := dk_54 4 (dk_at dksX5_hungersAt_0 3 rfl rfl)
theorem dX5_hungersAt_5 : decode cX5_hungersAt 5 = .ok (.iload 4, 2) := dk_21 4 (dk_at dksX5_hungersAt_0 5 rfl rfl)
theorem dX5_hungersAt_7 : decode cX5_hungersAt 7 = .ok (.aload_n 0, 1) := dk_42 (dk_at dksX5_hungersAt_0 7 rfl rfl)
theorem dX5_hungersAt_8 : decode cX5_hungersAt 8 = .ok (.getfield 45, 3) := dk_180 0 45 (dk_at dksX5_hungersAt_0 8 rfl rfl)
theorem dX5_hungersAt_11 : decode cX5_hungersAt 11 = .ok (.iconst 1, 1) := dk_4 (dk_at dksX5_hungersAt_0 11 rfl rfl)
theorem dX5_hungersAt_12 : decode cX5_hungersAt 12 = .ok (.iaload, 1) := dk_46 (dk_at dksX5_hungersAt_0 12 rfl rfl)
theorem dX5_hungersAt_13 : decode cX5_hungersAt 13 = .ok (.if_icmp .ge 43, 3) := dk_162 0 43 (dk_at dksX5_hungersAt_0 13 rfl rfl)
theorem dX5_hungersAt_16 : decode cX5_hungersAt 16 = .ok (.aload_n 0, 1) := dk_42 (dk_at dksX5_hungersAt_0 16 rfl rfl)
theorem dX5_hungersAt_17 : decode cX5_hungersAt 17 = .ok (.getfield 67, 3) := dk_180 0 67 (dk_at dksX5_hungersAt_0 17 rfl rfl)
theorem dX5_hungersAt_20 : decode cX5_hungersAt 20 = .ok (.iload 4, 2) := dk_21 4 (dk_at dksX5_hungersAt_0 20 rfl rfl)
theorem dX5_hungersAt_22 : decode cX5_hungersAt 22 = .ok (.iaload, 1) := dk_46 (dk_at dksX5_hungersAt_0 22 rfl rfl)
theorem dX5_hungersAt_23 : decode cX5_hungersAt 23 = .ok (.iload_n 1, 1) := dk_27 (dk_at dksX5_hungersAt_0 23 rfl rfl)
theorem dX5_hungersAt_24 : decode cX5_hungersAt 24 = .ok (.if_icmp .ne 24, 3) := dk_160 0 24 (dk_at dksX5_hungersAt_1 0 rfl rfl)
theorem dX5_hungersAt_27 : decode cX5_hungersAt 27 = .ok (.iconst 0, 1) := dk_3 (dk_at dksX5_hungersAt_1 3 rfl rfl)
theorem dX5_hungersAt_28 : decode cX5_hungersAt 28 = .ok (.iload_n 3, 1) := dk_29 (dk_at dksX5_hungersAt_1 4 rfl rfl)
theorem dX5_hungersAt_29 : decode cX5_hungersAt 29 = .ok (.invokestatic 352, 3) := dk_184 1 96 (dk_at dksX5_hungersAt_1 5 rfl rfl)
theorem dX5_hungersAt_32 : decode cX5_hungersAt 32 = .ok (.aload_n 0, 1) := dk_42 (dk_at dksX5_hungersAt_1 8 rfl rfl)
theorem dX5_hungersAt_33 : decode cX5_hungersAt 33 = .ok (.getfield 122, 3) := dk_180 0 122 (dk_at dksX5_hungersAt_1 9 rfl rfl)
theorem dX5_hungersAt_36 : decode cX5_hungersAt 36 = .ok (.bipush 24, 2) := dk_16 24 (dk_at dksX5_hungersAt_1 12 rfl rfl)
theorem dX5_hungersAt_38 : decode cX5_hungersAt 38 = .ok (.iload 4, 2) := dk_21 4 (dk_at dksX5_hungersAt_1 14 rfl rfl)
theorem dX5_hungersAt_40 : decode cX5_hungersAt 40 = .ok (.imul, 1) := dk_104 (dk_at dksX5_hungersAt_1 16 rfl rfl)
theorem dX5_hungersAt_41 : decode cX5_hungersAt 41 = .ok (.iload_n 2, 1) := dk_28 (dk_at dksX5_hungersAt_1 17 rfl rfl)
theorem dX5_hungersAt_42 : decode cX5_hungersAt 42 = .ok (.iadd, 1) := dk_96 (dk_at dksX5_hungersAt_1 18 rfl rfl)
theorem dX5_hungersAt_43 : decode cX5_hungersAt 43 = .ok (.iaload, 1) := dk_46 (dk_at dksX5_hungersAt_1 19 rfl rfl)
theorem dX5_hungersAt_44 : decode cX5_hungersAt 44 = .ok (.iadd, 1) := dk_96 (dk_at dksX5_hungersAt_1 20 rfl rfl)
theorem dX5_hungersAt_45 : decode cX5_hungersAt 45 = .ok (.goto 4, 3) := dk_167 0 4 (dk_at dksX5_hungersAt_1 21 rfl rfl)
theorem dX5_hungersAt_48 : decode cX5_hungersAt 48 = .ok (.iload_n 3, 1) := dk_29 (dk_at dksX5_hungersAt_2 0 rfl rfl)
theorem dX5_hungersAt_49 : decode cX5_hungersAt 49 = .ok (.istore_n 3, 1) := dk_62 (dk_at dksX5_hungersAt_2 1 rfl rfl)
theorem dX5_hungersAt_50 : decode cX5_hungersAt 50 = .ok (.iinc 4 1, 3) := dk_132 4 1 (dk_at dksX5_hungersAt_2 2 rfl rfl)
theorem dX5_hungersAt_53 : decode cX5_hungersAt 53 = .ok (.goto (-48), 3) := dk_167 255 208 (dk_at dksX5_hungersAt_2 5 rfl rfl)
theorem dX5_hungersAt_56 : decode cX5_hungersAt 56 = .ok (.iload_n 3, 1) := dk_29 (dk_at dksX5_hungersAt_2 8 rfl rfl)
theorem dX5_hungersAt_57 : decode cX5_hungersAt 57 = .ok (.ireturn, 1) := dk_172 (dk_at dksX5_hungersAt_2 9 rfl rfl)
abbrev cX5_isSeen : ByteArray := prog_23_method_57_code
def yX5_isSeen : MethodName := ⟨RX5, "isSeen", "(III)Z"⟩
def dkwX5_isSeen_1 : List UInt8 := [16, 24, 28, 104, 29, 96, 46, 42, 180, 0, 85, 27, 46, 161, 0, 7, 4, 167, 0, 4, 3, 172]
abbrev dktX5_isSeen_1 : List UInt8 := dkwX5_isSeen_1 ++ []
def dkwX5_isSeen_0 : List UInt8 := [42, 180, 0, 131, 16, 24, 28, 104, 29, 96, 46, 42, 180, 0, 88, 29, 46, 164, 0, 27, 42, 180, 0, 131]
abbrev dktX5_isSeen_0 : List UInt8 := dkwX5_isSeen_0 ++ dktX5_isSeen_1
theorem dksX5_isSeen_0 : cX5_isSeen.data.toList.drop 0 = dktX5_isSeen_0 := by decide +kernel
theorem dksX5_isSeen_1 : cX5_isSeen.data.toList.drop 24 = dktX5_isSeen_1 := dk_seg dksX5_isSeen_0 24 rfl rfl
theorem dX5_isSeen_0 : decode cX5_isSeen 0 = .ok (.aload_n 0, 1) := dk_42 (dk_at dksX5_isSeen_0 0 rfl rfl)
theorem dX5_isSeen_1 : decode cX5_isSeen 1 = .ok (.getfield 131, 3) := dk_180 0 131 (dk_at dksX5_isSeen_0 1 rfl rfl)
theorem dX5_isSeen_4 : decode cX5_isSeen 4 = .ok (.bipush 24, 2) := dk_16 24 (dk_at dksX5_isSeen_0 4 rfl rfl)
theorem dX5_isSeen_6 : decode cX5_isSeen 6 = .ok (.iload_n 2, 1) := dk_28 (dk_at dksX5_isSeen_0 6 rfl rfl)
theorem dX5_isSeen_7 : decode cX5_isSeen 7 = .ok (.imul, 1) := dk_104 (dk_at dksX5_isSeen_0 7 rfl rfl)
theorem dX5_isSeen_8 : decode cX5_isSeen 8 = .ok (.iload_n 3, 1) := dk_29 (dk_at dksX5_isSeen_0 8 rfl rfl)
theorem dX5_isSeen_9 : decode cX5_isSeen 9 = .ok (.iadd, 1) := dk_96 (dk_at dksX5_isSeen_0 9 rfl rfl)
theorem dX5_isSeen_10 : decode cX5_isSeen 10 = .ok (.iaload, 1) := dk_46 (dk_at dksX5_isSeen_0 10 rfl rfl)
theorem dX5_isSeen_11 : decode cX5_isSeen 11 = .ok (.aload_n 0, 1) := dk_42 (dk_at dksX5_isSeen_0 11 rfl rfl)
theorem dX5_isSeen_12 : decode cX5_isSeen 12 = .ok (.getfield 88, 3) := dk_180 0 88 (dk_at dksX5_isSeen_0 12 rfl rfl)
theorem dX5_isSeen_15 : decode cX5_isSeen 15 = .ok (.iload_n 3, 1) := dk_29 (dk_at dksX5_isSeen_0 15 rfl rfl)
theorem dX5_isSeen_16 : decode cX5_isSeen 16 = .ok (.iaload, 1) := dk_46 (dk_at dksX5_isSeen_0 16 rfl rfl)
theorem dX5_isSeen_17 : decode cX5_isSeen 17 = .ok (.if_icmp .le 27, 3) := dk_164 0 27 (dk_at dksX5_isSeen_0 17 rfl rfl)
theorem dX5_isSeen_20 : decode cX5_isSeen 20 = .ok (.aload_n 0, 1) := dk_42 (dk_at dksX5_isSeen_0 20 rfl rfl)
theorem dX5_isSeen_21 : decode cX5_isSeen 21 = .ok (.getfield 131, 3) := dk_180 0 131 (dk_at dksX5_isSeen_0 21 rfl rfl)
theorem dX5_isSeen_24 : decode cX5_isSeen 24 = .ok (.bipush 24, 2) := dk_16 24 (dk_at dksX5_isSeen_1 0 rfl rfl)
theorem dX5_isSeen_26 : decode cX5_isSeen 26 = .ok (.iload_n 2, 1) := dk_28 (dk_at dksX5_isSeen_1 2 rfl rfl)
theorem dX5_isSeen_27 : decode cX5_isSeen 27 = .ok (.imul, 1) := dk_104 (dk_at dksX5_isSeen_1 3 rfl rfl)
theorem dX5_isSeen_28 : decode cX5_isSeen 28 = .ok (.iload_n 3, 1) := dk_29 (dk_at dksX5_isSeen_1 4 rfl rfl)
theorem dX5_isSeen_29 : decode cX5_isSeen 29 = .ok (.iadd, 1) := dk_96 (dk_at dksX5_isSeen_1 5 rfl rfl)
theorem dX5_isSeen_30 : decode cX5_isSeen 30 = .ok (.iaload, 1) := dk_46 (dk_at dksX5_isSeen_1 6 rfl rfl)
theorem dX5_isSeen_31 : decode cX5_isSeen 31 = .ok (.aload_n 0, 1) := dk_42 (dk_at dksX5_isSeen_1 7 rfl rfl)
theorem dX5_isSeen_32 : decode cX5_isSeen 32 = .ok (.getfield 85, 3) := dk_180 0 85 (dk_at dksX5_isSeen_1 8 rfl rfl)
theorem dX5_isSeen_35 : decode cX5_isSeen 35 = .ok (.iload_n 1, 1) := dk_27 (dk_at dksX5_isSeen_1 11 rfl rfl)
theorem dX5_isSeen_36 : decode cX5_isSeen 36 = .ok (.iaload, 1) := dk_46 (dk_at dksX5_isSeen_1 12 rfl rfl)
theorem dX5_isSeen_37 : decode cX5_isSeen 37 = .ok (.if_icmp .lt 7, 3) := dk_161 0 7 (dk_at dksX5_isSeen_1 13 rfl rfl)
theorem dX5_isSeen_40 : decode cX5_isSeen 40 = .ok (.iconst 1, 1) := dk_4 (dk_at dksX5_isSeen_1 16 rfl rfl)
theorem dX5_isSeen_41 : decode cX5_isSeen 41 = .ok (.goto 4, 3) := dk_167 0 4 (dk_at dksX5_isSeen_1 17 rfl rfl)
theorem dX5_isSeen_44 : decode cX5_isSeen 44 = .ok (.iconst 0, 1) := dk_3 (dk_at dksX5_isSeen_1 20 rfl rfl)
theorem dX5_isSeen_45 : decode cX5_isSeen 45 = .ok (.ireturn, 1) := dk_172 (dk_at dksX5_isSeen_1 21 rfl rfl)
abbrev cX5_end : ByteArray := prog_23_method_64_code
def yX5_end : MethodName := ⟨RX5, "end", "(II)I"⟩
def dkwX5_end_3 : List UInt8 := [132, 4, 255, 167, 255, 223, 28, 154, 0, 7, 29, 167, 0, 5, 21, 4, 172]
abbrev dktX5_end_3 : List UInt8 := dkwX5_end_3 ++ []
def dkwX5_end_2 : List UInt8 := [27, 46, 164, 0, 28, 42, 180, 0, 140, 21, 4, 4, 100, 46, 42, 180, 0, 140, 16, 24, 46, 160, 0, 9]
abbrev dktX5_end_2 : List UInt8 := dkwX5_end_2 ++ dktX5_end_3
def dkwX5_end_1 : List UInt8 := [182, 1, 67, 172, 42, 182, 1, 136, 42, 27, 182, 1, 158, 62, 16, 24, 54, 4, 21, 4, 42, 180, 0, 82]
abbrev dktX5_end_1 : List UInt8 := dkwX5_end_1 ++ dktX5_end_2
def dkwX5_end_0 : List UInt8 := [42, 3, 181, 0, 194, 42, 27, 182, 1, 126, 153, 0, 12, 28, 155, 0, 8, 28, 4, 164, 0, 9, 42, 4]
abbrev dktX5_end_0 : List UInt8 := dkwX5_end_0 ++ dktX5_end_1
theorem dksX5_end_0 : cX5_end.data.toList.drop 0 = dktX5_end_0 := by decide +kernel
theorem dksX5_end_1 : cX5_end.data.toList.drop 24 = dktX5_end_1 := dk_seg dksX5_end_0 24 rfl rfl
theorem dksX5_end_2 : cX5_end.data.toList.drop 48 = dktX5_end_2 := dk_seg dksX5_end_1 24 rfl rfl
theorem dksX5_end_3 : cX5_end.data.toList.drop 72 = dktX5_end_3 := dk_seg dksX5_end_2 24 rfl rfl
theorem dX5_end_0 : decode cX5_end 0 = .ok (.aload_n 0, 1) := dk_42 (dk_at dksX5_end_0 0 rfl rfl)
theorem dX5_end_1 : decode cX5_end 1 = .ok (.iconst 0, 1) := dk_3 (dk_at dksX5_end_0 1 rfl rfl)
theorem dX5_end_2 : decode cX5_end 2 = .ok (.putfield 194, 3) := dk_181 0 194 (dk_at dksX5_end_0 2 rfl rfl)
theorem dX5_end_5 : decode cX5_end 5 = .ok (.aload_n 0, 1) := dk_42 (dk_at dksX5_end_0 5 rfl rfl)
theorem dX5_end_6 : decode cX5_end 6 = .ok (.iload_n 1, 1) := dk_27 (dk_at dksX5_end_0 6 rfl rfl)
theorem dX5_end_7 : decode cX5_end 7 = .ok (.invokevirtual 382, 3) := dk_182 1 126 (dk_at dksX5_end_0 7 rfl rfl)
theorem dX5_end_10 : decode cX5_end 10 = .ok (.ifCond .eq 12, 3) := dk_153 0 12 (dk_at dksX5_end_0 10 rfl rfl)
theorem dX5_end_13 : decode cX5_end 13 = .ok (.iload_n 2, 1) := dk_28 (dk_at dksX5_end_0 13 rfl rfl)
theorem dX5_end_14 : decode cX5_end 14 = .ok (.ifCond .lt 8, 3) := dk_155 0 8 (dk_at dksX5_end_0 14 rfl rfl)
theorem dX5_end_17 : decode cX5_end 17 = .ok (.iload_n 2, 1) := dk_28 (dk_at dksX5_end_0 17 rfl rfl)
theorem dX5_end_18 : decode cX5_end 18 = .ok (.iconst 1, 1) := dk_4 (dk_at dksX5_end_0 18 rfl rfl)
theorem dX5_end_19 : decode cX5_end 19 = .ok (.if_icmp .le 9, 3) := dk_164 0 9 (dk_at dksX5_end_0 19 rfl rfl)
theorem dX5_end_22 : decode cX5_end 22 = .ok (.aload_n 0, 1) := dk_42 (dk_at dksX5_end_0 22 rfl rfl)
theorem dX5_end_23 : decode cX5_end 23 = .ok (.iconst 1, 1) := dk_4 (dk_at dksX5_end_0 23 rfl rfl)
theorem dX5_end_24 : decode cX5_end 24 = .ok (.invokevirtual 323, 3) := dk_182 1 67 (dk_at dksX5_end_1 0 rfl rfl)
theorem dX5_end_27 : decode cX5_end 27 = .ok (.ireturn, 1) := dk_172 (dk_at dksX5_end_1 3 rfl rfl)
theorem dX5_end_28 : decode cX5_end 28 = .ok (.aload_n 0, 1) := dk_42 (dk_at dksX5_end_1 4 rfl rfl)
theorem dX5_end_29 : decode cX5_end 29 = .ok (.invokevirtual 392, 3) := dk_182 1 136 (dk_at dksX5_end_1 5 rfl rfl)
theorem dX5_end_32 : decode cX5_end 32 = .ok (.aload_n 0, 1) := dk_42 (dk_at dksX5_end_1 8 rfl rfl)
theorem dX5_end_33 : decode cX5_end 33 = .ok (.iload_n 1, 1) := dk_27 (dk_at dksX5_end_1 9 rfl rfl)
theorem dX5_end_34 : decode cX5_end 34 = .ok (.invokevirtual 414, 3) := dk_182 1 158 (dk_at dksX5_end_1 10 rfl rfl)
theorem dX5_end_37 : decode cX5_end 37 = .ok (.istore_n 3, 1) := dk_62 (dk_at dksX5_end_1 13 rfl rfl)
theorem dX5_end_38 : decode cX5_end 38 = .ok (.bipush 24, 2) := dk_16 24 (dk_at dksX5_end_1 14 rfl rfl)
theorem dX5_end_40 : decode cX5_end 40 = .ok (.istore 4, 2) := dk_54 4 (dk_at dksX5_end_1 16 rfl rfl)
theorem dX5_end_42 : decode cX5_end 42 = .ok (.iload 4, 2) := dk_21 4 (dk_at dksX5_end_1 18 rfl rfl)
theorem dX5_end_44 : decode cX5_end 44 = .ok (.aload_n 0, 1) := dk_42 (dk_at dksX5_end_1 20 rfl rfl)
theorem dX5_end_45 : decode cX5_end 45 = .ok (.getfield 82, 3) := dk_180 0 82 (dk_at dksX5_end_1 21 rfl rfl)
theorem dX5_end_48 : decode cX5_end 48 = .ok (.iload_n 1, 1) := dk_27 (dk_at dksX5_end_2 0 rfl rfl)
theorem dX5_end_49 : decode cX5_end 49 = .ok (.iaload, 1) := dk_46 (dk_at dksX5_end_2 1 rfl rfl)
theorem dX5_end_50 : decode cX5_end 50 = .ok (.if_icmp .le 28, 3) := dk_164 0 28 (dk_at dksX5_end_2 2 rfl rfl)
theorem dX5_end_53 : decode cX5_end 53 = .ok (.aload_n 0, 1) := dk_42 (dk_at dksX5_end_2 5 rfl rfl)
theorem dX5_end_54 : decode cX5_end 54 = .ok (.getfield 140, 3) := dk_180 0 140 (dk_at dksX5_end_2 6 rfl rfl)
theorem dX5_end_57 : decode cX5_end 57 = .ok (.iload 4, 2) := dk_21 4 (dk_at dksX5_end_2 9 rfl rfl)
theorem dX5_end_59 : decode cX5_end 59 = .ok (.iconst 1, 1) := dk_4 (dk_at dksX5_end_2 11 rfl rfl)
theorem dX5_end_60 : decode cX5_end 60 = .ok (.isub, 1) := dk_100 (dk_at dksX5_end_2 12 rfl rfl)
theorem dX5_end_61 : decode cX5_end 61 = .ok (.iaload, 1) := dk_46 (dk_at dksX5_end_2 13 rfl rfl)
theorem dX5_end_62 : decode cX5_end 62 = .ok (.aload_n 0, 1) := dk_42 (dk_at dksX5_end_2 14 rfl rfl)
theorem dX5_end_63 : decode cX5_end 63 = .ok (.getfield 140, 3) := dk_180 0 140 (dk_at dksX5_end_2 15 rfl rfl)
theorem dX5_end_66 : decode cX5_end 66 = .ok (.bipush 24, 2) := dk_16 24 (dk_at dksX5_end_2 18 rfl rfl)
theorem dX5_end_68 : decode cX5_end 68 = .ok (.iaload, 1) := dk_46 (dk_at dksX5_end_2 20 rfl rfl)
theorem dX5_end_69 : decode cX5_end 69 = .ok (.if_icmp .ne 9, 3) := dk_160 0 9 (dk_at dksX5_end_2 21 rfl rfl)
theorem dX5_end_72 : decode cX5_end 72 = .ok (.iinc 4 (-1), 3) := dk_132 4 255 (dk_at dksX5_end_3 0 rfl rfl)
theorem dX5_end_75 : decode cX5_end 75 = .ok (.goto (-33), 3) := dk_167 255 223 (dk_at dksX5_end_3 3 rfl rfl)
theorem dX5_end_78 : decode cX5_end 78 = .ok (.iload_n 2, 1) := dk_28 (dk_at dksX5_end_3 6 rfl rfl)
theorem dX5_end_79 : decode cX5_end 79 = .ok (.ifCond .ne 7, 3) := dk_154 0 7 (dk_at dksX5_end_3 7 rfl rfl)
theorem dX5_end_82 : decode cX5_end 82 = .ok (.iload_n 3, 1) := dk_29 (dk_at dksX5_end_3 10 rfl rfl)
theorem dX5_end_83 : decode cX5_end 83 = .ok (.goto 5, 3) := dk_167 0 5 (dk_at dksX5_end_3 11 rfl rfl)
theorem dX5_end_86 : decode cX5_end 86 = .ok (.iload 4, 2) := dk_21 4 (dk_at dksX5_end_3 14 rfl rfl)
theorem dX5_end_88 : decode cX5_end 88 = .ok (.ireturn, 1) := dk_172 (dk_at dksX5_end_3 16 rfl rfl)
abbrev cX5_endOf : ByteArray := prog_23_method_63_code
def yX5_endOf : MethodName := ⟨RX5, "endOf", "(I)I"⟩
def dkwX5_endOf_1 : List UInt8 := [167, 0, 13, 28, 5, 160, 0, 7, 5, 167, 0, 4, 3, 172]
abbrev dktX5_endOf_1 : List UInt8 := dkwX5_endOf_1 ++ []
def dkwX5_endOf_0 : List UInt8 := [42, 27, 182, 1, 155, 42, 180, 0, 49, 42, 180, 0, 140, 16, 24, 46, 46, 61, 28, 6, 160, 0, 7, 4]
abbrev dktX5_endOf_0 : List UInt8 := dkwX5_endOf_0 ++ dktX5_endOf_1
theorem dksX5_endOf_0 : cX5_endOf.data.toList.drop 0 = dktX5_endOf_0 := by decide +kernel
theorem dksX5_endOf_1 : cX5_endOf.data.toList.drop 24 = dktX5_endOf_1 := dk_seg dksX5_endOf_0 24 rfl rfl
theorem dX5_endOf_0 : decode cX5_endOf 0 = .ok (.aload_n 0, 1) := dk_42 (dk_at dksX5_endOf_0 0 rfl rfl)
theorem dX5_endOf_1 : decode cX5_endOf 1 = .ok (.iload_n 1, 1) := dk_27 (dk_at dksX5_endOf_0 1 rfl rfl)
theorem dX5_endOf_2 : decode cX5_endOf 2 = .ok (.invokevirtual 411, 3) := dk_182 1 155 (dk_at dksX5_endOf_0 2 rfl rfl)
theorem dX5_endOf_5 : decode cX5_endOf 5 = .ok (.aload_n 0, 1) := dk_42 (dk_at dksX5_endOf_0 5 rfl rfl)
theorem dX5_endOf_6 : decode cX5_endOf 6 = .ok (.getfield 49, 3) := dk_180 0 49 (dk_at dksX5_endOf_0 6 rfl rfl)
theorem dX5_endOf_9 : decode cX5_endOf 9 = .ok (.aload_n 0, 1) := dk_42 (dk_at dksX5_endOf_0 9 rfl rfl)
theorem dX5_endOf_10 : decode cX5_endOf 10 = .ok (.getfield 140, 3) := dk_180 0 140 (dk_at dksX5_endOf_0 10 rfl rfl)
theorem dX5_endOf_13 : decode cX5_endOf 13 = .ok (.bipush 24, 2) := dk_16 24 (dk_at dksX5_endOf_0 13 rfl rfl)
theorem dX5_endOf_15 : decode cX5_endOf 15 = .ok (.iaload, 1) := dk_46 (dk_at dksX5_endOf_0 15 rfl rfl)
theorem dX5_endOf_16 : decode cX5_endOf 16 = .ok (.iaload, 1) := dk_46 (dk_at dksX5_endOf_0 16 rfl rfl)
theorem dX5_endOf_17 : decode cX5_endOf 17 = .ok (.istore_n 2, 1) := dk_61 (dk_at dksX5_endOf_0 17 rfl rfl)
theorem dX5_endOf_18 : decode cX5_endOf 18 = .ok (.iload_n 2, 1) := dk_28 (dk_at dksX5_endOf_0 18 rfl rfl)
theorem dX5_endOf_19 : decode cX5_endOf 19 = .ok (.iconst 3, 1) := dk_6 (dk_at dksX5_endOf_0 19 rfl rfl)
theorem dX5_endOf_20 : decode cX5_endOf 20 = .ok (.if_icmp .ne 7, 3) := dk_160 0 7 (dk_at dksX5_endOf_0 20 rfl rfl)
theorem dX5_endOf_23 : decode cX5_endOf 23 = .ok (.iconst 1, 1) := dk_4 (dk_at dksX5_endOf_0 23 rfl rfl)
theorem dX5_endOf_24 : decode cX5_endOf 24 = .ok (.goto 13, 3) := dk_167 0 13 (dk_at dksX5_endOf_1 0 rfl rfl)
theorem dX5_endOf_27 : decode cX5_endOf 27 = .ok (.iload_n 2, 1) := dk_28 (dk_at dksX5_endOf_1 3 rfl rfl)
theorem dX5_endOf_28 : decode cX5_endOf 28 = .ok (.iconst 2, 1) := dk_5 (dk_at dksX5_endOf_1 4 rfl rfl)
theorem dX5_endOf_29 : decode cX5_endOf 29 = .ok (.if_icmp .ne 7, 3) := dk_160 0 7 (dk_at dksX5_endOf_1 5 rfl rfl)
theorem dX5_endOf_32 : decode cX5_endOf 32 = .ok (.iconst 2, 1) := dk_5 (dk_at dksX5_endOf_1 8 rfl rfl)
theorem dX5_endOf_33 : decode cX5_endOf 33 = .ok (.goto 4, 3) := dk_167 0 4 (dk_at dksX5_endOf_1 9 rfl rfl)
theorem dX5_endOf_36 : decode cX5_endOf 36 = .ok (.iconst 0, 1) := dk_3 (dk_at dksX5_endOf_1 12 rfl rfl)
theorem dX5_endOf_37 : decode cX5_endOf 37 = .ok (.ireturn, 1) := dk_172 (dk_at dksX5_endOf_1 13 rfl rfl)
abbrev cX5_plan : ByteArray := prog_23_method_66_code
def yX5_plan : MethodName := ⟨RX5, "plan", "(IIII)I"⟩
def dkwX5_plan_6 : List UInt8 := [167, 255, 230, 42, 180, 1, 164, 172]
abbrev dktX5_plan_6 : List UInt8 := dkwX5_plan_6 ++ []
def dkwX5_plan_5 : List UInt8 := [180, 0, 152, 162, 0, 23, 42, 180, 0, 149, 21, 5, 42, 180, 0, 146, 21, 5, 46, 79, 132, 5, 1]
abbrev dktX5_plan_5 : List UInt8 := dkwX5_plan_5 ++ dktX5_plan_6
def dkwX5_plan_4 : List UInt8 := [180, 1, 164, 2, 159, 0, 45, 42, 21, 4, 29, 100, 4, 96, 181, 0, 152, 3, 54, 5, 21, 5, 42]
abbrev dktX5_plan_4 : List UInt8 := dkwX5_plan_4 ++ dktX5_plan_5
def dkwX5_plan_3 : List UInt8 := [2, 181, 1, 164, 42, 42, 180, 1, 81, 181, 1, 161, 42, 27, 28, 29, 21, 4, 3, 182, 1, 171, 42]
abbrev dktX5_plan_3 : List UInt8 := dkwX5_plan_3 ++ dktX5_plan_4
def dkwX5_plan_2 : List UInt8 := [159, 0, 17, 21, 4, 29, 161, 0, 11, 21, 4, 29, 6, 96, 164, 0, 9, 42, 5, 182, 1, 67, 172, 42]
abbrev dktX5_plan_2 : List UInt8 := dkwX5_plan_2 ++ dktX5_plan_3
def dkwX5_plan_1 : List UInt8 := [184, 1, 129, 153, 0, 11, 21, 4, 184, 1, 129, 154, 0, 9, 42, 4, 182, 1, 67, 172, 27, 28]
abbrev dktX5_plan_1 : List UInt8 := dkwX5_plan_1 ++ dktX5_plan_2
def dkwX5_plan_0 : List UInt8 := [42, 3, 181, 0, 194, 42, 27, 182, 1, 126, 153, 0, 26, 42, 28, 182, 1, 126, 153, 0, 18, 29]
abbrev dktX5_plan_0 : List UInt8 := dkwX5_plan_0 ++ dktX5_plan_1
theorem dksX5_plan_0 : cX5_plan.data.toList.drop 0 = dktX5_plan_0 := by decide +kernel
theorem dksX5_plan_1 : cX5_plan.data.toList.drop 22 = dktX5_plan_1 := dk_seg dksX5_plan_0 22 rfl rfl
theorem dksX5_plan_2 : cX5_plan.data.toList.drop 44 = dktX5_plan_2 := dk_seg dksX5_plan_1 22 rfl rfl
theorem dksX5_plan_3 : cX5_plan.data.toList.drop 68 = dktX5_plan_3 := dk_seg dksX5_plan_2 24 rfl rfl
theorem dksX5_plan_4 : cX5_plan.data.toList.drop 91 = dktX5_plan_4 := dk_seg dksX5_plan_3 23 rfl rfl
theorem dksX5_plan_5 : cX5_plan.data.toList.drop 114 = dktX5_plan_5 := dk_seg dksX5_plan_4 23 rfl rfl
theorem dksX5_plan_6 : cX5_plan.data.toList.drop 137 = dktX5_plan_6 := dk_seg dksX5_plan_5 23 rfl rfl
theorem dX5_plan_0 : decode cX5_plan 0 = .ok (.aload_n 0, 1) := dk_42 (dk_at dksX5_plan_0 0 rfl rfl)
theorem dX5_plan_1 : decode cX5_plan 1 = .ok (.iconst 0, 1) := dk_3 (dk_at dksX5_plan_0 1 rfl rfl)
theorem dX5_plan_2 : decode cX5_plan 2 = .ok (.putfield 194, 3) := dk_181 0 194 (dk_at dksX5_plan_0 2 rfl rfl)
theorem dX5_plan_5 : decode cX5_plan 5 = .ok (.aload_n 0, 1) := dk_42 (dk_at dksX5_plan_0 5 rfl rfl)
theorem dX5_plan_6 : decode cX5_plan 6 = .ok (.iload_n 1, 1) := dk_27 (dk_at dksX5_plan_0 6 rfl rfl)
theorem dX5_plan_7 : decode cX5_plan 7 = .ok (.invokevirtual 382, 3) := dk_182 1 126 (dk_at dksX5_plan_0 7 rfl rfl)
theorem dX5_plan_10 : decode cX5_plan 10 = .ok (.ifCond .eq 26, 3) := dk_153 0 26 (dk_at dksX5_plan_0 10 rfl rfl)
theorem dX5_plan_13 : decode cX5_plan 13 = .ok (.aload_n 0, 1) := dk_42 (dk_at dksX5_plan_0 13 rfl rfl)
theorem dX5_plan_14 : decode cX5_plan 14 = .ok (.iload_n 2, 1) := dk_28 (dk_at dksX5_plan_0 14 rfl rfl)
theorem dX5_plan_15 : decode cX5_plan 15 = .ok (.invokevirtual 382, 3) := dk_182 1 126 (dk_at dksX5_plan_0 15 rfl rfl)
theorem dX5_plan_18 : decode cX5_plan 18 = .ok (.ifCond .eq 18, 3) := dk_153 0 18 (dk_at dksX5_plan_0 18 rfl rfl)
theorem dX5_plan_21 : decode cX5_plan 21 = .ok (.iload_n 3, 1) := dk_29 (dk_at dksX5_plan_0 21 rfl rfl)
theorem dX5_plan_22 : decode cX5_plan 22 = .ok (.invokestatic 385, 3) := dk_184 1 129 (dk_at dksX5_plan_1 0 rfl rfl)
theorem dX5_plan_25 : decode cX5_plan 25 = .ok (.ifCond .eq 11, 3) := dk_153 0 11 (dk_at dksX5_plan_1 3 rfl rfl)
theorem dX5_plan_28 : decode cX5_plan 28 = .ok (.iload 4, 2) := dk_21 4 (dk_at dksX5_plan_1 6 rfl rfl)
theorem dX5_plan_30 : decode cX5_plan 30 = .ok (.invokestatic 385, 3) := dk_184 1 129 (dk_at dksX5_plan_1 8 rfl rfl)
theorem dX5_plan_33 : decode cX5_plan 33 = .ok (.ifCond .ne 9, 3) := dk_154 0 9 (dk_at dksX5_plan_1 11 rfl rfl)
theorem dX5_plan_36 : decode cX5_plan 36 = .ok (.aload_n 0, 1) := dk_42 (dk_at dksX5_plan_1 14 rfl rfl)
theorem dX5_plan_37 : decode cX5_plan 37 = .ok (.iconst 1, 1) := dk_4 (dk_at dksX5_plan_1 15 rfl rfl)
theorem dX5_plan_38 : decode cX5_plan 38 = .ok (.invokevirtual 323, 3) := dk_182 1 67 (dk_at dksX5_plan_1 16 rfl rfl)
theorem dX5_plan_41 : decode cX5_plan 41 = .ok (.ireturn, 1) := dk_172 (dk_at dksX5_plan_1 19 rfl rfl)
theorem dX5_plan_42 : decode cX5_plan 42 = .ok (.iload_n 1, 1) := dk_27 (dk_at dksX5_plan_1 20 rfl rfl)
theorem dX5_plan_43 : decode cX5_plan 43 = .ok (.iload_n 2, 1) := dk_28 (dk_at dksX5_plan_1 21 rfl rfl)
theorem dX5_plan_44 : decode cX5_plan 44 = .ok (.if_icmp .eq 17, 3) := dk_159 0 17 (dk_at dksX5_plan_2 0 rfl rfl)
theorem dX5_plan_47 : decode cX5_plan 47 = .ok (.iload 4, 2) := dk_21 4 (dk_at dksX5_plan_2 3 rfl rfl)
theorem dX5_plan_49 : decode cX5_plan 49 = .ok (.iload_n 3, 1) := dk_29 (dk_at dksX5_plan_2 5 rfl rfl)
theorem dX5_plan_50 : decode cX5_plan 50 = .ok (.if_icmp .lt 11, 3) := dk_161 0 11 (dk_at dksX5_plan_2 6 rfl rfl)
theorem dX5_plan_53 : decode cX5_plan 53 = .ok (.iload 4, 2) := dk_21 4 (dk_at dksX5_plan_2 9 rfl rfl)
theorem dX5_plan_55 : decode cX5_plan 55 = .ok (.iload_n 3, 1) := dk_29 (dk_at dksX5_plan_2 11 rfl rfl)
theorem dX5_plan_56 : decode cX5_plan 56 = .ok (.iconst 3, 1) := dk_6 (dk_at dksX5_plan_2 12 rfl rfl)
theorem dX5_plan_57 : decode cX5_plan 57 = .ok (.iadd, 1) := dk_96 (dk_at dksX5_plan_2 13 rfl rfl)
theorem dX5_plan_58 : decode cX5_plan 58 = .ok (.if_icmp .le 9, 3) := dk_164 0 9 (dk_at dksX5_plan_2 14 rfl rfl)
theorem dX5_plan_61 : decode cX5_plan 61 = .ok (.aload_n 0, 1) := dk_42 (dk_at dksX5_plan_2 17 rfl rfl)
theorem dX5_plan_62 : decode cX5_plan 62 = .ok (.iconst 2, 1) := dk_5 (dk_at dksX5_plan_2 18 rfl rfl)
theorem dX5_plan_63 : decode cX5_plan 63 = .ok (.invokevirtual 323, 3) := dk_182 1 67 (dk_at dksX5_plan_2 19 rfl rfl)
theorem dX5_plan_66 : decode cX5_plan 66 = .ok (.ireturn, 1) := dk_172 (dk_at dksX5_plan_2 22 rfl rfl)
theorem dX5_plan_67 : decode cX5_plan 67 = .ok (.aload_n 0, 1) := dk_42 (dk_at dksX5_plan_2 23 rfl rfl)
theorem dX5_plan_68 : decode cX5_plan 68 = .ok (.iconst (-1), 1) := dk_2 (dk_at dksX5_plan_3 0 rfl rfl)
theorem dX5_plan_69 : decode cX5_plan 69 = .ok (.putfield 420, 3) := dk_181 1 164 (dk_at dksX5_plan_3 1 rfl rfl)
theorem dX5_plan_72 : decode cX5_plan 72 = .ok (.aload_n 0, 1) := dk_42 (dk_at dksX5_plan_3 4 rfl rfl)
theorem dX5_plan_73 : decode cX5_plan 73 = .ok (.aload_n 0, 1) := dk_42 (dk_at dksX5_plan_3 5 rfl rfl)
theorem dX5_plan_74 : decode cX5_plan 74 = .ok (.getfield 337, 3) := dk_180 1 81 (dk_at dksX5_plan_3 6 rfl rfl)
theorem dX5_plan_77 : decode cX5_plan 77 = .ok (.putfield 417, 3) := dk_181 1 161 (dk_at dksX5_plan_3 9 rfl rfl)
theorem dX5_plan_80 : decode cX5_plan 80 = .ok (.aload_n 0, 1) := dk_42 (dk_at dksX5_plan_3 12 rfl rfl)
theorem dX5_plan_81 : decode cX5_plan 81 = .ok (.iload_n 1, 1) := dk_27 (dk_at dksX5_plan_3 13 rfl rfl)
theorem dX5_plan_82 : decode cX5_plan 82 = .ok (.iload_n 2, 1) := dk_28 (dk_at dksX5_plan_3 14 rfl rfl)
theorem dX5_plan_83 : decode cX5_plan 83 = .ok (.iload_n 3, 1) := dk_29 (dk_at dksX5_plan_3 15 rfl rfl)
theorem dX5_plan_84 : decode cX5_plan 84 = .ok (.iload 4, 2) := dk_21 4 (dk_at dksX5_plan_3 16 rfl rfl)
theorem dX5_plan_86 : decode cX5_plan 86 = .ok (.iconst 0, 1) := dk_3 (dk_at dksX5_plan_3 18 rfl rfl)
theorem dX5_plan_87 : decode cX5_plan 87 = .ok (.invokevirtual 427, 3) := dk_182 1 171 (dk_at dksX5_plan_3 19 rfl rfl)
theorem dX5_plan_90 : decode cX5_plan 90 = .ok (.aload_n 0, 1) := dk_42 (dk_at dksX5_plan_3 22 rfl rfl)
theorem dX5_plan_91 : decode cX5_plan 91 = .ok (.getfield 420, 3) := dk_180 1 164 (dk_at dksX5_plan_4 0 rfl rfl)
theorem dX5_plan_94 : decode cX5_plan 94 = .ok (.iconst (-1), 1) := dk_2 (dk_at dksX5_plan_4 3 rfl rfl)
theorem dX5_plan_95 : decode cX5_plan 95 = .ok (.if_icmp .eq 45, 3) := dk_159 0 45 (dk_at dksX5_plan_4 4 rfl rfl)
theorem dX5_plan_98 : decode cX5_plan 98 = .ok (.aload_n 0, 1) := dk_42 (dk_at dksX5_plan_4 7 rfl rfl)
theorem dX5_plan_99 : decode cX5_plan 99 = .ok (.iload 4, 2) := dk_21 4 (dk_at dksX5_plan_4 8 rfl rfl)
theorem dX5_plan_101 : decode cX5_plan 101 = .ok (.iload_n 3, 1) := dk_29 (dk_at dksX5_plan_4 10 rfl rfl)
theorem dX5_plan_102 : decode cX5_plan 102 = .ok (.isub, 1) := dk_100 (dk_at dksX5_plan_4 11 rfl rfl)
theorem dX5_plan_103 : decode cX5_plan 103 = .ok (.iconst 1, 1) := dk_4 (dk_at dksX5_plan_4 12 rfl rfl)
theorem dX5_plan_104 : decode cX5_plan 104 = .ok (.iadd, 1) := dk_96 (dk_at dksX5_plan_4 13 rfl rfl)
theorem dX5_plan_105 : decode cX5_plan 105 = .ok (.putfield 152, 3) := dk_181 0 152 (dk_at dksX5_plan_4 14 rfl rfl)
theorem dX5_plan_108 : decode cX5_plan 108 = .ok (.iconst 0, 1) := dk_3 (dk_at dksX5_plan_4 17 rfl rfl)
theorem dX5_plan_109 : decode cX5_plan 109 = .ok (.istore 5, 2) := dk_54 5 (dk_at dksX5_plan_4 18 rfl rfl)
theorem dX5_plan_111 : decode cX5_plan 111 = .ok (.iload 5, 2) := dk_21 5 (dk_at dksX5_plan_4 20 rfl rfl)
theorem dX5_plan_113 : decode cX5_plan 113 = .ok (.aload_n 0, 1) := dk_42 (dk_at dksX5_plan_4 22 rfl rfl)
theorem dX5_plan_114 : decode cX5_plan 114 = .ok (.getfield 152, 3) := dk_180 0 152 (dk_at dksX5_plan_5 0 rfl rfl)
theorem dX5_plan_117 : decode cX5_plan 117 = .ok (.if_icmp .ge 23, 3) := dk_162 0 23 (dk_at dksX5_plan_5 3 rfl rfl)
theorem dX5_plan_120 : decode cX5_plan 120 = .ok (.aload_n 0, 1) := dk_42 (dk_at dksX5_plan_5 6 rfl rfl)
theorem dX5_plan_121 : decode cX5_plan 121 = .ok (.getfield 149, 3) := dk_180 0 149 (dk_at dksX5_plan_5 7 rfl rfl)
theorem dX5_plan_124 : decode cX5_plan 124 = .ok (.iload 5, 2) := dk_21 5 (dk_at dksX5_plan_5 10 rfl rfl)
theorem dX5_plan_126 : decode cX5_plan 126 = .ok (.aload_n 0, 1) := dk_42 (dk_at dksX5_plan_5 12 rfl rfl)
theorem dX5_plan_127 : decode cX5_plan 127 = .ok (.getfield 146, 3) := dk_180 0 146 (dk_at dksX5_plan_5 13 rfl rfl)
theorem dX5_plan_130 : decode cX5_plan 130 = .ok (.iload 5, 2) := dk_21 5 (dk_at dksX5_plan_5 16 rfl rfl)
theorem dX5_plan_132 : decode cX5_plan 132 = .ok (.iaload, 1) := dk_46 (dk_at dksX5_plan_5 18 rfl rfl)
theorem dX5_plan_133 : decode cX5_plan 133 = .ok (.iastore, 1) := dk_79 (dk_at dksX5_plan_5 19 rfl rfl)
theorem dX5_plan_134 : decode cX5_plan 134 = .ok (.iinc 5 1, 3) := dk_132 5 1 (dk_at dksX5_plan_5 20 rfl rfl)
theorem dX5_plan_137 : decode cX5_plan 137 = .ok (.goto (-26), 3) := dk_167 255 230 (dk_at dksX5_plan_6 0 rfl rfl)
theorem dX5_plan_140 : decode cX5_plan 140 = .ok (.aload_n 0, 1) := dk_42 (dk_at dksX5_plan_6 3 rfl rfl)
theorem dX5_plan_141 : decode cX5_plan 141 = .ok (.getfield 420, 3) := dk_180 1 164 (dk_at dksX5_plan_6 4 rfl rfl)
theorem dX5_plan_144 : decode cX5_plan 144 = .ok (.ireturn, 1) := dk_172 (dk_at dksX5_plan_6 7 rfl rfl)
abbrev cX5_planOn : ByteArray := prog_23_method_65_code
def yX5_planOn : MethodName := ⟨RX5, "planOn", "(IIIII)V"⟩
def dkwX5_planOn_6 : List UInt8 := [158, 0, 13, 42, 89, 180, 1, 81, 4, 100, 181, 1, 81, 132, 6, 1, 167, 255, 179, 177]
abbrev dktX5_planOn_6 : List UInt8 := dkwX5_planOn_6 ++ []
def dkwX5_planOn_5 : List UInt8 := [100, 5, 112, 182, 1, 132, 42, 27, 28, 29, 4, 96, 21, 4, 21, 5, 4, 96, 182, 1, 171, 21, 6]
abbrev dktX5_planOn_5 : List UInt8 := dkwX5_planOn_5 ++ dktX5_planOn_6
def dkwX5_planOn_4 : List UInt8 := [180, 0, 143, 21, 5, 21, 6, 79, 21, 6, 158, 0, 20, 42, 21, 6, 4, 100, 5, 108, 29, 21, 6, 4]
abbrev dktX5_planOn_4 : List UInt8 := dkwX5_planOn_4 ++ dktX5_planOn_5
def dkwX5_planOn_3 : List UInt8 := [180, 0, 143, 184, 1, 167, 177, 3, 54, 6, 21, 6, 5, 42, 180, 0, 45, 4, 46, 104, 163, 0, 70, 42]
abbrev dktX5_planOn_3 : List UInt8 := dkwX5_planOn_3 ++ dktX5_planOn_4
def dkwX5_planOn_2 : List UInt8 := [4, 160, 0, 4, 177, 42, 42, 42, 180, 1, 161, 182, 1, 117, 181, 1, 164, 42, 180, 0, 146, 42]
abbrev dktX5_planOn_2 : List UInt8 := dkwX5_planOn_2 ++ dktX5_planOn_3
def dkwX5_planOn_1 : List UInt8 := [29, 21, 4, 164, 0, 50, 42, 182, 1, 136, 42, 27, 182, 1, 158, 4, 160, 0, 12, 42, 28, 182, 1, 158]
abbrev dktX5_planOn_1 : List UInt8 := dkwX5_planOn_1 ++ dktX5_planOn_2
def dkwX5_planOn_0 : List UInt8 := [42, 42, 180, 1, 161, 182, 1, 117, 42, 180, 1, 164, 161, 0, 12, 42, 180, 1, 164, 2, 159, 0, 4, 177]
abbrev dktX5_planOn_0 : List UInt8 := dkwX5_planOn_0 ++ dktX5_planOn_1
theorem dksX5_planOn_0 : cX5_planOn.data.toList.drop 0 = dktX5_planOn_0 := by decide +kernel
theorem dksX5_planOn_1 : cX5_planOn.data.toList.drop 24 = dktX5_planOn_1 := dk_seg dksX5_planOn_0 24 rfl rfl
theorem dksX5_planOn_2 : cX5_planOn.data.toList.drop 48 = dktX5_planOn_2 := dk_seg dksX5_planOn_1 24 rfl rfl
theorem dksX5_planOn_3 : cX5_planOn.data.toList.drop 70 = dktX5_planOn_3 := dk_seg dksX5_planOn_2 22 rfl rfl
theorem dksX5_planOn_4 : cX5_planOn.data.toList.drop 94 = dktX5_planOn_4 := dk_seg dksX5_planOn_3 24 rfl rfl
theorem dksX5_planOn_5 : cX5_planOn.data.toList.drop 118 = dktX5_planOn_5 := dk_seg dksX5_planOn_4 24 rfl rfl
theorem dksX5_planOn_6 : cX5_planOn.data.toList.drop 141 = dktX5_planOn_6 := dk_seg dksX5_planOn_5 23 rfl rfl
theorem dX5_planOn_0 : decode cX5_planOn 0 = .ok (.aload_n 0, 1) := dk_42 (dk_at dksX5_planOn_0 0 rfl rfl)
theorem dX5_planOn_1 : decode cX5_planOn 1 = .ok (.aload_n 0, 1) := dk_42 (dk_at dksX5_planOn_0 1 rfl rfl)
theorem dX5_planOn_2 : decode cX5_planOn 2 = .ok (.getfield 417, 3) := dk_180 1 161 (dk_at dksX5_planOn_0 2 rfl rfl)
theorem dX5_planOn_5 : decode cX5_planOn 5 = .ok (.invokevirtual 373, 3) := dk_182 1 117 (dk_at dksX5_planOn_0 5 rfl rfl)
theorem dX5_planOn_8 : decode cX5_planOn 8 = .ok (.aload_n 0, 1) := dk_42 (dk_at dksX5_planOn_0 8 rfl rfl)
theorem dX5_planOn_9 : decode cX5_planOn 9 = .ok (.getfield 420, 3) := dk_180 1 164 (dk_at dksX5_planOn_0 9 rfl rfl)
theorem dX5_planOn_12 : decode cX5_planOn 12 = .ok (.if_icmp .lt 12, 3) := dk_161 0 12 (dk_at dksX5_planOn_0 12 rfl rfl)
theorem dX5_planOn_15 : decode cX5_planOn 15 = .ok (.aload_n 0, 1) := dk_42 (dk_at dksX5_planOn_0 15 rfl rfl)
theorem dX5_planOn_16 : decode cX5_planOn 16 = .ok (.getfield 420, 3) := dk_180 1 164 (dk_at dksX5_planOn_0 16 rfl rfl)
theorem dX5_planOn_19 : decode cX5_planOn 19 = .ok (.iconst (-1), 1) := dk_2 (dk_at dksX5_planOn_0 19 rfl rfl)
theorem dX5_planOn_20 : decode cX5_planOn 20 = .ok (.if_icmp .eq 4, 3) := dk_159 0 4 (dk_at dksX5_planOn_0 20 rfl rfl)
theorem dX5_planOn_23 : decode cX5_planOn 23 = .ok (.return_, 1) := dk_177 (dk_at dksX5_planOn_0 23 rfl rfl)
theorem dX5_planOn_24 : decode cX5_planOn 24 = .ok (.iload_n 3, 1) := dk_29 (dk_at dksX5_planOn_1 0 rfl rfl)
theorem dX5_planOn_25 : decode cX5_planOn 25 = .ok (.iload 4, 2) := dk_21 4 (dk_at dksX5_planOn_1 1 rfl rfl)
theorem dX5_planOn_27 : decode cX5_planOn 27 = .ok (.if_icmp .le 50, 3) := dk_164 0 50 (dk_at dksX5_planOn_1 3 rfl rfl)
theorem dX5_planOn_30 : decode cX5_planOn 30 = .ok (.aload_n 0, 1) := dk_42 (dk_at dksX5_planOn_1 6 rfl rfl)
theorem dX5_planOn_31 : decode cX5_planOn 31 = .ok (.invokevirtual 392, 3) := dk_182 1 136 (dk_at dksX5_planOn_1 7 rfl rfl)
theorem dX5_planOn_34 : decode cX5_planOn 34 = .ok (.aload_n 0, 1) := dk_42 (dk_at dksX5_planOn_1 10 rfl rfl)
theorem dX5_planOn_35 : decode cX5_planOn 35 = .ok (.iload_n 1, 1) := dk_27 (dk_at dksX5_planOn_1 11 rfl rfl)
theorem dX5_planOn_36 : decode cX5_planOn 36 = .ok (.invokevirtual 414, 3) := dk_182 1 158 (dk_at dksX5_planOn_1 12 rfl rfl)
theorem dX5_planOn_39 : decode cX5_planOn 39 = .ok (.iconst 1, 1) := dk_4 (dk_at dksX5_planOn_1 15 rfl rfl)
theorem dX5_planOn_40 : decode cX5_planOn 40 = .ok (.if_icmp .ne 12, 3) := dk_160 0 12 (dk_at dksX5_planOn_1 16 rfl rfl)
theorem dX5_planOn_43 : decode cX5_planOn 43 = .ok (.aload_n 0, 1) := dk_42 (dk_at dksX5_planOn_1 19 rfl rfl)
theorem dX5_planOn_44 : decode cX5_planOn 44 = .ok (.iload_n 2, 1) := dk_28 (dk_at dksX5_planOn_1 20 rfl rfl)
theorem dX5_planOn_45 : decode cX5_planOn 45 = .ok (.invokevirtual 414, 3) := dk_182 1 158 (dk_at dksX5_planOn_1 21 rfl rfl)
theorem dX5_planOn_48 : decode cX5_planOn 48 = .ok (.iconst 1, 1) := dk_4 (dk_at dksX5_planOn_2 0 rfl rfl)
theorem dX5_planOn_49 : decode cX5_planOn 49 = .ok (.if_icmp .ne 4, 3) := dk_160 0 4 (dk_at dksX5_planOn_2 1 rfl rfl)
theorem dX5_planOn_52 : decode cX5_planOn 52 = .ok (.return_, 1) := dk_177 (dk_at dksX5_planOn_2 4 rfl rfl)
theorem dX5_planOn_53 : decode cX5_planOn 53 = .ok (.aload_n 0, 1) := dk_42 (dk_at dksX5_planOn_2 5 rfl rfl)
theorem dX5_planOn_54 : decode cX5_planOn 54 = .ok (.aload_n 0, 1) := dk_42 (dk_at dksX5_planOn_2 6 rfl rfl)
theorem dX5_planOn_55 : decode cX5_planOn 55 = .ok (.aload_n 0, 1) := dk_42 (dk_at dksX5_planOn_2 7 rfl rfl)
theorem dX5_planOn_56 : decode cX5_planOn 56 = .ok (.getfield 417, 3) := dk_180 1 161 (dk_at dksX5_planOn_2 8 rfl rfl)
theorem dX5_planOn_59 : decode cX5_planOn 59 = .ok (.invokevirtual 373, 3) := dk_182 1 117 (dk_at dksX5_planOn_2 11 rfl rfl)
theorem dX5_planOn_62 : decode cX5_planOn 62 = .ok (.putfield 420, 3) := dk_181 1 164 (dk_at dksX5_planOn_2 14 rfl rfl)
theorem dX5_planOn_65 : decode cX5_planOn 65 = .ok (.aload_n 0, 1) := dk_42 (dk_at dksX5_planOn_2 17 rfl rfl)
theorem dX5_planOn_66 : decode cX5_planOn 66 = .ok (.getfield 146, 3) := dk_180 0 146 (dk_at dksX5_planOn_2 18 rfl rfl)
theorem dX5_planOn_69 : decode cX5_planOn 69 = .ok (.aload_n 0, 1) := dk_42 (dk_at dksX5_planOn_2 21 rfl rfl)
theorem dX5_planOn_70 : decode cX5_planOn 70 = .ok (.getfield 143, 3) := dk_180 0 143 (dk_at dksX5_planOn_3 0 rfl rfl)
theorem dX5_planOn_73 : decode cX5_planOn 73 = .ok (.invokestatic 423, 3) := dk_184 1 167 (dk_at dksX5_planOn_3 3 rfl rfl)
theorem dX5_planOn_76 : decode cX5_planOn 76 = .ok (.return_, 1) := dk_177 (dk_at dksX5_planOn_3 6 rfl rfl)
theorem dX5_planOn_77 : decode cX5_planOn 77 = .ok (.iconst 0, 1) := dk_3 (dk_at dksX5_planOn_3 7 rfl rfl)
theorem dX5_planOn_78 : decode cX5_planOn 78 = .ok (.istore 6, 2) := dk_54 6 (dk_at dksX5_planOn_3 8 rfl rfl)
theorem dX5_planOn_80 : decode cX5_planOn 80 = .ok (.iload 6, 2) := dk_21 6 (dk_at dksX5_planOn_3 10 rfl rfl)
theorem dX5_planOn_82 : decode cX5_planOn 82 = .ok (.iconst 2, 1) := dk_5 (dk_at dksX5_planOn_3 12 rfl rfl)
theorem dX5_planOn_83 : decode cX5_planOn 83 = .ok (.aload_n 0, 1) := dk_42 (dk_at dksX5_planOn_3 13 rfl rfl)
theorem dX5_planOn_84 : decode cX5_planOn 84 = .ok (.getfield 45, 3) := dk_180 0 45 (dk_at dksX5_planOn_3 14 rfl rfl)
theorem dX5_planOn_87 : decode cX5_planOn 87 = .ok (.iconst 1, 1) := dk_4 (dk_at dksX5_planOn_3 17 rfl rfl)
theorem dX5_planOn_88 : decode cX5_planOn 88 = .ok (.iaload, 1) := dk_46 (dk_at dksX5_planOn_3 18 rfl rfl)
theorem dX5_planOn_89 : decode cX5_planOn 89 = .ok (.imul, 1) := dk_104 (dk_at dksX5_planOn_3 19 rfl rfl)
theorem dX5_planOn_90 : decode cX5_planOn 90 = .ok (.if_icmp .gt 70, 3) := dk_163 0 70 (dk_at dksX5_planOn_3 20 rfl rfl)
theorem dX5_planOn_93 : decode cX5_planOn 93 = .ok (.aload_n 0, 1) := dk_42 (dk_at dksX5_planOn_3 23 rfl rfl)
theorem dX5_planOn_94 : decode cX5_planOn 94 = .ok (.getfield 143, 3) := dk_180 0 143 (dk_at dksX5_planOn_4 0 rfl rfl)
theorem dX5_planOn_97 : decode cX5_planOn 97 = .ok (.iload 5, 2) := dk_21 5 (dk_at dksX5_planOn_4 3 rfl rfl)
theorem dX5_planOn_99 : decode cX5_planOn 99 = .ok (.iload 6, 2) := dk_21 6 (dk_at dksX5_planOn_4 5 rfl rfl)
theorem dX5_planOn_101 : decode cX5_planOn 101 = .ok (.iastore, 1) := dk_79 (dk_at dksX5_planOn_4 7 rfl rfl)
theorem dX5_planOn_102 : decode cX5_planOn 102 = .ok (.iload 6, 2) := dk_21 6 (dk_at dksX5_planOn_4 8 rfl rfl)
theorem dX5_planOn_104 : decode cX5_planOn 104 = .ok (.ifCond .le 20, 3) := dk_158 0 20 (dk_at dksX5_planOn_4 10 rfl rfl)
theorem dX5_planOn_107 : decode cX5_planOn 107 = .ok (.aload_n 0, 1) := dk_42 (dk_at dksX5_planOn_4 13 rfl rfl)
theorem dX5_planOn_108 : decode cX5_planOn 108 = .ok (.iload 6, 2) := dk_21 6 (dk_at dksX5_planOn_4 14 rfl rfl)
theorem dX5_planOn_110 : decode cX5_planOn 110 = .ok (.iconst 1, 1) := dk_4 (dk_at dksX5_planOn_4 16 rfl rfl)
theorem dX5_planOn_111 : decode cX5_planOn 111 = .ok (.isub, 1) := dk_100 (dk_at dksX5_planOn_4 17 rfl rfl)
theorem dX5_planOn_112 : decode cX5_planOn 112 = .ok (.iconst 2, 1) := dk_5 (dk_at dksX5_planOn_4 18 rfl rfl)
theorem dX5_planOn_113 : decode cX5_planOn 113 = .ok (.idiv, 1) := dk_108 (dk_at dksX5_planOn_4 19 rfl rfl)
theorem dX5_planOn_114 : decode cX5_planOn 114 = .ok (.iload_n 3, 1) := dk_29 (dk_at dksX5_planOn_4 20 rfl rfl)
theorem dX5_planOn_115 : decode cX5_planOn 115 = .ok (.iload 6, 2) := dk_21 6 (dk_at dksX5_planOn_4 21 rfl rfl)
theorem dX5_planOn_117 : decode cX5_planOn 117 = .ok (.iconst 1, 1) := dk_4 (dk_at dksX5_planOn_4 23 rfl rfl)
theorem dX5_planOn_118 : decode cX5_planOn 118 = .ok (.isub, 1) := dk_100 (dk_at dksX5_planOn_5 0 rfl rfl)
theorem dX5_planOn_119 : decode cX5_planOn 119 = .ok (.iconst 2, 1) := dk_5 (dk_at dksX5_planOn_5 1 rfl rfl)
theorem dX5_planOn_120 : decode cX5_planOn 120 = .ok (.irem, 1) := dk_112 (dk_at dksX5_planOn_5 2 rfl rfl)
theorem dX5_planOn_121 : decode cX5_planOn 121 = .ok (.invokevirtual 388, 3) := dk_182 1 132 (dk_at dksX5_planOn_5 3 rfl rfl)
theorem dX5_planOn_124 : decode cX5_planOn 124 = .ok (.aload_n 0, 1) := dk_42 (dk_at dksX5_planOn_5 6 rfl rfl)
theorem dX5_planOn_125 : decode cX5_planOn 125 = .ok (.iload_n 1, 1) := dk_27 (dk_at dksX5_planOn_5 7 rfl rfl)
theorem dX5_planOn_126 : decode cX5_planOn 126 = .ok (.iload_n 2, 1) := dk_28 (dk_at dksX5_planOn_5 8 rfl rfl)
theorem dX5_planOn_127 : decode cX5_planOn 127 = .ok (.iload_n 3, 1) := dk_29 (dk_at dksX5_planOn_5 9 rfl rfl)
theorem dX5_planOn_128 : decode cX5_planOn 128 = .ok (.iconst 1, 1) := dk_4 (dk_at dksX5_planOn_5 10 rfl rfl)
theorem dX5_planOn_129 : decode cX5_planOn 129 = .ok (.iadd, 1) := dk_96 (dk_at dksX5_planOn_5 11 rfl rfl)
theorem dX5_planOn_130 : decode cX5_planOn 130 = .ok (.iload 4, 2) := dk_21 4 (dk_at dksX5_planOn_5 12 rfl rfl)
theorem dX5_planOn_132 : decode cX5_planOn 132 = .ok (.iload 5, 2) := dk_21 5 (dk_at dksX5_planOn_5 14 rfl rfl)
theorem dX5_planOn_134 : decode cX5_planOn 134 = .ok (.iconst 1, 1) := dk_4 (dk_at dksX5_planOn_5 16 rfl rfl)
theorem dX5_planOn_135 : decode cX5_planOn 135 = .ok (.iadd, 1) := dk_96 (dk_at dksX5_planOn_5 17 rfl rfl)
theorem dX5_planOn_136 : decode cX5_planOn 136 = .ok (.invokevirtual 427, 3) := dk_182 1 171 (dk_at dksX5_planOn_5 18 rfl rfl)
theorem dX5_planOn_139 : decode cX5_planOn 139 = .ok (.iload 6, 2) := dk_21 6 (dk_at dksX5_planOn_5 21 rfl rfl)
theorem dX5_planOn_141 : decode cX5_planOn 141 = .ok (.ifCond .le 13, 3) := dk_158 0 13 (dk_at dksX5_planOn_6 0 rfl rfl)
theorem dX5_planOn_144 : decode cX5_planOn 144 = .ok (.aload_n 0, 1) := dk_42 (dk_at dksX5_planOn_6 3 rfl rfl)
theorem dX5_planOn_145 : decode cX5_planOn 145 = .ok (.dup, 1) := dk_89 (dk_at dksX5_planOn_6 4 rfl rfl)
theorem dX5_planOn_146 : decode cX5_planOn 146 = .ok (.getfield 337, 3) := dk_180 1 81 (dk_at dksX5_planOn_6 5 rfl rfl)
theorem dX5_planOn_149 : decode cX5_planOn 149 = .ok (.iconst 1, 1) := dk_4 (dk_at dksX5_planOn_6 8 rfl rfl)
theorem dX5_planOn_150 : decode cX5_planOn 150 = .ok (.isub, 1) := dk_100 (dk_at dksX5_planOn_6 9 rfl rfl)
theorem dX5_planOn_151 : decode cX5_planOn 151 = .ok (.putfield 337, 3) := dk_181 1 81 (dk_at dksX5_planOn_6 10 rfl rfl)
theorem dX5_planOn_154 : decode cX5_planOn 154 = .ok (.iinc 6 1, 3) := dk_132 6 1 (dk_at dksX5_planOn_6 13 rfl rfl)
theorem dX5_planOn_157 : decode cX5_planOn 157 = .ok (.goto (-77), 3) := dk_167 255 179 (dk_at dksX5_planOn_6 16 rfl rfl)
theorem dX5_planOn_160 : decode cX5_planOn 160 = .ok (.return_, 1) := dk_177 (dk_at dksX5_planOn_6 19 rfl rfl)
abbrev cX5_be : ByteArray := prog_23_method_83_code
def yX5_be : MethodName := ⟨RX5, "be", "([I[I)V"⟩
def dkwX5_be_0 : List UInt8 := [3, 61, 28, 42, 190, 162, 0, 15, 42, 28, 43, 28, 46, 79, 132, 2, 1, 167, 255, 241, 177]
abbrev dktX5_be_0 : List UInt8 := dkwX5_be_0 ++ []
theorem dksX5_be_0 : cX5_be.data.toList.drop 0 = dktX5_be_0 := by decide +kernel
theorem dX5_be_0 : decode cX5_be 0 = .ok (.iconst 0, 1) := dk_3 (dk_at dksX5_be_0 0 rfl rfl)
theorem dX5_be_1 : decode cX5_be 1 = .ok (.istore_n 2, 1) := dk_61 (dk_at dksX5_be_0 1 rfl rfl)
theorem dX5_be_2 : decode cX5_be 2 = .ok (.iload_n 2, 1) := dk_28 (dk_at dksX5_be_0 2 rfl rfl)
theorem dX5_be_3 : decode cX5_be 3 = .ok (.aload_n 0, 1) := dk_42 (dk_at dksX5_be_0 3 rfl rfl)
theorem dX5_be_4 : decode cX5_be 4 = .ok (.arraylength, 1) := dk_190 (dk_at dksX5_be_0 4 rfl rfl)
theorem dX5_be_5 : decode cX5_be 5 = .ok (.if_icmp .ge 15, 3) := dk_162 0 15 (dk_at dksX5_be_0 5 rfl rfl)
theorem dX5_be_8 : decode cX5_be 8 = .ok (.aload_n 0, 1) := dk_42 (dk_at dksX5_be_0 8 rfl rfl)
theorem dX5_be_9 : decode cX5_be 9 = .ok (.iload_n 2, 1) := dk_28 (dk_at dksX5_be_0 9 rfl rfl)
theorem dX5_be_10 : decode cX5_be 10 = .ok (.aload_n 1, 1) := dk_43 (dk_at dksX5_be_0 10 rfl rfl)
theorem dX5_be_11 : decode cX5_be 11 = .ok (.iload_n 2, 1) := dk_28 (dk_at dksX5_be_0 11 rfl rfl)
theorem dX5_be_12 : decode cX5_be 12 = .ok (.iaload, 1) := dk_46 (dk_at dksX5_be_0 12 rfl rfl)
theorem dX5_be_13 : decode cX5_be 13 = .ok (.iastore, 1) := dk_79 (dk_at dksX5_be_0 13 rfl rfl)
theorem dX5_be_14 : decode cX5_be 14 = .ok (.iinc 2 1, 3) := dk_132 2 1 (dk_at dksX5_be_0 14 rfl rfl)
theorem dX5_be_17 : decode cX5_be 17 = .ok (.goto (-15), 3) := dk_167 255 241 (dk_at dksX5_be_0 17 rfl rfl)
theorem dX5_be_20 : decode cX5_be 20 = .ok (.return_, 1) := dk_177 (dk_at dksX5_be_0 20 rfl rfl)
abbrev cX5_planned : ByteArray := prog_23_method_67_code
def yX5_planned : MethodName := ⟨RX5, "planned", "(I)I"⟩
def dkwX5_planned_1 : List UInt8 := [153, 0, 12, 42, 180, 0, 149, 27, 46, 167, 0, 8, 42, 4, 182, 1, 67, 172]
abbrev dktX5_planned_1 : List UInt8 := dkwX5_planned_1 ++ []
def dkwX5_planned_0 : List UInt8 := [42, 3, 181, 0, 194, 42, 180, 0, 152, 2, 159, 0, 26, 27, 3, 42, 180, 0, 152, 4, 100, 184, 0, 197]
abbrev dktX5_planned_0 : List UInt8 := dkwX5_planned_0 ++ dktX5_planned_1
theorem dksX5_planned_0 : cX5_planned.data.toList.drop 0 = dktX5_planned_0 := by decide +kernel
theorem dksX5_planned_1 : cX5_planned.data.toList.drop 24 = dktX5_planned_1 := dk_seg dksX5_planned_0 24 rfl rfl
theorem dX5_planned_0 : decode cX5_planned 0 = .ok (.aload_n 0, 1) := dk_42 (dk_at dksX5_planned_0 0 rfl rfl)
theorem dX5_planned_1 : decode cX5_planned 1 = .ok (.iconst 0, 1) := dk_3 (dk_at dksX5_planned_0 1 rfl rfl)
theorem dX5_planned_2 : decode cX5_planned 2 = .ok (.putfield 194, 3) := dk_181 0 194 (dk_at dksX5_planned_0 2 rfl rfl)
theorem dX5_planned_5 : decode cX5_planned 5 = .ok (.aload_n 0, 1) := dk_42 (dk_at dksX5_planned_0 5 rfl rfl)
theorem dX5_planned_6 : decode cX5_planned 6 = .ok (.getfield 152, 3) := dk_180 0 152 (dk_at dksX5_planned_0 6 rfl rfl)
theorem dX5_planned_9 : decode cX5_planned 9 = .ok (.iconst (-1), 1) := dk_2 (dk_at dksX5_planned_0 9 rfl rfl)
theorem dX5_planned_10 : decode cX5_planned 10 = .ok (.if_icmp .eq 26, 3) := dk_159 0 26 (dk_at dksX5_planned_0 10 rfl rfl)
theorem dX5_planned_13 : decode cX5_planned 13 = .ok (.iload_n 1, 1) := dk_27 (dk_at dksX5_planned_0 13 rfl rfl)
theorem dX5_planned_14 : decode cX5_planned 14 = .ok (.iconst 0, 1) := dk_3 (dk_at dksX5_planned_0 14 rfl rfl)
theorem dX5_planned_15 : decode cX5_planned 15 = .ok (.aload_n 0, 1) := dk_42 (dk_at dksX5_planned_0 15 rfl rfl)
theorem dX5_planned_16 : decode cX5_planned 16 = .ok (.getfield 152, 3) := dk_180 0 152 (dk_at dksX5_planned_0 16 rfl rfl)
theorem dX5_planned_19 : decode cX5_planned 19 = .ok (.iconst 1, 1) := dk_4 (dk_at dksX5_planned_0 19 rfl rfl)
theorem dX5_planned_20 : decode cX5_planned 20 = .ok (.isub, 1) := dk_100 (dk_at dksX5_planned_0 20 rfl rfl)
theorem dX5_planned_21 : decode cX5_planned 21 = .ok (.invokestatic 197, 3) := dk_184 0 197 (dk_at dksX5_planned_0 21 rfl rfl)
theorem dX5_planned_24 : decode cX5_planned 24 = .ok (.ifCond .eq 12, 3) := dk_153 0 12 (dk_at dksX5_planned_1 0 rfl rfl)
theorem dX5_planned_27 : decode cX5_planned 27 = .ok (.aload_n 0, 1) := dk_42 (dk_at dksX5_planned_1 3 rfl rfl)
theorem dX5_planned_28 : decode cX5_planned 28 = .ok (.getfield 149, 3) := dk_180 0 149 (dk_at dksX5_planned_1 4 rfl rfl)
theorem dX5_planned_31 : decode cX5_planned 31 = .ok (.iload_n 1, 1) := dk_27 (dk_at dksX5_planned_1 7 rfl rfl)
theorem dX5_planned_32 : decode cX5_planned 32 = .ok (.iaload, 1) := dk_46 (dk_at dksX5_planned_1 8 rfl rfl)
theorem dX5_planned_33 : decode cX5_planned 33 = .ok (.goto 8, 3) := dk_167 0 8 (dk_at dksX5_planned_1 9 rfl rfl)
theorem dX5_planned_36 : decode cX5_planned 36 = .ok (.aload_n 0, 1) := dk_42 (dk_at dksX5_planned_1 12 rfl rfl)
theorem dX5_planned_37 : decode cX5_planned 37 = .ok (.iconst 1, 1) := dk_4 (dk_at dksX5_planned_1 13 rfl rfl)
theorem dX5_planned_38 : decode cX5_planned 38 = .ok (.invokevirtual 323, 3) := dk_182 1 67 (dk_at dksX5_planned_1 14 rfl rfl)
theorem dX5_planned_41 : decode cX5_planned 41 = .ok (.ireturn, 1) := dk_172 (dk_at dksX5_planned_1 17 rfl rfl)
abbrev cX5_odds : ByteArray := prog_23_method_69_code
def yX5_odds : MethodName := ⟨RX5, "odds", "(II)I"⟩
def dkwX5_odds_6 : List UInt8 := [108, 167, 0, 17, 21, 5, 154, 0, 7, 4, 167, 0, 8, 21, 5, 21, 6, 108, 172]
abbrev dktX5_odds_6 : List UInt8 := dkwX5_odds_6 ++ []
def dkwX5_odds_5 : List UInt8 := [154, 0, 7, 4, 167, 0, 10, 21, 5, 21, 4, 184, 1, 175, 54, 6, 28, 154, 0, 11, 21, 4, 21, 6]
abbrev dktX5_odds_5 : List UInt8 := dkwX5_odds_5 ++ dktX5_odds_6
def dkwX5_odds_4 : List UInt8 := [54, 5, 42, 89, 180, 1, 84, 4, 96, 181, 1, 84, 167, 255, 192, 42, 29, 181, 1, 84, 21, 5]
abbrev dktX5_odds_4 : List UInt8 := dkwX5_odds_4 ++ dktX5_odds_5
def dkwX5_odds_3 : List UInt8 := [42, 180, 1, 84, 46, 167, 0, 4, 3, 96, 54, 4, 21, 5, 42, 180, 0, 91, 42, 180, 1, 84, 46, 96]
abbrev dktX5_odds_3 : List UInt8 := dkwX5_odds_3 ++ dktX5_odds_4
def dkwX5_odds_2 : List UInt8 := [16, 10, 162, 0, 61, 42, 182, 1, 136, 21, 4, 42, 27, 182, 1, 158, 5, 160, 0, 15, 42, 180, 0, 91]
abbrev dktX5_odds_2 : List UInt8 := dkwX5_odds_2 ++ dktX5_odds_3
def dkwX5_odds_1 : List UInt8 := [182, 1, 67, 172, 42, 180, 1, 84, 62, 3, 54, 4, 3, 54, 5, 42, 3, 181, 1, 84, 42, 180, 1, 84]
abbrev dktX5_odds_1 : List UInt8 := dkwX5_odds_1 ++ dktX5_odds_2
def dkwX5_odds_0 : List UInt8 := [42, 3, 181, 0, 194, 42, 27, 182, 1, 126, 153, 0, 12, 28, 155, 0, 8, 28, 4, 164, 0, 9, 42, 4]
abbrev dktX5_odds_0 : List UInt8 := dkwX5_odds_0 ++ dktX5_odds_1
theorem dksX5_odds_0 : cX5_odds.data.toList.drop 0 = dktX5_odds_0 := by decide +kernel
theorem dksX5_odds_1 : cX5_odds.data.toList.drop 24 = dktX5_odds_1 := dk_seg dksX5_odds_0 24 rfl rfl
theorem dksX5_odds_2 : cX5_odds.data.toList.drop 48 = dktX5_odds_2 := dk_seg dksX5_odds_1 24 rfl rfl
theorem dksX5_odds_3 : cX5_odds.data.toList.drop 72 = dktX5_odds_3 := dk_seg dksX5_odds_2 24 rfl rfl
theorem dksX5_odds_4 : cX5_odds.data.toList.drop 96 = dktX5_odds_4 := dk_seg dksX5_odds_3 24 rfl rfl
theorem dksX5_odds_5 : cX5_odds.data.toList.drop 118 = dktX5_odds_5 := dk_seg dksX5_odds_4 22 rfl rfl
theorem dksX5_odds_6 : cX5_odds.data.toList.drop 142 = dktX5_odds_6 := dk_seg dksX5_odds_5 24 rfl rfl
theorem dX5_odds_0 : decode cX5_odds 0 = .ok (.aload_n 0, 1) := dk_42 (dk_at dksX5_odds_0 0 rfl rfl)
theorem dX5_odds_1 : decode cX5_odds 1 = .ok (.iconst 0, 1) := dk_3 (dk_at dksX5_odds_0 1 rfl rfl)
theorem dX5_odds_2 : decode cX5_odds 2 = .ok (.putfield 194, 3) := dk_181 0 194 (dk_at dksX5_odds_0 2 rfl rfl)
theorem dX5_odds_5 : decode cX5_odds 5 = .ok (.aload_n 0, 1) := dk_42 (dk_at dksX5_odds_0 5 rfl rfl)
theorem dX5_odds_6 : decode cX5_odds 6 = .ok (.iload_n 1, 1) := dk_27 (dk_at dksX5_odds_0 6 rfl rfl)
theorem dX5_odds_7 : decode cX5_odds 7 = .ok (.invokevirtual 382, 3) := dk_182 1 126 (dk_at dksX5_odds_0 7 rfl rfl)
theorem dX5_odds_10 : decode cX5_odds 10 = .ok (.ifCond .eq 12, 3) := dk_153 0 12 (dk_at dksX5_odds_0 10 rfl rfl)
theorem dX5_odds_13 : decode cX5_odds 13 = .ok (.iload_n 2, 1) := dk_28 (dk_at dksX5_odds_0 13 rfl rfl)
theorem dX5_odds_14 : decode cX5_odds 14 = .ok (.ifCond .lt 8, 3) := dk_155 0 8 (dk_at dksX5_odds_0 14 rfl rfl)
theorem dX5_odds_17 : decode cX5_odds 17 = .ok (.iload_n 2, 1) := dk_28 (dk_at dksX5_odds_0 17 rfl rfl)
theorem dX5_odds_18 : decode cX5_odds 18 = .ok (.iconst 1, 1) := dk_4 (dk_at dksX5_odds_0 18 rfl rfl)
theorem dX5_odds_19 : decode cX5_odds 19 = .ok (.if_icmp .le 9, 3) := dk_164 0 9 (dk_at dksX5_odds_0 19 rfl rfl)
theorem dX5_odds_22 : decode cX5_odds 22 = .ok (.aload_n 0, 1) := dk_42 (dk_at dksX5_odds_0 22 rfl rfl)
theorem dX5_odds_23 : decode cX5_odds 23 = .ok (.iconst 1, 1) := dk_4 (dk_at dksX5_odds_0 23 rfl rfl)
theorem dX5_odds_24 : decode cX5_odds 24 = .ok (.invokevirtual 323, 3) := dk_182 1 67 (dk_at dksX5_odds_1 0 rfl rfl)
theorem dX5_odds_27 : decode cX5_odds 27 = .ok (.ireturn, 1) := dk_172 (dk_at dksX5_odds_1 3 rfl rfl)
theorem dX5_odds_28 : decode cX5_odds 28 = .ok (.aload_n 0, 1) := dk_42 (dk_at dksX5_odds_1 4 rfl rfl)
theorem dX5_odds_29 : decode cX5_odds 29 = .ok (.getfield 340, 3) := dk_180 1 84 (dk_at dksX5_odds_1 5 rfl rfl)
theorem dX5_odds_32 : decode cX5_odds 32 = .ok (.istore_n 3, 1) := dk_62 (dk_at dksX5_odds_1 8 rfl rfl)
theorem dX5_odds_33 : decode cX5_odds 33 = .ok (.iconst 0, 1) := dk_3 (dk_at dksX5_odds_1 9 rfl rfl)
theorem dX5_odds_34 : decode cX5_odds 34 = .ok (.istore 4, 2) := dk_54 4 (dk_at dksX5_odds_1 10 rfl rfl)
theorem dX5_odds_36 : decode cX5_odds 36 = .ok (.iconst 0, 1) := dk_3 (dk_at dksX5_odds_1 12 rfl rfl)
theorem dX5_odds_37 : decode cX5_odds 37 = .ok (.istore 5, 2) := dk_54 5 (dk_at dksX5_odds_1 13 rfl rfl)
theorem dX5_odds_39 : decode cX5_odds 39 = .ok (.aload_n 0, 1) := dk_42 (dk_at dksX5_odds_1 15 rfl rfl)
theorem dX5_odds_40 : decode cX5_odds 40 = .ok (.iconst 0, 1) := dk_3 (dk_at dksX5_odds_1 16 rfl rfl)
theorem dX5_odds_41 : decode cX5_odds 41 = .ok (.putfield 340, 3) := dk_181 1 84 (dk_at dksX5_odds_1 17 rfl rfl)
theorem dX5_odds_44 : decode cX5_odds 44 = .ok (.aload_n 0, 1) := dk_42 (dk_at dksX5_odds_1 20 rfl rfl)
theorem dX5_odds_45 : decode cX5_odds 45 = .ok (.getfield 340, 3) := dk_180 1 84 (dk_at dksX5_odds_1 21 rfl rfl)
theorem dX5_odds_48 : decode cX5_odds 48 = .ok (.bipush 10, 2) := dk_16 10 (dk_at dksX5_odds_2 0 rfl rfl)
theorem dX5_odds_50 : decode cX5_odds 50 = .ok (.if_icmp .ge 61, 3) := dk_162 0 61 (dk_at dksX5_odds_2 2 rfl rfl)
theorem dX5_odds_53 : decode cX5_odds 53 = .ok (.aload_n 0, 1) := dk_42 (dk_at dksX5_odds_2 5 rfl rfl)
theorem dX5_odds_54 : decode cX5_odds 54 = .ok (.invokevirtual 392, 3) := dk_182 1 136 (dk_at dksX5_odds_2 6 rfl rfl)
theorem dX5_odds_57 : decode cX5_odds 57 = .ok (.iload 4, 2) := dk_21 4 (dk_at dksX5_odds_2 9 rfl rfl)
theorem dX5_odds_59 : decode cX5_odds 59 = .ok (.aload_n 0, 1) := dk_42 (dk_at dksX5_odds_2 11 rfl rfl)
theorem dX5_odds_60 : decode cX5_odds 60 = .ok (.iload_n 1, 1) := dk_27 (dk_at dksX5_odds_2 12 rfl rfl)
theorem dX5_odds_61 : decode cX5_odds 61 = .ok (.invokevirtual 414, 3) := dk_182 1 158 (dk_at dksX5_odds_2 13 rfl rfl)
theorem dX5_odds_64 : decode cX5_odds 64 = .ok (.iconst 2, 1) := dk_5 (dk_at dksX5_odds_2 16 rfl rfl)
theorem dX5_odds_65 : decode cX5_odds 65 = .ok (.if_icmp .ne 15, 3) := dk_160 0 15 (dk_at dksX5_odds_2 17 rfl rfl)
theorem dX5_odds_68 : decode cX5_odds 68 = .ok (.aload_n 0, 1) := dk_42 (dk_at dksX5_odds_2 20 rfl rfl)
theorem dX5_odds_69 : decode cX5_odds 69 = .ok (.getfield 91, 3) := dk_180 0 91 (dk_at dksX5_odds_2 21 rfl rfl)
theorem dX5_odds_72 : decode cX5_odds 72 = .ok (.aload_n 0, 1) := dk_42 (dk_at dksX5_odds_3 0 rfl rfl)
theorem dX5_odds_73 : decode cX5_odds 73 = .ok (.getfield 340, 3) := dk_180 1 84 (dk_at dksX5_odds_3 1 rfl rfl)
theorem dX5_odds_76 : decode cX5_odds 76 = .ok (.iaload, 1) := dk_46 (dk_at dksX5_odds_3 4 rfl rfl)
theorem dX5_odds_77 : decode cX5_odds 77 = .ok (.goto 4, 3) := dk_167 0 4 (dk_at dksX5_odds_3 5 rfl rfl)
theorem dX5_odds_80 : decode cX5_odds 80 = .ok (.iconst 0, 1) := dk_3 (dk_at dksX5_odds_3 8 rfl rfl)
theorem dX5_odds_81 : decode cX5_odds 81 = .ok (.iadd, 1) := dk_96 (dk_at dksX5_odds_3 9 rfl rfl)
theorem dX5_odds_82 : decode cX5_odds 82 = .ok (.istore 4, 2) := dk_54 4 (dk_at dksX5_odds_3 10 rfl rfl)
theorem dX5_odds_84 : decode cX5_odds 84 = .ok (.iload 5, 2) := dk_21 5 (dk_at dksX5_odds_3 12 rfl rfl)
theorem dX5_odds_86 : decode cX5_odds 86 = .ok (.aload_n 0, 1) := dk_42 (dk_at dksX5_odds_3 14 rfl rfl)
theorem dX5_odds_87 : decode cX5_odds 87 = .ok (.getfield 91, 3) := dk_180 0 91 (dk_at dksX5_odds_3 15 rfl rfl)
theorem dX5_odds_90 : decode cX5_odds 90 = .ok (.aload_n 0, 1) := dk_42 (dk_at dksX5_odds_3 18 rfl rfl)
theorem dX5_odds_91 : decode cX5_odds 91 = .ok (.getfield 340, 3) := dk_180 1 84 (dk_at dksX5_odds_3 19 rfl rfl)
theorem dX5_odds_94 : decode cX5_odds 94 = .ok (.iaload, 1) := dk_46 (dk_at dksX5_odds_3 22 rfl rfl)
theorem dX5_odds_95 : decode cX5_odds 95 = .ok (.iadd, 1) := dk_96 (dk_at dksX5_odds_3 23 rfl rfl)
theorem dX5_odds_96 : decode cX5_odds 96 = .ok (.istore 5, 2) := dk_54 5 (dk_at dksX5_odds_4 0 rfl rfl)
theorem dX5_odds_98 : decode cX5_odds 98 = .ok (.aload_n 0, 1) := dk_42 (dk_at dksX5_odds_4 2 rfl rfl)
theorem dX5_odds_99 : decode cX5_odds 99 = .ok (.dup, 1) := dk_89 (dk_at dksX5_odds_4 3 rfl rfl)
theorem dX5_odds_100 : decode cX5_odds 100 = .ok (.getfield 340, 3) := dk_180 1 84 (dk_at dksX5_odds_4 4 rfl rfl)
theorem dX5_odds_103 : decode cX5_odds 103 = .ok (.iconst 1, 1) := dk_4 (dk_at dksX5_odds_4 7 rfl rfl)
theorem dX5_odds_104 : decode cX5_odds 104 = .ok (.iadd, 1) := dk_96 (dk_at dksX5_odds_4 8 rfl rfl)
theorem dX5_odds_105 : decode cX5_odds 105 = .ok (.putfield 340, 3) := dk_181 1 84 (dk_at dksX5_odds_4 9 rfl rfl)
theorem dX5_odds_108 : decode cX5_odds 108 = .ok (.goto (-64), 3) := dk_167 255 192 (dk_at dksX5_odds_4 12 rfl rfl)
theorem dX5_odds_111 : decode cX5_odds 111 = .ok (.aload_n 0, 1) := dk_42 (dk_at dksX5_odds_4 15 rfl rfl)
theorem dX5_odds_112 : decode cX5_odds 112 = .ok (.iload_n 3, 1) := dk_29 (dk_at dksX5_odds_4 16 rfl rfl)
theorem dX5_odds_113 : decode cX5_odds 113 = .ok (.putfield 340, 3) := dk_181 1 84 (dk_at dksX5_odds_4 17 rfl rfl)
theorem dX5_odds_116 : decode cX5_odds 116 = .ok (.iload 5, 2) := dk_21 5 (dk_at dksX5_odds_4 20 rfl rfl)
theorem dX5_odds_118 : decode cX5_odds 118 = .ok (.ifCond .ne 7, 3) := dk_154 0 7 (dk_at dksX5_odds_5 0 rfl rfl)
theorem dX5_odds_121 : decode cX5_odds 121 = .ok (.iconst 1, 1) := dk_4 (dk_at dksX5_odds_5 3 rfl rfl)
theorem dX5_odds_122 : decode cX5_odds 122 = .ok (.goto 10, 3) := dk_167 0 10 (dk_at dksX5_odds_5 4 rfl rfl)
theorem dX5_odds_125 : decode cX5_odds 125 = .ok (.iload 5, 2) := dk_21 5 (dk_at dksX5_odds_5 7 rfl rfl)
theorem dX5_odds_127 : decode cX5_odds 127 = .ok (.iload 4, 2) := dk_21 4 (dk_at dksX5_odds_5 9 rfl rfl)
theorem dX5_odds_129 : decode cX5_odds 129 = .ok (.invokestatic 431, 3) := dk_184 1 175 (dk_at dksX5_odds_5 11 rfl rfl)
theorem dX5_odds_132 : decode cX5_odds 132 = .ok (.istore 6, 2) := dk_54 6 (dk_at dksX5_odds_5 14 rfl rfl)
theorem dX5_odds_134 : decode cX5_odds 134 = .ok (.iload_n 2, 1) := dk_28 (dk_at dksX5_odds_5 16 rfl rfl)
theorem dX5_odds_135 : decode cX5_odds 135 = .ok (.ifCond .ne 11, 3) := dk_154 0 11 (dk_at dksX5_odds_5 17 rfl rfl)
theorem dX5_odds_138 : decode cX5_odds 138 = .ok (.iload 4, 2) := dk_21 4 (dk_at dksX5_odds_5 20 rfl rfl)
theorem dX5_odds_140 : decode cX5_odds 140 = .ok (.iload 6, 2) := dk_21 6 (dk_at dksX5_odds_5 22 rfl rfl)
theorem dX5_odds_142 : decode cX5_odds 142 = .ok (.idiv, 1) := dk_108 (dk_at dksX5_odds_6 0 rfl rfl)
theorem dX5_odds_143 : decode cX5_odds 143 = .ok (.goto 17, 3) := dk_167 0 17 (dk_at dksX5_odds_6 1 rfl rfl)
theorem dX5_odds_146 : decode cX5_odds 146 = .ok (.iload 5, 2) := dk_21 5 (dk_at dksX5_odds_6 4 rfl rfl)
theorem dX5_odds_148 : decode cX5_odds 148 = .ok (.ifCond .ne 7, 3) := dk_154 0 7 (dk_at dksX5_odds_6 6 rfl rfl)
theorem dX5_odds_151 : decode cX5_odds 151 = .ok (.iconst 1, 1) := dk_4 (dk_at dksX5_odds_6 9 rfl rfl)
theorem dX5_odds_152 : decode cX5_odds 152 = .ok (.goto 8, 3) := dk_167 0 8 (dk_at dksX5_odds_6 10 rfl rfl)
theorem dX5_odds_155 : decode cX5_odds 155 = .ok (.iload 5, 2) := dk_21 5 (dk_at dksX5_odds_6 13 rfl rfl)
theorem dX5_odds_157 : decode cX5_odds 157 = .ok (.iload 6, 2) := dk_21 6 (dk_at dksX5_odds_6 15 rfl rfl)
theorem dX5_odds_159 : decode cX5_odds 159 = .ok (.idiv, 1) := dk_108 (dk_at dksX5_odds_6 17 rfl rfl)
theorem dX5_odds_160 : decode cX5_odds 160 = .ok (.ireturn, 1) := dk_172 (dk_at dksX5_odds_6 18 rfl rfl)
abbrev cX5_common : ByteArray := prog_23_method_68_code
def yX5_common : MethodName := ⟨RX5, "common", "(II)I"⟩
def dkwX5_common_0 : List UInt8 := [26, 61, 27, 62, 29, 153, 0, 16, 28, 29, 112, 54, 4, 29, 61, 21, 4, 62, 167, 255, 242, 28, 172]
abbrev dktX5_common_0 : List UInt8 := dkwX5_common_0 ++ []
theorem dksX5_common_0 : cX5_common.data.toList.drop 0 = dktX5_common_0 := by decide +kernel
theorem dX5_common_0 : decode cX5_common 0 = .ok (.iload_n 0, 1) := dk_26 (dk_at dksX5_common_0 0 rfl rfl)
theorem dX5_common_1 : decode cX5_common 1 = .ok (.istore_n 2, 1) := dk_61 (dk_at dksX5_common_0 1 rfl rfl)
theorem dX5_common_2 : decode cX5_common 2 = .ok (.iload_n 1, 1) := dk_27 (dk_at dksX5_common_0 2 rfl rfl)
theorem dX5_common_3 : decode cX5_common 3 = .ok (.istore_n 3, 1) := dk_62 (dk_at dksX5_common_0 3 rfl rfl)
theorem dX5_common_4 : decode cX5_common 4 = .ok (.iload_n 3, 1) := dk_29 (dk_at dksX5_common_0 4 rfl rfl)
theorem dX5_common_5 : decode cX5_common 5 = .ok (.ifCond .eq 16, 3) := dk_153 0 16 (dk_at dksX5_common_0 5 rfl rfl)
theorem dX5_common_8 : decode cX5_common 8 = .ok (.iload_n 2, 1) := dk_28 (dk_at dksX5_common_0 8 rfl rfl)
theorem dX5_common_9 : decode cX5_common 9 = .ok (.iload_n 3, 1) := dk_29 (dk_at dksX5_common_0 9 rfl rfl)
theorem dX5_common_10 : decode cX5_common 10 = .ok (.irem, 1) := dk_112 (dk_at dksX5_common_0 10 rfl rfl)
theorem dX5_common_11 : decode cX5_common 11 = .ok (.istore 4, 2) := dk_54 4 (dk_at dksX5_common_0 11 rfl rfl)
theorem dX5_common_13 : decode cX5_common 13 = .ok (.iload_n 3, 1) := dk_29 (dk_at dksX5_common_0 13 rfl rfl)
theorem dX5_common_14 : decode cX5_common 14 = .ok (.istore_n 2, 1) := dk_61 (dk_at dksX5_common_0 14 rfl rfl)
theorem dX5_common_15 : decode cX5_common 15 = .ok (.iload 4, 2) := dk_21 4 (dk_at dksX5_common_0 15 rfl rfl)
theorem dX5_common_17 : decode cX5_common 17 = .ok (.istore_n 3, 1) := dk_62 (dk_at dksX5_common_0 17 rfl rfl)
theorem dX5_common_18 : decode cX5_common 18 = .ok (.goto (-14), 3) := dk_167 255 242 (dk_at dksX5_common_0 18 rfl rfl)
theorem dX5_common_21 : decode cX5_common 21 = .ok (.iload_n 2, 1) := dk_28 (dk_at dksX5_common_0 21 rfl rfl)
theorem dX5_common_22 : decode cX5_common 22 = .ok (.ireturn, 1) := dk_172 (dk_at dksX5_common_0 22 rfl rfl)
abbrev cX5_bright : ByteArray := prog_23_method_72_code
def yX5_bright : MethodName := ⟨RX5, "bright", "(IIIII)I"⟩
def dkwX5_bright_7 : List UInt8 := [154, 0, 8, 21, 6, 167, 0, 5, 21, 7, 172]
abbrev dktX5_bright_7 : List UInt8 := dkwX5_bright_7 ++ []
def dkwX5_bright_6 : List UInt8 := [16, 7, 21, 7, 104, 42, 180, 0, 143, 21, 8, 46, 96, 54, 7, 132, 8, 1, 167, 255, 229, 21, 5]
abbrev dktX5_bright_6 : List UInt8 := dkwX5_bright_6 ++ dktX5_bright_7
def dkwX5_bright_5 : List UInt8 := [29, 100, 4, 96, 164, 0, 5, 2, 172, 3, 54, 7, 3, 54, 8, 21, 8, 21, 4, 29, 100, 163, 0, 24]
abbrev dktX5_bright_5 : List UInt8 := dkwX5_bright_5 ++ dktX5_bright_6
def dkwX5_bright_4 : List UInt8 := [27, 28, 29, 21, 4, 3, 21, 6, 182, 1, 182, 154, 0, 9, 132, 6, 1, 167, 255, 227, 21, 6, 21, 4]
abbrev dktX5_bright_4 : List UInt8 := dkwX5_bright_4 ++ dktX5_bright_5
def dkwX5_bright_3 : List UInt8 := [154, 0, 9, 42, 5, 182, 1, 67, 172, 3, 54, 6, 21, 6, 21, 4, 29, 100, 4, 96, 163, 0, 24, 42]
abbrev dktX5_bright_3 : List UInt8 := dkwX5_bright_3 ++ dktX5_bright_4
def dkwX5_bright_2 : List UInt8 := [21, 4, 29, 161, 0, 22, 21, 4, 29, 8, 96, 163, 0, 14, 28, 3, 17, 0, 255, 184, 0, 197]
abbrev dktX5_bright_2 : List UInt8 := dkwX5_bright_2 ++ dktX5_bright_3
def dkwX5_bright_1 : List UInt8 := [184, 1, 129, 153, 0, 14, 21, 5, 155, 0, 9, 21, 5, 4, 164, 0, 9, 42, 4, 182, 1, 67, 172]
abbrev dktX5_bright_1 : List UInt8 := dkwX5_bright_1 ++ dktX5_bright_2
def dkwX5_bright_0 : List UInt8 := [42, 3, 181, 0, 194, 42, 27, 182, 1, 120, 153, 0, 29, 29, 184, 1, 129, 153, 0, 22, 21, 4]
abbrev dktX5_bright_0 : List UInt8 := dkwX5_bright_0 ++ dktX5_bright_1
theorem dksX5_bright_0 : cX5_bright.data.toList.drop 0 = dktX5_bright_0 := by decide +kernel
theorem dksX5_bright_1 : cX5_bright.data.toList.drop 22 = dktX5_bright_1 := dk_seg dksX5_bright_0 22 rfl rfl
theorem dksX5_bright_2 : cX5_bright.data.toList.drop 45 = dktX5_bright_2 := dk_seg dksX5_bright_1 23 rfl rfl
theorem dksX5_bright_3 : cX5_bright.data.toList.drop 67 = dktX5_bright_3 := dk_seg dksX5_bright_2 22 rfl rfl
theorem dksX5_bright_4 : cX5_bright.data.toList.drop 91 = dktX5_bright_4 := dk_seg dksX5_bright_3 24 rfl rfl
theorem dksX5_bright_5 : cX5_bright.data.toList.drop 115 = dktX5_bright_5 := dk_seg dksX5_bright_4 24 rfl rfl
theorem dksX5_bright_6 : cX5_bright.data.toList.drop 139 = dktX5_bright_6 := dk_seg dksX5_bright_5 24 rfl rfl
theorem dksX5_bright_7 : cX5_bright.data.toList.drop 162 = dktX5_bright_7 := dk_seg dksX5_bright_6 23 rfl rfl
theorem dX5_bright_0 : decode cX5_bright 0 = .ok (.aload_n 0, 1) := dk_42 (dk_at dksX5_bright_0 0 rfl rfl)
theorem dX5_bright_1 : decode cX5_bright 1 = .ok (.iconst 0, 1) := dk_3 (dk_at dksX5_bright_0 1 rfl rfl)
theorem dX5_bright_2 : decode cX5_bright 2 = .ok (.putfield 194, 3) := dk_181 0 194 (dk_at dksX5_bright_0 2 rfl rfl)
theorem dX5_bright_5 : decode cX5_bright 5 = .ok (.aload_n 0, 1) := dk_42 (dk_at dksX5_bright_0 5 rfl rfl)
theorem dX5_bright_6 : decode cX5_bright 6 = .ok (.iload_n 1, 1) := dk_27 (dk_at dksX5_bright_0 6 rfl rfl)
theorem dX5_bright_7 : decode cX5_bright 7 = .ok (.invokevirtual 376, 3) := dk_182 1 120 (dk_at dksX5_bright_0 7 rfl rfl)
theorem dX5_bright_10 : decode cX5_bright 10 = .ok (.ifCond .eq 29, 3) := dk_153 0 29 (dk_at dksX5_bright_0 10 rfl rfl)
theorem dX5_bright_13 : decode cX5_bright 13 = .ok (.iload_n 3, 1) := dk_29 (dk_at dksX5_bright_0 13 rfl rfl)
theorem dX5_bright_14 : decode cX5_bright 14 = .ok (.invokestatic 385, 3) := dk_184 1 129 (dk_at dksX5_bright_0 14 rfl rfl)
theorem dX5_bright_17 : decode cX5_bright 17 = .ok (.ifCond .eq 22, 3) := dk_153 0 22 (dk_at dksX5_bright_0 17 rfl rfl)
theorem dX5_bright_20 : decode cX5_bright 20 = .ok (.iload 4, 2) := dk_21 4 (dk_at dksX5_bright_0 20 rfl rfl)
theorem dX5_bright_22 : decode cX5_bright 22 = .ok (.invokestatic 385, 3) := dk_184 1 129 (dk_at dksX5_bright_1 0 rfl rfl)
theorem dX5_bright_25 : decode cX5_bright 25 = .ok (.ifCond .eq 14, 3) := dk_153 0 14 (dk_at dksX5_bright_1 3 rfl rfl)
theorem dX5_bright_28 : decode cX5_bright 28 = .ok (.iload 5, 2) := dk_21 5 (dk_at dksX5_bright_1 6 rfl rfl)
theorem dX5_bright_30 : decode cX5_bright 30 = .ok (.ifCond .lt 9, 3) := dk_155 0 9 (dk_at dksX5_bright_1 8 rfl rfl)
theorem dX5_bright_33 : decode cX5_bright 33 = .ok (.iload 5, 2) := dk_21 5 (dk_at dksX5_bright_1 11 rfl rfl)
theorem dX5_bright_35 : decode cX5_bright 35 = .ok (.iconst 1, 1) := dk_4 (dk_at dksX5_bright_1 13 rfl rfl)
theorem dX5_bright_36 : decode cX5_bright 36 = .ok (.if_icmp .le 9, 3) := dk_164 0 9 (dk_at dksX5_bright_1 14 rfl rfl)
theorem dX5_bright_39 : decode cX5_bright 39 = .ok (.aload_n 0, 1) := dk_42 (dk_at dksX5_bright_1 17 rfl rfl)
theorem dX5_bright_40 : decode cX5_bright 40 = .ok (.iconst 1, 1) := dk_4 (dk_at dksX5_bright_1 18 rfl rfl)
theorem dX5_bright_41 : decode cX5_bright 41 = .ok (.invokevirtual 323, 3) := dk_182 1 67 (dk_at dksX5_bright_1 19 rfl rfl)
theorem dX5_bright_44 : decode cX5_bright 44 = .ok (.ireturn, 1) := dk_172 (dk_at dksX5_bright_1 22 rfl rfl)
theorem dX5_bright_45 : decode cX5_bright 45 = .ok (.iload 4, 2) := dk_21 4 (dk_at dksX5_bright_2 0 rfl rfl)
theorem dX5_bright_47 : decode cX5_bright 47 = .ok (.iload_n 3, 1) := dk_29 (dk_at dksX5_bright_2 2 rfl rfl)
theorem dX5_bright_48 : decode cX5_bright 48 = .ok (.if_icmp .lt 22, 3) := dk_161 0 22 (dk_at dksX5_bright_2 3 rfl rfl)
theorem dX5_bright_51 : decode cX5_bright 51 = .ok (.iload 4, 2) := dk_21 4 (dk_at dksX5_bright_2 6 rfl rfl)
theorem dX5_bright_53 : decode cX5_bright 53 = .ok (.iload_n 3, 1) := dk_29 (dk_at dksX5_bright_2 8 rfl rfl)
theorem dX5_bright_54 : decode cX5_bright 54 = .ok (.iconst 5, 1) := dk_8 (dk_at dksX5_bright_2 9 rfl rfl)
theorem dX5_bright_55 : decode cX5_bright 55 = .ok (.iadd, 1) := dk_96 (dk_at dksX5_bright_2 10 rfl rfl)
theorem dX5_bright_56 : decode cX5_bright 56 = .ok (.if_icmp .gt 14, 3) := dk_163 0 14 (dk_at dksX5_bright_2 11 rfl rfl)
theorem dX5_bright_59 : decode cX5_bright 59 = .ok (.iload_n 2, 1) := dk_28 (dk_at dksX5_bright_2 14 rfl rfl)
theorem dX5_bright_60 : decode cX5_bright 60 = .ok (.iconst 0, 1) := dk_3 (dk_at dksX5_bright_2 15 rfl rfl)
theorem dX5_bright_61 : decode cX5_bright 61 = .ok (.sipush 255, 3) := dk_17 0 255 (dk_at dksX5_bright_2 16 rfl rfl)
theorem dX5_bright_64 : decode cX5_bright 64 = .ok (.invokestatic 197, 3) := dk_184 0 197 (dk_at dksX5_bright_2 19 rfl rfl)
theorem dX5_bright_67 : decode cX5_bright 67 = .ok (.ifCond .ne 9, 3) := dk_154 0 9 (dk_at dksX5_bright_3 0 rfl rfl)
theorem dX5_bright_70 : decode cX5_bright 70 = .ok (.aload_n 0, 1) := dk_42 (dk_at dksX5_bright_3 3 rfl rfl)
theorem dX5_bright_71 : decode cX5_bright 71 = .ok (.iconst 2, 1) := dk_5 (dk_at dksX5_bright_3 4 rfl rfl)
theorem dX5_bright_72 : decode cX5_bright 72 = .ok (.invokevirtual 323, 3) := dk_182 1 67 (dk_at dksX5_bright_3 5 rfl rfl)
theorem dX5_bright_75 : decode cX5_bright 75 = .ok (.ireturn, 1) := dk_172 (dk_at dksX5_bright_3 8 rfl rfl)
theorem dX5_bright_76 : decode cX5_bright 76 = .ok (.iconst 0, 1) := dk_3 (dk_at dksX5_bright_3 9 rfl rfl)
theorem dX5_bright_77 : decode cX5_bright 77 = .ok (.istore 6, 2) := dk_54 6 (dk_at dksX5_bright_3 10 rfl rfl)
theorem dX5_bright_79 : decode cX5_bright 79 = .ok (.iload 6, 2) := dk_21 6 (dk_at dksX5_bright_3 12 rfl rfl)
theorem dX5_bright_81 : decode cX5_bright 81 = .ok (.iload 4, 2) := dk_21 4 (dk_at dksX5_bright_3 14 rfl rfl)
theorem dX5_bright_83 : decode cX5_bright 83 = .ok (.iload_n 3, 1) := dk_29 (dk_at dksX5_bright_3 16 rfl rfl)
theorem dX5_bright_84 : decode cX5_bright 84 = .ok (.isub, 1) := dk_100 (dk_at dksX5_bright_3 17 rfl rfl)
theorem dX5_bright_85 : decode cX5_bright 85 = .ok (.iconst 1, 1) := dk_4 (dk_at dksX5_bright_3 18 rfl rfl)
theorem dX5_bright_86 : decode cX5_bright 86 = .ok (.iadd, 1) := dk_96 (dk_at dksX5_bright_3 19 rfl rfl)
theorem dX5_bright_87 : decode cX5_bright 87 = .ok (.if_icmp .gt 24, 3) := dk_163 0 24 (dk_at dksX5_bright_3 20 rfl rfl)
theorem dX5_bright_90 : decode cX5_bright 90 = .ok (.aload_n 0, 1) := dk_42 (dk_at dksX5_bright_3 23 rfl rfl)
theorem dX5_bright_91 : decode cX5_bright 91 = .ok (.iload_n 1, 1) := dk_27 (dk_at dksX5_bright_4 0 rfl rfl)
theorem dX5_bright_92 : decode cX5_bright 92 = .ok (.iload_n 2, 1) := dk_28 (dk_at dksX5_bright_4 1 rfl rfl)
theorem dX5_bright_93 : decode cX5_bright 93 = .ok (.iload_n 3, 1) := dk_29 (dk_at dksX5_bright_4 2 rfl rfl)
theorem dX5_bright_94 : decode cX5_bright 94 = .ok (.iload 4, 2) := dk_21 4 (dk_at dksX5_bright_4 3 rfl rfl)
theorem dX5_bright_96 : decode cX5_bright 96 = .ok (.iconst 0, 1) := dk_3 (dk_at dksX5_bright_4 5 rfl rfl)
theorem dX5_bright_97 : decode cX5_bright 97 = .ok (.iload 6, 2) := dk_21 6 (dk_at dksX5_bright_4 6 rfl rfl)
theorem dX5_bright_99 : decode cX5_bright 99 = .ok (.invokevirtual 438, 3) := dk_182 1 182 (dk_at dksX5_bright_4 8 rfl rfl)
theorem dX5_bright_102 : decode cX5_bright 102 = .ok (.ifCond .ne 9, 3) := dk_154 0 9 (dk_at dksX5_bright_4 11 rfl rfl)
theorem dX5_bright_105 : decode cX5_bright 105 = .ok (.iinc 6 1, 3) := dk_132 6 1 (dk_at dksX5_bright_4 14 rfl rfl)
theorem dX5_bright_108 : decode cX5_bright 108 = .ok (.goto (-29), 3) := dk_167 255 227 (dk_at dksX5_bright_4 17 rfl rfl)
theorem dX5_bright_111 : decode cX5_bright 111 = .ok (.iload 6, 2) := dk_21 6 (dk_at dksX5_bright_4 20 rfl rfl)
theorem dX5_bright_113 : decode cX5_bright 113 = .ok (.iload 4, 2) := dk_21 4 (dk_at dksX5_bright_4 22 rfl rfl)
theorem dX5_bright_115 : decode cX5_bright 115 = .ok (.iload_n 3, 1) := dk_29 (dk_at dksX5_bright_5 0 rfl rfl)
theorem dX5_bright_116 : decode cX5_bright 116 = .ok (.isub, 1) := dk_100 (dk_at dksX5_bright_5 1 rfl rfl)
theorem dX5_bright_117 : decode cX5_bright 117 = .ok (.iconst 1, 1) := dk_4 (dk_at dksX5_bright_5 2 rfl rfl)
theorem dX5_bright_118 : decode cX5_bright 118 = .ok (.iadd, 1) := dk_96 (dk_at dksX5_bright_5 3 rfl rfl)
theorem dX5_bright_119 : decode cX5_bright 119 = .ok (.if_icmp .le 5, 3) := dk_164 0 5 (dk_at dksX5_bright_5 4 rfl rfl)
theorem dX5_bright_122 : decode cX5_bright 122 = .ok (.iconst (-1), 1) := dk_2 (dk_at dksX5_bright_5 7 rfl rfl)
theorem dX5_bright_123 : decode cX5_bright 123 = .ok (.ireturn, 1) := dk_172 (dk_at dksX5_bright_5 8 rfl rfl)
theorem dX5_bright_124 : decode cX5_bright 124 = .ok (.iconst 0, 1) := dk_3 (dk_at dksX5_bright_5 9 rfl rfl)
theorem dX5_bright_125 : decode cX5_bright 125 = .ok (.istore 7, 2) := dk_54 7 (dk_at dksX5_bright_5 10 rfl rfl)
theorem dX5_bright_127 : decode cX5_bright 127 = .ok (.iconst 0, 1) := dk_3 (dk_at dksX5_bright_5 12 rfl rfl)
theorem dX5_bright_128 : decode cX5_bright 128 = .ok (.istore 8, 2) := dk_54 8 (dk_at dksX5_bright_5 13 rfl rfl)
theorem dX5_bright_130 : decode cX5_bright 130 = .ok (.iload 8, 2) := dk_21 8 (dk_at dksX5_bright_5 15 rfl rfl)
theorem dX5_bright_132 : decode cX5_bright 132 = .ok (.iload 4, 2) := dk_21 4 (dk_at dksX5_bright_5 17 rfl rfl)
theorem dX5_bright_134 : decode cX5_bright 134 = .ok (.iload_n 3, 1) := dk_29 (dk_at dksX5_bright_5 19 rfl rfl)
theorem dX5_bright_135 : decode cX5_bright 135 = .ok (.isub, 1) := dk_100 (dk_at dksX5_bright_5 20 rfl rfl)
theorem dX5_bright_136 : decode cX5_bright 136 = .ok (.if_icmp .gt 24, 3) := dk_163 0 24 (dk_at dksX5_bright_5 21 rfl rfl)
theorem dX5_bright_139 : decode cX5_bright 139 = .ok (.bipush 7, 2) := dk_16 7 (dk_at dksX5_bright_6 0 rfl rfl)
theorem dX5_bright_141 : decode cX5_bright 141 = .ok (.iload 7, 2) := dk_21 7 (dk_at dksX5_bright_6 2 rfl rfl)
theorem dX5_bright_143 : decode cX5_bright 143 = .ok (.imul, 1) := dk_104 (dk_at dksX5_bright_6 4 rfl rfl)
theorem dX5_bright_144 : decode cX5_bright 144 = .ok (.aload_n 0, 1) := dk_42 (dk_at dksX5_bright_6 5 rfl rfl)
theorem dX5_bright_145 : decode cX5_bright 145 = .ok (.getfield 143, 3) := dk_180 0 143 (dk_at dksX5_bright_6 6 rfl rfl)
theorem dX5_bright_148 : decode cX5_bright 148 = .ok (.iload 8, 2) := dk_21 8 (dk_at dksX5_bright_6 9 rfl rfl)
theorem dX5_bright_150 : decode cX5_bright 150 = .ok (.iaload, 1) := dk_46 (dk_at dksX5_bright_6 11 rfl rfl)
theorem dX5_bright_151 : decode cX5_bright 151 = .ok (.iadd, 1) := dk_96 (dk_at dksX5_bright_6 12 rfl rfl)
theorem dX5_bright_152 : decode cX5_bright 152 = .ok (.istore 7, 2) := dk_54 7 (dk_at dksX5_bright_6 13 rfl rfl)
theorem dX5_bright_154 : decode cX5_bright 154 = .ok (.iinc 8 1, 3) := dk_132 8 1 (dk_at dksX5_bright_6 15 rfl rfl)
theorem dX5_bright_157 : decode cX5_bright 157 = .ok (.goto (-27), 3) := dk_167 255 229 (dk_at dksX5_bright_6 18 rfl rfl)
theorem dX5_bright_160 : decode cX5_bright 160 = .ok (.iload 5, 2) := dk_21 5 (dk_at dksX5_bright_6 21 rfl rfl)
theorem dX5_bright_162 : decode cX5_bright 162 = .ok (.ifCond .ne 8, 3) := dk_154 0 8 (dk_at dksX5_bright_7 0 rfl rfl)
theorem dX5_bright_165 : decode cX5_bright 165 = .ok (.iload 6, 2) := dk_21 6 (dk_at dksX5_bright_7 3 rfl rfl)
theorem dX5_bright_167 : decode cX5_bright 167 = .ok (.goto 5, 3) := dk_167 0 5 (dk_at dksX5_bright_7 5 rfl rfl)
theorem dX5_bright_170 : decode cX5_bright 170 = .ok (.iload 7, 2) := dk_21 7 (dk_at dksX5_bright_7 8 rfl rfl)
theorem dX5_bright_172 : decode cX5_bright 172 = .ok (.ireturn, 1) := dk_172 (dk_at dksX5_bright_7 10 rfl rfl)
abbrev cX5_brightOn : ByteArray := prog_23_method_71_code
def yX5_brightOn : MethodName := ⟨RX5, "brightOn", "(IIIIII)Z"⟩
def dkwX5_brightOn_8 : List UInt8 := [132, 7, 1, 167, 255, 165, 3, 172]
abbrev dktX5_brightOn_8 : List UInt8 := dkwX5_brightOn_8 ++ []
def dkwX5_brightOn_7 : List UInt8 := [4, 100, 182, 1, 182, 54, 8, 42, 89, 180, 1, 81, 4, 100, 181, 1, 81, 21, 8, 153, 0, 5, 4, 172]
abbrev dktX5_brightOn_7 : List UInt8 := dkwX5_brightOn_7 ++ dktX5_brightOn_8
def dkwX5_brightOn_6 : List UInt8 := [79, 42, 21, 7, 29, 21, 5, 96, 3, 182, 1, 132, 42, 27, 28, 29, 21, 4, 21, 5, 4, 96, 21, 6]
abbrev dktX5_brightOn_6 : List UInt8 := dkwX5_brightOn_6 ++ dktX5_brightOn_7
def dkwX5_brightOn_5 : List UInt8 := [42, 180, 0, 67, 21, 7, 46, 27, 159, 0, 6, 167, 0, 61, 42, 180, 0, 143, 21, 5, 21, 7, 4, 96]
abbrev dktX5_brightOn_5 : List UInt8 := dkwX5_brightOn_5 ++ dktX5_brightOn_6
def dkwX5_brightOn_4 : List UInt8 := [153, 0, 5, 4, 172, 3, 54, 7, 21, 7, 42, 180, 0, 45, 4, 46, 162, 0, 86, 21, 6, 158, 0, 81]
abbrev dktX5_brightOn_4 : List UInt8 := dkwX5_brightOn_4 ++ dktX5_brightOn_5
def dkwX5_brightOn_3 : List UInt8 := [180, 0, 143, 21, 5, 3, 79, 42, 27, 28, 29, 21, 4, 21, 5, 4, 96, 21, 6, 182, 1, 182]
abbrev dktX5_brightOn_3 : List UInt8 := dkwX5_brightOn_3 ++ dktX5_brightOn_4
def dkwX5_brightOn_2 : List UInt8 := [182, 1, 178, 153, 0, 17, 21, 6, 21, 4, 29, 100, 21, 5, 100, 4, 96, 164, 0, 5, 3, 172, 42]
abbrev dktX5_brightOn_2 : List UInt8 := dkwX5_brightOn_2 ++ dktX5_brightOn_3
def dkwX5_brightOn_1 : List UInt8 := [153, 0, 7, 4, 167, 0, 4, 3, 172, 21, 5, 158, 0, 19, 42, 27, 28, 29, 29, 21, 5, 96, 4, 100]
abbrev dktX5_brightOn_1 : List UInt8 := dkwX5_brightOn_1 ++ dktX5_brightOn_2
def dkwX5_brightOn_0 : List UInt8 := [29, 21, 5, 96, 21, 4, 164, 0, 26, 21, 6, 154, 0, 19, 42, 27, 28, 29, 21, 4, 182, 1, 178]
abbrev dktX5_brightOn_0 : List UInt8 := dkwX5_brightOn_0 ++ dktX5_brightOn_1
theorem dksX5_brightOn_0 : cX5_brightOn.data.toList.drop 0 = dktX5_brightOn_0 := by decide +kernel
theorem dksX5_brightOn_1 : cX5_brightOn.data.toList.drop 23 = dktX5_brightOn_1 := dk_seg dksX5_brightOn_0 23 rfl rfl
theorem dksX5_brightOn_2 : cX5_brightOn.data.toList.drop 47 = dktX5_brightOn_2 := dk_seg dksX5_brightOn_1 24 rfl rfl
theorem dksX5_brightOn_3 : cX5_brightOn.data.toList.drop 70 = dktX5_brightOn_3 := dk_seg dksX5_brightOn_2 23 rfl rfl
theorem dksX5_brightOn_4 : cX5_brightOn.data.toList.drop 92 = dktX5_brightOn_4 := dk_seg dksX5_brightOn_3 22 rfl rfl
theorem dksX5_brightOn_5 : cX5_brightOn.data.toList.drop 116 = dktX5_brightOn_5 := dk_seg dksX5_brightOn_4 24 rfl rfl
theorem dksX5_brightOn_6 : cX5_brightOn.data.toList.drop 140 = dktX5_brightOn_6 := dk_seg dksX5_brightOn_5 24 rfl rfl
theorem dksX5_brightOn_7 : cX5_brightOn.data.toList.drop 164 = dktX5_brightOn_7 := dk_seg dksX5_brightOn_6 24 rfl rfl
theorem dksX5_brightOn_8 : cX5_brightOn.data.toList.drop 188 = dktX5_brightOn_8 := dk_seg dksX5_brightOn_7 24 rfl rfl
theorem dX5_brightOn_0 : decode cX5_brightOn 0 = .ok (.iload_n 3, 1) := dk_29 (dk_at dksX5_brightOn_0 0 rfl rfl)
theorem dX5_brightOn_1 : decode cX5_brightOn 1 = .ok (.iload 5, 2) := dk_21 5 (dk_at dksX5_brightOn_0 1 rfl rfl)
theorem dX5_brightOn_3 : decode cX5_brightOn 3 = .ok (.iadd, 1) := dk_96 (dk_at dksX5_brightOn_0 3 rfl rfl)
theorem dX5_brightOn_4 : decode cX5_brightOn 4 = .ok (.iload 4, 2) := dk_21 4 (dk_at dksX5_brightOn_0 4 rfl rfl)
theorem dX5_brightOn_6 : decode cX5_brightOn 6 = .ok (.if_icmp .le 26, 3) := dk_164 0 26 (dk_at dksX5_brightOn_0 6 rfl rfl)
theorem dX5_brightOn_9 : decode cX5_brightOn 9 = .ok (.iload 6, 2) := dk_21 6 (dk_at dksX5_brightOn_0 9 rfl rfl)
theorem dX5_brightOn_11 : decode cX5_brightOn 11 = .ok (.ifCond .ne 19, 3) := dk_154 0 19 (dk_at dksX5_brightOn_0 11 rfl rfl)
theorem dX5_brightOn_14 : decode cX5_brightOn 14 = .ok (.aload_n 0, 1) := dk_42 (dk_at dksX5_brightOn_0 14 rfl rfl)
theorem dX5_brightOn_15 : decode cX5_brightOn 15 = .ok (.iload_n 1, 1) := dk_27 (dk_at dksX5_brightOn_0 15 rfl rfl)
theorem dX5_brightOn_16 : decode cX5_brightOn 16 = .ok (.iload_n 2, 1) := dk_28 (dk_at dksX5_brightOn_0 16 rfl rfl)
theorem dX5_brightOn_17 : decode cX5_brightOn 17 = .ok (.iload_n 3, 1) := dk_29 (dk_at dksX5_brightOn_0 17 rfl rfl)
theorem dX5_brightOn_18 : decode cX5_brightOn 18 = .ok (.iload 4, 2) := dk_21 4 (dk_at dksX5_brightOn_0 18 rfl rfl)
theorem dX5_brightOn_20 : decode cX5_brightOn 20 = .ok (.invokevirtual 434, 3) := dk_182 1 178 (dk_at dksX5_brightOn_0 20 rfl rfl)
theorem dX5_brightOn_23 : decode cX5_brightOn 23 = .ok (.ifCond .eq 7, 3) := dk_153 0 7 (dk_at dksX5_brightOn_1 0 rfl rfl)
theorem dX5_brightOn_26 : decode cX5_brightOn 26 = .ok (.iconst 1, 1) := dk_4 (dk_at dksX5_brightOn_1 3 rfl rfl)
theorem dX5_brightOn_27 : decode cX5_brightOn 27 = .ok (.goto 4, 3) := dk_167 0 4 (dk_at dksX5_brightOn_1 4 rfl rfl)
theorem dX5_brightOn_30 : decode cX5_brightOn 30 = .ok (.iconst 0, 1) := dk_3 (dk_at dksX5_brightOn_1 7 rfl rfl)
theorem dX5_brightOn_31 : decode cX5_brightOn 31 = .ok (.ireturn, 1) := dk_172 (dk_at dksX5_brightOn_1 8 rfl rfl)
theorem dX5_brightOn_32 : decode cX5_brightOn 32 = .ok (.iload 5, 2) := dk_21 5 (dk_at dksX5_brightOn_1 9 rfl rfl)
theorem dX5_brightOn_34 : decode cX5_brightOn 34 = .ok (.ifCond .le 19, 3) := dk_158 0 19 (dk_at dksX5_brightOn_1 11 rfl rfl)
theorem dX5_brightOn_37 : decode cX5_brightOn 37 = .ok (.aload_n 0, 1) := dk_42 (dk_at dksX5_brightOn_1 14 rfl rfl)
theorem dX5_brightOn_38 : decode cX5_brightOn 38 = .ok (.iload_n 1, 1) := dk_27 (dk_at dksX5_brightOn_1 15 rfl rfl)
theorem dX5_brightOn_39 : decode cX5_brightOn 39 = .ok (.iload_n 2, 1) := dk_28 (dk_at dksX5_brightOn_1 16 rfl rfl)
theorem dX5_brightOn_40 : decode cX5_brightOn 40 = .ok (.iload_n 3, 1) := dk_29 (dk_at dksX5_brightOn_1 17 rfl rfl)
theorem dX5_brightOn_41 : decode cX5_brightOn 41 = .ok (.iload_n 3, 1) := dk_29 (dk_at dksX5_brightOn_1 18 rfl rfl)
theorem dX5_brightOn_42 : decode cX5_brightOn 42 = .ok (.iload 5, 2) := dk_21 5 (dk_at dksX5_brightOn_1 19 rfl rfl)
theorem dX5_brightOn_44 : decode cX5_brightOn 44 = .ok (.iadd, 1) := dk_96 (dk_at dksX5_brightOn_1 21 rfl rfl)
theorem dX5_brightOn_45 : decode cX5_brightOn 45 = .ok (.iconst 1, 1) := dk_4 (dk_at dksX5_brightOn_1 22 rfl rfl)
theorem dX5_brightOn_46 : decode cX5_brightOn 46 = .ok (.isub, 1) := dk_100 (dk_at dksX5_brightOn_1 23 rfl rfl)
theorem dX5_brightOn_47 : decode cX5_brightOn 47 = .ok (.invokevirtual 434, 3) := dk_182 1 178 (dk_at dksX5_brightOn_2 0 rfl rfl)
theorem dX5_brightOn_50 : decode cX5_brightOn 50 = .ok (.ifCond .eq 17, 3) := dk_153 0 17 (dk_at dksX5_brightOn_2 3 rfl rfl)
theorem dX5_brightOn_53 : decode cX5_brightOn 53 = .ok (.iload 6, 2) := dk_21 6 (dk_at dksX5_brightOn_2 6 rfl rfl)
theorem dX5_brightOn_55 : decode cX5_brightOn 55 = .ok (.iload 4, 2) := dk_21 4 (dk_at dksX5_brightOn_2 8 rfl rfl)
theorem dX5_brightOn_57 : decode cX5_brightOn 57 = .ok (.iload_n 3, 1) := dk_29 (dk_at dksX5_brightOn_2 10 rfl rfl)
theorem dX5_brightOn_58 : decode cX5_brightOn 58 = .ok (.isub, 1) := dk_100 (dk_at dksX5_brightOn_2 11 rfl rfl)
theorem dX5_brightOn_59 : decode cX5_brightOn 59 = .ok (.iload 5, 2) := dk_21 5 (dk_at dksX5_brightOn_2 12 rfl rfl)
theorem dX5_brightOn_61 : decode cX5_brightOn 61 = .ok (.isub, 1) := dk_100 (dk_at dksX5_brightOn_2 14 rfl rfl)
theorem dX5_brightOn_62 : decode cX5_brightOn 62 = .ok (.iconst 1, 1) := dk_4 (dk_at dksX5_brightOn_2 15 rfl rfl)
theorem dX5_brightOn_63 : decode cX5_brightOn 63 = .ok (.iadd, 1) := dk_96 (dk_at dksX5_brightOn_2 16 rfl rfl)
theorem dX5_brightOn_64 : decode cX5_brightOn 64 = .ok (.if_icmp .le 5, 3) := dk_164 0 5 (dk_at dksX5_brightOn_2 17 rfl rfl)
theorem dX5_brightOn_67 : decode cX5_brightOn 67 = .ok (.iconst 0, 1) := dk_3 (dk_at dksX5_brightOn_2 20 rfl rfl)
theorem dX5_brightOn_68 : decode cX5_brightOn 68 = .ok (.ireturn, 1) := dk_172 (dk_at dksX5_brightOn_2 21 rfl rfl)
theorem dX5_brightOn_69 : decode cX5_brightOn 69 = .ok (.aload_n 0, 1) := dk_42 (dk_at dksX5_brightOn_2 22 rfl rfl)
theorem dX5_brightOn_70 : decode cX5_brightOn 70 = .ok (.getfield 143, 3) := dk_180 0 143 (dk_at dksX5_brightOn_3 0 rfl rfl)
theorem dX5_brightOn_73 : decode cX5_brightOn 73 = .ok (.iload 5, 2) := dk_21 5 (dk_at dksX5_brightOn_3 3 rfl rfl)
theorem dX5_brightOn_75 : decode cX5_brightOn 75 = .ok (.iconst 0, 1) := dk_3 (dk_at dksX5_brightOn_3 5 rfl rfl)
theorem dX5_brightOn_76 : decode cX5_brightOn 76 = .ok (.iastore, 1) := dk_79 (dk_at dksX5_brightOn_3 6 rfl rfl)
theorem dX5_brightOn_77 : decode cX5_brightOn 77 = .ok (.aload_n 0, 1) := dk_42 (dk_at dksX5_brightOn_3 7 rfl rfl)
theorem dX5_brightOn_78 : decode cX5_brightOn 78 = .ok (.iload_n 1, 1) := dk_27 (dk_at dksX5_brightOn_3 8 rfl rfl)
theorem dX5_brightOn_79 : decode cX5_brightOn 79 = .ok (.iload_n 2, 1) := dk_28 (dk_at dksX5_brightOn_3 9 rfl rfl)
theorem dX5_brightOn_80 : decode cX5_brightOn 80 = .ok (.iload_n 3, 1) := dk_29 (dk_at dksX5_brightOn_3 10 rfl rfl)
theorem dX5_brightOn_81 : decode cX5_brightOn 81 = .ok (.iload 4, 2) := dk_21 4 (dk_at dksX5_brightOn_3 11 rfl rfl)
theorem dX5_brightOn_83 : decode cX5_brightOn 83 = .ok (.iload 5, 2) := dk_21 5 (dk_at dksX5_brightOn_3 13 rfl rfl)
theorem dX5_brightOn_85 : decode cX5_brightOn 85 = .ok (.iconst 1, 1) := dk_4 (dk_at dksX5_brightOn_3 15 rfl rfl)
theorem dX5_brightOn_86 : decode cX5_brightOn 86 = .ok (.iadd, 1) := dk_96 (dk_at dksX5_brightOn_3 16 rfl rfl)
theorem dX5_brightOn_87 : decode cX5_brightOn 87 = .ok (.iload 6, 2) := dk_21 6 (dk_at dksX5_brightOn_3 17 rfl rfl)
theorem dX5_brightOn_89 : decode cX5_brightOn 89 = .ok (.invokevirtual 438, 3) := dk_182 1 182 (dk_at dksX5_brightOn_3 19 rfl rfl)
theorem dX5_brightOn_92 : decode cX5_brightOn 92 = .ok (.ifCond .eq 5, 3) := dk_153 0 5 (dk_at dksX5_brightOn_4 0 rfl rfl)
theorem dX5_brightOn_95 : decode cX5_brightOn 95 = .ok (.iconst 1, 1) := dk_4 (dk_at dksX5_brightOn_4 3 rfl rfl)
theorem dX5_brightOn_96 : decode cX5_brightOn 96 = .ok (.ireturn, 1) := dk_172 (dk_at dksX5_brightOn_4 4 rfl rfl)
theorem dX5_brightOn_97 : decode cX5_brightOn 97 = .ok (.iconst 0, 1) := dk_3 (dk_at dksX5_brightOn_4 5 rfl rfl)
theorem dX5_brightOn_98 : decode cX5_brightOn 98 = .ok (.istore 7, 2) := dk_54 7 (dk_at dksX5_brightOn_4 6 rfl rfl)
theorem dX5_brightOn_100 : decode cX5_brightOn 100 = .ok (.iload 7, 2) := dk_21 7 (dk_at dksX5_brightOn_4 8 rfl rfl)
theorem dX5_brightOn_102 : decode cX5_brightOn 102 = .ok (.aload_n 0, 1) := dk_42 (dk_at dksX5_brightOn_4 10 rfl rfl)
theorem dX5_brightOn_103 : decode cX5_brightOn 103 = .ok (.getfield 45, 3) := dk_180 0 45 (dk_at dksX5_brightOn_4 11 rfl rfl)
theorem dX5_brightOn_106 : decode cX5_brightOn 106 = .ok (.iconst 1, 1) := dk_4 (dk_at dksX5_brightOn_4 14 rfl rfl)
theorem dX5_brightOn_107 : decode cX5_brightOn 107 = .ok (.iaload, 1) := dk_46 (dk_at dksX5_brightOn_4 15 rfl rfl)
theorem dX5_brightOn_108 : decode cX5_brightOn 108 = .ok (.if_icmp .ge 86, 3) := dk_162 0 86 (dk_at dksX5_brightOn_4 16 rfl rfl)
theorem dX5_brightOn_111 : decode cX5_brightOn 111 = .ok (.iload 6, 2) := dk_21 6 (dk_at dksX5_brightOn_4 19 rfl rfl)
theorem dX5_brightOn_113 : decode cX5_brightOn 113 = .ok (.ifCond .le 81, 3) := dk_158 0 81 (dk_at dksX5_brightOn_4 21 rfl rfl)
theorem dX5_brightOn_116 : decode cX5_brightOn 116 = .ok (.aload_n 0, 1) := dk_42 (dk_at dksX5_brightOn_5 0 rfl rfl)
theorem dX5_brightOn_117 : decode cX5_brightOn 117 = .ok (.getfield 67, 3) := dk_180 0 67 (dk_at dksX5_brightOn_5 1 rfl rfl)
theorem dX5_brightOn_120 : decode cX5_brightOn 120 = .ok (.iload 7, 2) := dk_21 7 (dk_at dksX5_brightOn_5 4 rfl rfl)
theorem dX5_brightOn_122 : decode cX5_brightOn 122 = .ok (.iaload, 1) := dk_46 (dk_at dksX5_brightOn_5 6 rfl rfl)
theorem dX5_brightOn_123 : decode cX5_brightOn 123 = .ok (.iload_n 1, 1) := dk_27 (dk_at dksX5_brightOn_5 7 rfl rfl)
theorem dX5_brightOn_124 : decode cX5_brightOn 124 = .ok (.if_icmp .eq 6, 3) := dk_159 0 6 (dk_at dksX5_brightOn_5 8 rfl rfl)
theorem dX5_brightOn_127 : decode cX5_brightOn 127 = .ok (.goto 61, 3) := dk_167 0 61 (dk_at dksX5_brightOn_5 11 rfl rfl)
theorem dX5_brightOn_130 : decode cX5_brightOn 130 = .ok (.aload_n 0, 1) := dk_42 (dk_at dksX5_brightOn_5 14 rfl rfl)
theorem dX5_brightOn_131 : decode cX5_brightOn 131 = .ok (.getfield 143, 3) := dk_180 0 143 (dk_at dksX5_brightOn_5 15 rfl rfl)
theorem dX5_brightOn_134 : decode cX5_brightOn 134 = .ok (.iload 5, 2) := dk_21 5 (dk_at dksX5_brightOn_5 18 rfl rfl)
theorem dX5_brightOn_136 : decode cX5_brightOn 136 = .ok (.iload 7, 2) := dk_21 7 (dk_at dksX5_brightOn_5 20 rfl rfl)
theorem dX5_brightOn_138 : decode cX5_brightOn 138 = .ok (.iconst 1, 1) := dk_4 (dk_at dksX5_brightOn_5 22 rfl rfl)
theorem dX5_brightOn_139 : decode cX5_brightOn 139 = .ok (.iadd, 1) := dk_96 (dk_at dksX5_brightOn_5 23 rfl rfl)
theorem dX5_brightOn_140 : decode cX5_brightOn 140 = .ok (.iastore, 1) := dk_79 (dk_at dksX5_brightOn_6 0 rfl rfl)
theorem dX5_brightOn_141 : decode cX5_brightOn 141 = .ok (.aload_n 0, 1) := dk_42 (dk_at dksX5_brightOn_6 1 rfl rfl)
theorem dX5_brightOn_142 : decode cX5_brightOn 142 = .ok (.iload 7, 2) := dk_21 7 (dk_at dksX5_brightOn_6 2 rfl rfl)
theorem dX5_brightOn_144 : decode cX5_brightOn 144 = .ok (.iload_n 3, 1) := dk_29 (dk_at dksX5_brightOn_6 4 rfl rfl)
theorem dX5_brightOn_145 : decode cX5_brightOn 145 = .ok (.iload 5, 2) := dk_21 5 (dk_at dksX5_brightOn_6 5 rfl rfl)
theorem dX5_brightOn_147 : decode cX5_brightOn 147 = .ok (.iadd, 1) := dk_96 (dk_at dksX5_brightOn_6 7 rfl rfl)
theorem dX5_brightOn_148 : decode cX5_brightOn 148 = .ok (.iconst 0, 1) := dk_3 (dk_at dksX5_brightOn_6 8 rfl rfl)
theorem dX5_brightOn_149 : decode cX5_brightOn 149 = .ok (.invokevirtual 388, 3) := dk_182 1 132 (dk_at dksX5_brightOn_6 9 rfl rfl)
theorem dX5_brightOn_152 : decode cX5_brightOn 152 = .ok (.aload_n 0, 1) := dk_42 (dk_at dksX5_brightOn_6 12 rfl rfl)
theorem dX5_brightOn_153 : decode cX5_brightOn 153 = .ok (.iload_n 1, 1) := dk_27 (dk_at dksX5_brightOn_6 13 rfl rfl)
theorem dX5_brightOn_154 : decode cX5_brightOn 154 = .ok (.iload_n 2, 1) := dk_28 (dk_at dksX5_brightOn_6 14 rfl rfl)
theorem dX5_brightOn_155 : decode cX5_brightOn 155 = .ok (.iload_n 3, 1) := dk_29 (dk_at dksX5_brightOn_6 15 rfl rfl)
theorem dX5_brightOn_156 : decode cX5_brightOn 156 = .ok (.iload 4, 2) := dk_21 4 (dk_at dksX5_brightOn_6 16 rfl rfl)
theorem dX5_brightOn_158 : decode cX5_brightOn 158 = .ok (.iload 5, 2) := dk_21 5 (dk_at dksX5_brightOn_6 18 rfl rfl)
theorem dX5_brightOn_160 : decode cX5_brightOn 160 = .ok (.iconst 1, 1) := dk_4 (dk_at dksX5_brightOn_6 20 rfl rfl)
theorem dX5_brightOn_161 : decode cX5_brightOn 161 = .ok (.iadd, 1) := dk_96 (dk_at dksX5_brightOn_6 21 rfl rfl)
theorem dX5_brightOn_162 : decode cX5_brightOn 162 = .ok (.iload 6, 2) := dk_21 6 (dk_at dksX5_brightOn_6 22 rfl rfl)
theorem dX5_brightOn_164 : decode cX5_brightOn 164 = .ok (.iconst 1, 1) := dk_4 (dk_at dksX5_brightOn_7 0 rfl rfl)
theorem dX5_brightOn_165 : decode cX5_brightOn 165 = .ok (.isub, 1) := dk_100 (dk_at dksX5_brightOn_7 1 rfl rfl)
theorem dX5_brightOn_166 : decode cX5_brightOn 166 = .ok (.invokevirtual 438, 3) := dk_182 1 182 (dk_at dksX5_brightOn_7 2 rfl rfl)
theorem dX5_brightOn_169 : decode cX5_brightOn 169 = .ok (.istore 8, 2) := dk_54 8 (dk_at dksX5_brightOn_7 5 rfl rfl)
theorem dX5_brightOn_171 : decode cX5_brightOn 171 = .ok (.aload_n 0, 1) := dk_42 (dk_at dksX5_brightOn_7 7 rfl rfl)
theorem dX5_brightOn_172 : decode cX5_brightOn 172 = .ok (.dup, 1) := dk_89 (dk_at dksX5_brightOn_7 8 rfl rfl)
theorem dX5_brightOn_173 : decode cX5_brightOn 173 = .ok (.getfield 337, 3) := dk_180 1 81 (dk_at dksX5_brightOn_7 9 rfl rfl)
theorem dX5_brightOn_176 : decode cX5_brightOn 176 = .ok (.iconst 1, 1) := dk_4 (dk_at dksX5_brightOn_7 12 rfl rfl)
theorem dX5_brightOn_177 : decode cX5_brightOn 177 = .ok (.isub, 1) := dk_100 (dk_at dksX5_brightOn_7 13 rfl rfl)
theorem dX5_brightOn_178 : decode cX5_brightOn 178 = .ok (.putfield 337, 3) := dk_181 1 81 (dk_at dksX5_brightOn_7 14 rfl rfl)
theorem dX5_brightOn_181 : decode cX5_brightOn 181 = .ok (.iload 8, 2) := dk_21 8 (dk_at dksX5_brightOn_7 17 rfl rfl)
theorem dX5_brightOn_183 : decode cX5_brightOn 183 = .ok (.ifCond .eq 5, 3) := dk_153 0 5 (dk_at dksX5_brightOn_7 19 rfl rfl)
theorem dX5_brightOn_186 : decode cX5_brightOn 186 = .ok (.iconst 1, 1) := dk_4 (dk_at dksX5_brightOn_7 22 rfl rfl)
theorem dX5_brightOn_187 : decode cX5_brightOn 187 = .ok (.ireturn, 1) := dk_172 (dk_at dksX5_brightOn_7 23 rfl rfl)
theorem dX5_brightOn_188 : decode cX5_brightOn 188 = .ok (.iinc 7 1, 3) := dk_132 7 1 (dk_at dksX5_brightOn_8 0 rfl rfl)
theorem dX5_brightOn_191 : decode cX5_brightOn 191 = .ok (.goto (-91), 3) := dk_167 255 165 (dk_at dksX5_brightOn_8 3 rfl rfl)
theorem dX5_brightOn_194 : decode cX5_brightOn 194 = .ok (.iconst 0, 1) := dk_3 (dk_at dksX5_brightOn_8 6 rfl rfl)
theorem dX5_brightOn_195 : decode cX5_brightOn 195 = .ok (.ireturn, 1) := dk_172 (dk_at dksX5_brightOn_8 7 rfl rfl)
abbrev cX5_isBright : ByteArray := prog_23_method_70_code
def yX5_isBright : MethodName := ⟨RX5, "isBright", "(IIII)Z"⟩
def dkwX5_isBright_2 : List UInt8 := [163, 0, 22, 42, 27, 21, 5, 182, 1, 108, 28, 162, 0, 5, 3, 172, 132, 5, 1, 167, 255, 233, 4, 172]
abbrev dktX5_isBright_2 : List UInt8 := dkwX5_isBright_2 ++ []
def dkwX5_isBright_1 : List UInt8 := [160, 0, 9, 42, 21, 5, 182, 1, 111, 132, 5, 1, 167, 255, 225, 29, 54, 5, 21, 5, 21, 4]
abbrev dktX5_isBright_1 : List UInt8 := dkwX5_isBright_1 ++ dktX5_isBright_2
def dkwX5_isBright_0 : List UInt8 := [3, 54, 5, 21, 5, 42, 180, 0, 45, 4, 46, 162, 0, 26, 42, 180, 0, 67, 21, 5, 46, 27]
abbrev dktX5_isBright_0 : List UInt8 := dkwX5_isBright_0 ++ dktX5_isBright_1
theorem dksX5_isBright_0 : cX5_isBright.data.toList.drop 0 = dktX5_isBright_0 := by decide +kernel
theorem dksX5_isBright_1 : cX5_isBright.data.toList.drop 22 = dktX5_isBright_1 := dk_seg dksX5_isBright_0 22 rfl rfl
theorem dksX5_isBright_2 : cX5_isBright.data.toList.drop 44 = dktX5_isBright_2 := dk_seg dksX5_isBright_1 22 rfl rfl
theorem dX5_isBright_0 : decode cX5_isBright 0 = .ok (.iconst 0, 1) := dk_3 (dk_at dksX5_isBright_0 0 rfl rfl)
theorem dX5_isBright_1 : decode cX5_isBright 1 = .ok (.istore 5, 2) := dk_54 5 (dk_at dksX5_isBright_0 1 rfl rfl)
theorem dX5_isBright_3 : decode cX5_isBright 3 = .ok (.iload 5, 2) := dk_21 5 (dk_at dksX5_isBright_0 3 rfl rfl)
theorem dX5_isBright_5 : decode cX5_isBright 5 = .ok (.aload_n 0, 1) := dk_42 (dk_at dksX5_isBright_0 5 rfl rfl)
theorem dX5_isBright_6 : decode cX5_isBright 6 = .ok (.getfield 45, 3) := dk_180 0 45 (dk_at dksX5_isBright_0 6 rfl rfl)
theorem dX5_isBright_9 : decode cX5_isBright 9 = .ok (.iconst 1, 1) := dk_4 (dk_at dksX5_isBright_0 9 rfl rfl)
theorem dX5_isBright_10 : decode cX5_isBright 10 = .ok (.iaload, 1) := dk_46 (dk_at dksX5_isBright_0 10 rfl rfl)
theorem dX5_isBright_11 : decode cX5_isBright 11 = .ok (.if_icmp .ge 26, 3) := dk_162 0 26 (dk_at dksX5_isBright_0 11 rfl rfl)
theorem dX5_isBright_14 : decode cX5_isBright 14 = .ok (.aload_n 0, 1) := dk_42 (dk_at dksX5_isBright_0 14 rfl rfl)
theorem dX5_isBright_15 : decode cX5_isBright 15 = .ok (.getfield 67, 3) := dk_180 0 67 (dk_at dksX5_isBright_0 15 rfl rfl)
theorem dX5_isBright_18 : decode cX5_isBright 18 = .ok (.iload 5, 2) := dk_21 5 (dk_at dksX5_isBright_0 18 rfl rfl)
theorem dX5_isBright_20 : decode cX5_isBright 20 = .ok (.iaload, 1) := dk_46 (dk_at dksX5_isBright_0 20 rfl rfl)
theorem dX5_isBright_21 : decode cX5_isBright 21 = .ok (.iload_n 1, 1) := dk_27 (dk_at dksX5_isBright_0 21 rfl rfl)
theorem dX5_isBright_22 : decode cX5_isBright 22 = .ok (.if_icmp .ne 9, 3) := dk_160 0 9 (dk_at dksX5_isBright_1 0 rfl rfl)
theorem dX5_isBright_25 : decode cX5_isBright 25 = .ok (.aload_n 0, 1) := dk_42 (dk_at dksX5_isBright_1 3 rfl rfl)
theorem dX5_isBright_26 : decode cX5_isBright 26 = .ok (.iload 5, 2) := dk_21 5 (dk_at dksX5_isBright_1 4 rfl rfl)
theorem dX5_isBright_28 : decode cX5_isBright 28 = .ok (.invokevirtual 367, 3) := dk_182 1 111 (dk_at dksX5_isBright_1 6 rfl rfl)
theorem dX5_isBright_31 : decode cX5_isBright 31 = .ok (.iinc 5 1, 3) := dk_132 5 1 (dk_at dksX5_isBright_1 9 rfl rfl)
theorem dX5_isBright_34 : decode cX5_isBright 34 = .ok (.goto (-31), 3) := dk_167 255 225 (dk_at dksX5_isBright_1 12 rfl rfl)
theorem dX5_isBright_37 : decode cX5_isBright 37 = .ok (.iload_n 3, 1) := dk_29 (dk_at dksX5_isBright_1 15 rfl rfl)
theorem dX5_isBright_38 : decode cX5_isBright 38 = .ok (.istore 5, 2) := dk_54 5 (dk_at dksX5_isBright_1 16 rfl rfl)
theorem dX5_isBright_40 : decode cX5_isBright 40 = .ok (.iload 5, 2) := dk_21 5 (dk_at dksX5_isBright_1 18 rfl rfl)
theorem dX5_isBright_42 : decode cX5_isBright 42 = .ok (.iload 4, 2) := dk_21 4 (dk_at dksX5_isBright_1 20 rfl rfl)
theorem dX5_isBright_44 : decode cX5_isBright 44 = .ok (.if_icmp .gt 22, 3) := dk_163 0 22 (dk_at dksX5_isBright_2 0 rfl rfl)
theorem dX5_isBright_47 : decode cX5_isBright 47 = .ok (.aload_n 0, 1) := dk_42 (dk_at dksX5_isBright_2 3 rfl rfl)
theorem dX5_isBright_48 : decode cX5_isBright 48 = .ok (.iload_n 1, 1) := dk_27 (dk_at dksX5_isBright_2 4 rfl rfl)
theorem dX5_isBright_49 : decode cX5_isBright 49 = .ok (.iload 5, 2) := dk_21 5 (dk_at dksX5_isBright_2 5 rfl rfl)
theorem dX5_isBright_51 : decode cX5_isBright 51 = .ok (.invokevirtual 364, 3) := dk_182 1 108 (dk_at dksX5_isBright_2 7 rfl rfl)
theorem dX5_isBright_54 : decode cX5_isBright 54 = .ok (.iload_n 2, 1) := dk_28 (dk_at dksX5_isBright_2 10 rfl rfl)
theorem dX5_isBright_55 : decode cX5_isBright 55 = .ok (.if_icmp .ge 5, 3) := dk_162 0 5 (dk_at dksX5_isBright_2 11 rfl rfl)
theorem dX5_isBright_58 : decode cX5_isBright 58 = .ok (.iconst 0, 1) := dk_3 (dk_at dksX5_isBright_2 14 rfl rfl)
theorem dX5_isBright_59 : decode cX5_isBright 59 = .ok (.ireturn, 1) := dk_172 (dk_at dksX5_isBright_2 15 rfl rfl)
theorem dX5_isBright_60 : decode cX5_isBright 60 = .ok (.iinc 5 1, 3) := dk_132 5 1 (dk_at dksX5_isBright_2 16 rfl rfl)
theorem dX5_isBright_63 : decode cX5_isBright 63 = .ok (.goto (-23), 3) := dk_167 255 233 (dk_at dksX5_isBright_2 19 rfl rfl)
theorem dX5_isBright_66 : decode cX5_isBright 66 = .ok (.iconst 1, 1) := dk_4 (dk_at dksX5_isBright_2 22 rfl rfl)
theorem dX5_isBright_67 : decode cX5_isBright 67 = .ok (.ireturn, 1) := dk_172 (dk_at dksX5_isBright_2 23 rfl rfl)
abbrev cX5_rivals : ByteArray := prog_23_method_76_code
def yX5_rivals : MethodName := ⟨RX5, "rivals", "(II)I"⟩
def dkwX5_rivals_6 : List UInt8 := [167, 0, 5, 21, 4, 172]
abbrev dktX5_rivals_6 : List UInt8 := dkwX5_rivals_6 ++ []
def dkwX5_rivals_5 : List UInt8 := [167, 0, 5, 21, 4, 54, 4, 132, 6, 1, 167, 255, 184, 132, 5, 1, 167, 255, 164, 28, 154, 0, 7, 29]
abbrev dktX5_rivals_5 : List UInt8 := dkwX5_rivals_5 ++ dktX5_rivals_6
def dkwX5_rivals_4 : List UInt8 := [154, 0, 6, 167, 0, 27, 132, 3, 1, 21, 4, 2, 160, 0, 14, 16, 8, 21, 5, 104, 21, 6, 96]
abbrev dktX5_rivals_4 : List UInt8 := dkwX5_rivals_4 ++ dktX5_rivals_5
def dkwX5_rivals_3 : List UInt8 := [182, 1, 186, 153, 0, 51, 42, 4, 21, 6, 182, 1, 186, 153, 0, 41, 42, 21, 5, 21, 6, 182, 1, 192]
abbrev dktX5_rivals_3 : List UInt8 := dkwX5_rivals_3 ++ dktX5_rivals_4
def dkwX5_rivals_2 : List UInt8 := [46, 163, 0, 87, 3, 54, 6, 21, 6, 42, 180, 0, 45, 4, 46, 163, 0, 67, 42, 3, 21, 5]
abbrev dktX5_rivals_2 : List UInt8 := dkwX5_rivals_2 ++ dktX5_rivals_3
def dkwX5_rivals_1 : List UInt8 := [182, 1, 67, 172, 42, 27, 182, 1, 189, 3, 62, 2, 54, 4, 3, 54, 5, 21, 5, 42, 180, 0, 45, 4]
abbrev dktX5_rivals_1 : List UInt8 := dkwX5_rivals_1 ++ dktX5_rivals_2
def dkwX5_rivals_0 : List UInt8 := [42, 3, 181, 0, 194, 27, 184, 1, 129, 153, 0, 12, 28, 155, 0, 8, 28, 4, 164, 0, 9, 42, 4]
abbrev dktX5_rivals_0 : List UInt8 := dkwX5_rivals_0 ++ dktX5_rivals_1
theorem dksX5_rivals_0 : cX5_rivals.data.toList.drop 0 = dktX5_rivals_0 := by decide +kernel
theorem dksX5_rivals_1 : cX5_rivals.data.toList.drop 23 = dktX5_rivals_1 := dk_seg dksX5_rivals_0 23 rfl rfl
theorem dksX5_rivals_2 : cX5_rivals.data.toList.drop 47 = dktX5_rivals_2 := dk_seg dksX5_rivals_1 24 rfl rfl
theorem dksX5_rivals_3 : cX5_rivals.data.toList.drop 69 = dktX5_rivals_3 := dk_seg dksX5_rivals_2 22 rfl rfl
theorem dksX5_rivals_4 : cX5_rivals.data.toList.drop 93 = dktX5_rivals_4 := dk_seg dksX5_rivals_3 24 rfl rfl
theorem dksX5_rivals_5 : cX5_rivals.data.toList.drop 116 = dktX5_rivals_5 := dk_seg dksX5_rivals_4 23 rfl rfl
theorem dksX5_rivals_6 : cX5_rivals.data.toList.drop 140 = dktX5_rivals_6 := dk_seg dksX5_rivals_5 24 rfl rfl
theorem dX5_rivals_0 : decode cX5_rivals 0 = .ok (.aload_n 0, 1) := dk_42 (dk_at dksX5_rivals_0 0 rfl rfl)
theorem dX5_rivals_1 : decode cX5_rivals 1 = .ok (.iconst 0, 1) := dk_3 (dk_at dksX5_rivals_0 1 rfl rfl)
theorem dX5_rivals_2 : decode cX5_rivals 2 = .ok (.putfield 194, 3) := dk_181 0 194 (dk_at dksX5_rivals_0 2 rfl rfl)
theorem dX5_rivals_5 : decode cX5_rivals 5 = .ok (.iload_n 1, 1) := dk_27 (dk_at dksX5_rivals_0 5 rfl rfl)
theorem dX5_rivals_6 : decode cX5_rivals 6 = .ok (.invokestatic 385, 3) := dk_184 1 129 (dk_at dksX5_rivals_0 6 rfl rfl)
theorem dX5_rivals_9 : decode cX5_rivals 9 = .ok (.ifCond .eq 12, 3) := dk_153 0 12 (dk_at dksX5_rivals_0 9 rfl rfl)
theorem dX5_rivals_12 : decode cX5_rivals 12 = .ok (.iload_n 2, 1) := dk_28 (dk_at dksX5_rivals_0 12 rfl rfl)
theorem dX5_rivals_13 : decode cX5_rivals 13 = .ok (.ifCond .lt 8, 3) := dk_155 0 8 (dk_at dksX5_rivals_0 13 rfl rfl)
theorem dX5_rivals_16 : decode cX5_rivals 16 = .ok (.iload_n 2, 1) := dk_28 (dk_at dksX5_rivals_0 16 rfl rfl)
theorem dX5_rivals_17 : decode cX5_rivals 17 = .ok (.iconst 1, 1) := dk_4 (dk_at dksX5_rivals_0 17 rfl rfl)
theorem dX5_rivals_18 : decode cX5_rivals 18 = .ok (.if_icmp .le 9, 3) := dk_164 0 9 (dk_at dksX5_rivals_0 18 rfl rfl)
theorem dX5_rivals_21 : decode cX5_rivals 21 = .ok (.aload_n 0, 1) := dk_42 (dk_at dksX5_rivals_0 21 rfl rfl)
theorem dX5_rivals_22 : decode cX5_rivals 22 = .ok (.iconst 1, 1) := dk_4 (dk_at dksX5_rivals_0 22 rfl rfl)
theorem dX5_rivals_23 : decode cX5_rivals 23 = .ok (.invokevirtual 323, 3) := dk_182 1 67 (dk_at dksX5_rivals_1 0 rfl rfl)
theorem dX5_rivals_26 : decode cX5_rivals 26 = .ok (.ireturn, 1) := dk_172 (dk_at dksX5_rivals_1 3 rfl rfl)
theorem dX5_rivals_27 : decode cX5_rivals 27 = .ok (.aload_n 0, 1) := dk_42 (dk_at dksX5_rivals_1 4 rfl rfl)
theorem dX5_rivals_28 : decode cX5_rivals 28 = .ok (.iload_n 1, 1) := dk_27 (dk_at dksX5_rivals_1 5 rfl rfl)
theorem dX5_rivals_29 : decode cX5_rivals 29 = .ok (.invokevirtual 445, 3) := dk_182 1 189 (dk_at dksX5_rivals_1 6 rfl rfl)
theorem dX5_rivals_32 : decode cX5_rivals 32 = .ok (.iconst 0, 1) := dk_3 (dk_at dksX5_rivals_1 9 rfl rfl)
theorem dX5_rivals_33 : decode cX5_rivals 33 = .ok (.istore_n 3, 1) := dk_62 (dk_at dksX5_rivals_1 10 rfl rfl)
theorem dX5_rivals_34 : decode cX5_rivals 34 = .ok (.iconst (-1), 1) := dk_2 (dk_at dksX5_rivals_1 11 rfl rfl)
theorem dX5_rivals_35 : decode cX5_rivals 35 = .ok (.istore 4, 2) := dk_54 4 (dk_at dksX5_rivals_1 12 rfl rfl)
theorem dX5_rivals_37 : decode cX5_rivals 37 = .ok (.iconst 0, 1) := dk_3 (dk_at dksX5_rivals_1 14 rfl rfl)
theorem dX5_rivals_38 : decode cX5_rivals 38 = .ok (.istore 5, 2) := dk_54 5 (dk_at dksX5_rivals_1 15 rfl rfl)
theorem dX5_rivals_40 : decode cX5_rivals 40 = .ok (.iload 5, 2) := dk_21 5 (dk_at dksX5_rivals_1 17 rfl rfl)
theorem dX5_rivals_42 : decode cX5_rivals 42 = .ok (.aload_n 0, 1) := dk_42 (dk_at dksX5_rivals_1 19 rfl rfl)
theorem dX5_rivals_43 : decode cX5_rivals 43 = .ok (.getfield 45, 3) := dk_180 0 45 (dk_at dksX5_rivals_1 20 rfl rfl)
theorem dX5_rivals_46 : decode cX5_rivals 46 = .ok (.iconst 1, 1) := dk_4 (dk_at dksX5_rivals_1 23 rfl rfl)
theorem dX5_rivals_47 : decode cX5_rivals 47 = .ok (.iaload, 1) := dk_46 (dk_at dksX5_rivals_2 0 rfl rfl)
theorem dX5_rivals_48 : decode cX5_rivals 48 = .ok (.if_icmp .gt 87, 3) := dk_163 0 87 (dk_at dksX5_rivals_2 1 rfl rfl)
theorem dX5_rivals_51 : decode cX5_rivals 51 = .ok (.iconst 0, 1) := dk_3 (dk_at dksX5_rivals_2 4 rfl rfl)
theorem dX5_rivals_52 : decode cX5_rivals 52 = .ok (.istore 6, 2) := dk_54 6 (dk_at dksX5_rivals_2 5 rfl rfl)
theorem dX5_rivals_54 : decode cX5_rivals 54 = .ok (.iload 6, 2) := dk_21 6 (dk_at dksX5_rivals_2 7 rfl rfl)
theorem dX5_rivals_56 : decode cX5_rivals 56 = .ok (.aload_n 0, 1) := dk_42 (dk_at dksX5_rivals_2 9 rfl rfl)
theorem dX5_rivals_57 : decode cX5_rivals 57 = .ok (.getfield 45, 3) := dk_180 0 45 (dk_at dksX5_rivals_2 10 rfl rfl)
theorem dX5_rivals_60 : decode cX5_rivals 60 = .ok (.iconst 1, 1) := dk_4 (dk_at dksX5_rivals_2 13 rfl rfl)
theorem dX5_rivals_61 : decode cX5_rivals 61 = .ok (.iaload, 1) := dk_46 (dk_at dksX5_rivals_2 14 rfl rfl)
theorem dX5_rivals_62 : decode cX5_rivals 62 = .ok (.if_icmp .gt 67, 3) := dk_163 0 67 (dk_at dksX5_rivals_2 15 rfl rfl)
theorem dX5_rivals_65 : decode cX5_rivals 65 = .ok (.aload_n 0, 1) := dk_42 (dk_at dksX5_rivals_2 18 rfl rfl)
theorem dX5_rivals_66 : decode cX5_rivals 66 = .ok (.iconst 0, 1) := dk_3 (dk_at dksX5_rivals_2 19 rfl rfl)
theorem dX5_rivals_67 : decode cX5_rivals 67 = .ok (.iload 5, 2) := dk_21 5 (dk_at dksX5_rivals_2 20 rfl rfl)
theorem dX5_rivals_69 : decode cX5_rivals 69 = .ok (.invokevirtual 442, 3) := dk_182 1 186 (dk_at dksX5_rivals_3 0 rfl rfl)
theorem dX5_rivals_72 : decode cX5_rivals 72 = .ok (.ifCond .eq 51, 3) := dk_153 0 51 (dk_at dksX5_rivals_3 3 rfl rfl)
theorem dX5_rivals_75 : decode cX5_rivals 75 = .ok (.aload_n 0, 1) := dk_42 (dk_at dksX5_rivals_3 6 rfl rfl)
theorem dX5_rivals_76 : decode cX5_rivals 76 = .ok (.iconst 1, 1) := dk_4 (dk_at dksX5_rivals_3 7 rfl rfl)
theorem dX5_rivals_77 : decode cX5_rivals 77 = .ok (.iload 6, 2) := dk_21 6 (dk_at dksX5_rivals_3 8 rfl rfl)
theorem dX5_rivals_79 : decode cX5_rivals 79 = .ok (.invokevirtual 442, 3) := dk_182 1 186 (dk_at dksX5_rivals_3 10 rfl rfl)
theorem dX5_rivals_82 : decode cX5_rivals 82 = .ok (.ifCond .eq 41, 3) := dk_153 0 41 (dk_at dksX5_rivals_3 13 rfl rfl)
theorem dX5_rivals_85 : decode cX5_rivals 85 = .ok (.aload_n 0, 1) := dk_42 (dk_at dksX5_rivals_3 16 rfl rfl)
theorem dX5_rivals_86 : decode cX5_rivals 86 = .ok (.iload 5, 2) := dk_21 5 (dk_at dksX5_rivals_3 17 rfl rfl)
theorem dX5_rivals_88 : decode cX5_rivals 88 = .ok (.iload 6, 2) := dk_21 6 (dk_at dksX5_rivals_3 19 rfl rfl)
theorem dX5_rivals_90 : decode cX5_rivals 90 = .ok (.invokevirtual 448, 3) := dk_182 1 192 (dk_at dksX5_rivals_3 21 rfl rfl)
theorem dX5_rivals_93 : decode cX5_rivals 93 = .ok (.ifCond .ne 6, 3) := dk_154 0 6 (dk_at dksX5_rivals_4 0 rfl rfl)
theorem dX5_rivals_96 : decode cX5_rivals 96 = .ok (.goto 27, 3) := dk_167 0 27 (dk_at dksX5_rivals_4 3 rfl rfl)
theorem dX5_rivals_99 : decode cX5_rivals 99 = .ok (.iinc 3 1, 3) := dk_132 3 1 (dk_at dksX5_rivals_4 6 rfl rfl)
theorem dX5_rivals_102 : decode cX5_rivals 102 = .ok (.iload 4, 2) := dk_21 4 (dk_at dksX5_rivals_4 9 rfl rfl)
theorem dX5_rivals_104 : decode cX5_rivals 104 = .ok (.iconst (-1), 1) := dk_2 (dk_at dksX5_rivals_4 11 rfl rfl)
theorem dX5_rivals_105 : decode cX5_rivals 105 = .ok (.if_icmp .ne 14, 3) := dk_160 0 14 (dk_at dksX5_rivals_4 12 rfl rfl)
theorem dX5_rivals_108 : decode cX5_rivals 108 = .ok (.bipush 8, 2) := dk_16 8 (dk_at dksX5_rivals_4 15 rfl rfl)
theorem dX5_rivals_110 : decode cX5_rivals 110 = .ok (.iload 5, 2) := dk_21 5 (dk_at dksX5_rivals_4 17 rfl rfl)
theorem dX5_rivals_112 : decode cX5_rivals 112 = .ok (.imul, 1) := dk_104 (dk_at dksX5_rivals_4 19 rfl rfl)
theorem dX5_rivals_113 : decode cX5_rivals 113 = .ok (.iload 6, 2) := dk_21 6 (dk_at dksX5_rivals_4 20 rfl rfl)
theorem dX5_rivals_115 : decode cX5_rivals 115 = .ok (.iadd, 1) := dk_96 (dk_at dksX5_rivals_4 22 rfl rfl)
theorem dX5_rivals_116 : decode cX5_rivals 116 = .ok (.goto 5, 3) := dk_167 0 5 (dk_at dksX5_rivals_5 0 rfl rfl)
theorem dX5_rivals_119 : decode cX5_rivals 119 = .ok (.iload 4, 2) := dk_21 4 (dk_at dksX5_rivals_5 3 rfl rfl)
theorem dX5_rivals_121 : decode cX5_rivals 121 = .ok (.istore 4, 2) := dk_54 4 (dk_at dksX5_rivals_5 5 rfl rfl)
theorem dX5_rivals_123 : decode cX5_rivals 123 = .ok (.iinc 6 1, 3) := dk_132 6 1 (dk_at dksX5_rivals_5 7 rfl rfl)
theorem dX5_rivals_126 : decode cX5_rivals 126 = .ok (.goto (-72), 3) := dk_167 255 184 (dk_at dksX5_rivals_5 10 rfl rfl)
theorem dX5_rivals_129 : decode cX5_rivals 129 = .ok (.iinc 5 1, 3) := dk_132 5 1 (dk_at dksX5_rivals_5 13 rfl rfl)
theorem dX5_rivals_132 : decode cX5_rivals 132 = .ok (.goto (-92), 3) := dk_167 255 164 (dk_at dksX5_rivals_5 16 rfl rfl)
theorem dX5_rivals_135 : decode cX5_rivals 135 = .ok (.iload_n 2, 1) := dk_28 (dk_at dksX5_rivals_5 19 rfl rfl)
theorem dX5_rivals_136 : decode cX5_rivals 136 = .ok (.ifCond .ne 7, 3) := dk_154 0 7 (dk_at dksX5_rivals_5 20 rfl rfl)
theorem dX5_rivals_139 : decode cX5_rivals 139 = .ok (.iload_n 3, 1) := dk_29 (dk_at dksX5_rivals_5 23 rfl rfl)
theorem dX5_rivals_140 : decode cX5_rivals 140 = .ok (.goto 5, 3) := dk_167 0 5 (dk_at dksX5_rivals_6 0 rfl rfl)
theorem dX5_rivals_143 : decode cX5_rivals 143 = .ok (.iload 4, 2) := dk_21 4 (dk_at dksX5_rivals_6 3 rfl rfl)
theorem dX5_rivals_145 : decode cX5_rivals 145 = .ok (.ireturn, 1) := dk_172 (dk_at dksX5_rivals_6 5 rfl rfl)
abbrev cX5_tellGains : ByteArray := prog_23_method_74_code
def yX5_tellGains : MethodName := ⟨RX5, "tellGains", "(I)V"⟩
def dkwX5_tellGains_9 : List UInt8 := [167, 255, 61, 132, 2, 1, 167, 255, 43, 177]
abbrev dktX5_tellGains_9 : List UInt8 := dkwX5_tellGains_9 ++ []
def dkwX5_tellGains_8 : List UInt8 := [180, 0, 140, 16, 24, 46, 46, 96, 92, 46, 16, 10, 96, 79, 132, 5, 1, 167, 255, 201, 132, 3, 1]
abbrev dktX5_tellGains_8 : List UInt8 := dkwX5_tellGains_8 ++ dktX5_tellGains_9
def dkwX5_tellGains_7 : List UInt8 := [182, 1, 158, 4, 160, 0, 34, 42, 180, 0, 155, 5, 16, 7, 28, 104, 29, 96, 104, 42, 180, 0, 52, 42]
abbrev dktX5_tellGains_7 : List UInt8 := dkwX5_tellGains_7 ++ dktX5_tellGains_8
def dkwX5_tellGains_6 : List UInt8 := [167, 0, 4, 3, 79, 3, 54, 5, 21, 5, 42, 180, 0, 45, 5, 46, 162, 0, 50, 42, 21, 5]
abbrev dktX5_tellGains_6 : List UInt8 := dkwX5_tellGains_6 ++ dktX5_tellGains_7
def dkwX5_tellGains_5 : List UInt8 := [180, 0, 155, 5, 16, 7, 28, 104, 29, 96, 104, 4, 96, 29, 158, 0, 13, 42, 180, 0, 45, 7, 46, 116]
abbrev dktX5_tellGains_5 : List UInt8 := dkwX5_tellGains_5 ++ dktX5_tellGains_6
def dkwX5_tellGains_4 : List UInt8 := [28, 104, 29, 96, 104, 28, 158, 0, 13, 42, 180, 0, 45, 7, 46, 116, 167, 0, 4, 3, 79, 42]
abbrev dktX5_tellGains_4 : List UInt8 := dkwX5_tellGains_4 ++ dktX5_tellGains_5
def dkwX5_tellGains_3 : List UInt8 := [4, 100, 27, 3, 182, 1, 132, 42, 182, 1, 136, 42, 21, 4, 181, 1, 81, 42, 180, 0, 155, 5, 16, 7]
abbrev dktX5_tellGains_3 : List UInt8 := dkwX5_tellGains_3 ++ dktX5_tellGains_4
def dkwX5_tellGains_2 : List UInt8 := [180, 1, 81, 54, 4, 28, 158, 0, 12, 42, 28, 4, 100, 27, 3, 182, 1, 132, 29, 158, 0, 12, 42, 29]
abbrev dktX5_tellGains_2 : List UInt8 := dkwX5_tellGains_2 ++ dktX5_tellGains_3
def dkwX5_tellGains_1 : List UInt8 := [42, 3, 28, 182, 1, 186, 153, 0, 176, 42, 4, 29, 182, 1, 186, 154, 0, 6, 167, 0, 164, 42]
abbrev dktX5_tellGains_1 : List UInt8 := dkwX5_tellGains_1 ++ dktX5_tellGains_2
def dkwX5_tellGains_0 : List UInt8 := [3, 61, 28, 42, 180, 0, 45, 4, 46, 163, 0, 209, 3, 62, 29, 42, 180, 0, 45, 4, 46, 163, 0, 191]
abbrev dktX5_tellGains_0 : List UInt8 := dkwX5_tellGains_0 ++ dktX5_tellGains_1
theorem dksX5_tellGains_0 : cX5_tellGains.data.toList.drop 0 = dktX5_tellGains_0 := by decide +kernel
theorem dksX5_tellGains_1 : cX5_tellGains.data.toList.drop 24 = dktX5_tellGains_1 := dk_seg dksX5_tellGains_0 24 rfl rfl
theorem dksX5_tellGains_2 : cX5_tellGains.data.toList.drop 46 = dktX5_tellGains_2 := dk_seg dksX5_tellGains_1 22 rfl rfl
theorem dksX5_tellGains_3 : cX5_tellGains.data.toList.drop 70 = dktX5_tellGains_3 := dk_seg dksX5_tellGains_2 24 rfl rfl
theorem dksX5_tellGains_4 : cX5_tellGains.data.toList.drop 94 = dktX5_tellGains_4 := dk_seg dksX5_tellGains_3 24 rfl rfl
theorem dksX5_tellGains_5 : cX5_tellGains.data.toList.drop 116 = dktX5_tellGains_5 := dk_seg dksX5_tellGains_4 22 rfl rfl
theorem dksX5_tellGains_6 : cX5_tellGains.data.toList.drop 140 = dktX5_tellGains_6 := dk_seg dksX5_tellGains_5 24 rfl rfl
theorem dksX5_tellGains_7 : cX5_tellGains.data.toList.drop 162 = dktX5_tellGains_7 := dk_seg dksX5_tellGains_6 22 rfl rfl
theorem dksX5_tellGains_8 : cX5_tellGains.data.toList.drop 186 = dktX5_tellGains_8 := dk_seg dksX5_tellGains_7 24 rfl rfl
theorem dksX5_tellGains_9 : cX5_tellGains.data.toList.drop 209 = dktX5_tellGains_9 := dk_seg dksX5_tellGains_8 23 rfl rfl
theorem dX5_tellGains_0 : decode cX5_tellGains 0 = .ok (.iconst 0, 1) := dk_3 (dk_at dksX5_tellGains_0 0 rfl rfl)
theorem dX5_tellGains_1 : decode cX5_tellGains 1 = .ok (.istore_n 2, 1) := dk_61 (dk_at dksX5_tellGains_0 1 rfl rfl)
theorem dX5_tellGains_2 : decode cX5_tellGains 2 = .ok (.iload_n 2, 1) := dk_28 (dk_at dksX5_tellGains_0 2 rfl rfl)
theorem dX5_tellGains_3 : decode cX5_tellGains 3 = .ok (.aload_n 0, 1) := dk_42 (dk_at dksX5_tellGains_0 3 rfl rfl)
theorem dX5_tellGains_4 : decode cX5_tellGains 4 = .ok (.getfield 45, 3) := dk_180 0 45 (dk_at dksX5_tellGains_0 4 rfl rfl)
theorem dX5_tellGains_7 : decode cX5_tellGains 7 = .ok (.iconst 1, 1) := dk_4 (dk_at dksX5_tellGains_0 7 rfl rfl)
theorem dX5_tellGains_8 : decode cX5_tellGains 8 = .ok (.iaload, 1) := dk_46 (dk_at dksX5_tellGains_0 8 rfl rfl)
theorem dX5_tellGains_9 : decode cX5_tellGains 9 = .ok (.if_icmp .gt 209, 3) := dk_163 0 209 (dk_at dksX5_tellGains_0 9 rfl rfl)
theorem dX5_tellGains_12 : decode cX5_tellGains 12 = .ok (.iconst 0, 1) := dk_3 (dk_at dksX5_tellGains_0 12 rfl rfl)
theorem dX5_tellGains_13 : decode cX5_tellGains 13 = .ok (.istore_n 3, 1) := dk_62 (dk_at dksX5_tellGains_0 13 rfl rfl)
theorem dX5_tellGains_14 : decode cX5_tellGains 14 = .ok (.iload_n 3, 1) := dk_29 (dk_at dksX5_tellGains_0 14 rfl rfl)
theorem dX5_tellGains_15 : decode cX5_tellGains 15 = .ok (.aload_n 0, 1) := dk_42 (dk_at dksX5_tellGains_0 15 rfl rfl)
theorem dX5_tellGains_16 : decode cX5_tellGains 16 = .ok (.getfield 45, 3) := dk_180 0 45 (dk_at dksX5_tellGains_0 16 rfl rfl)
theorem dX5_tellGains_19 : decode cX5_tellGains 19 = .ok (.iconst 1, 1) := dk_4 (dk_at dksX5_tellGains_0 19 rfl rfl)
theorem dX5_tellGains_20 : decode cX5_tellGains 20 = .ok (.iaload, 1) := dk_46 (dk_at dksX5_tellGains_0 20 rfl rfl)
theorem dX5_tellGains_21 : decode cX5_tellGains 21 = .ok (.if_icmp .gt 191, 3) := dk_163 0 191 (dk_at dksX5_tellGains_0 21 rfl rfl)
theorem dX5_tellGains_24 : decode cX5_tellGains 24 = .ok (.aload_n 0, 1) := dk_42 (dk_at dksX5_tellGains_1 0 rfl rfl)
theorem dX5_tellGains_25 : decode cX5_tellGains 25 = .ok (.iconst 0, 1) := dk_3 (dk_at dksX5_tellGains_1 1 rfl rfl)
theorem dX5_tellGains_26 : decode cX5_tellGains 26 = .ok (.iload_n 2, 1) := dk_28 (dk_at dksX5_tellGains_1 2 rfl rfl)
theorem dX5_tellGains_27 : decode cX5_tellGains 27 = .ok (.invokevirtual 442, 3) := dk_182 1 186 (dk_at dksX5_tellGains_1 3 rfl rfl)
theorem dX5_tellGains_30 : decode cX5_tellGains 30 = .ok (.ifCond .eq 176, 3) := dk_153 0 176 (dk_at dksX5_tellGains_1 6 rfl rfl)
theorem dX5_tellGains_33 : decode cX5_tellGains 33 = .ok (.aload_n 0, 1) := dk_42 (dk_at dksX5_tellGains_1 9 rfl rfl)
theorem dX5_tellGains_34 : decode cX5_tellGains 34 = .ok (.iconst 1, 1) := dk_4 (dk_at dksX5_tellGains_1 10 rfl rfl)
theorem dX5_tellGains_35 : decode cX5_tellGains 35 = .ok (.iload_n 3, 1) := dk_29 (dk_at dksX5_tellGains_1 11 rfl rfl)
theorem dX5_tellGains_36 : decode cX5_tellGains 36 = .ok (.invokevirtual 442, 3) := dk_182 1 186 (dk_at dksX5_tellGains_1 12 rfl rfl)
theorem dX5_tellGains_39 : decode cX5_tellGains 39 = .ok (.ifCond .ne 6, 3) := dk_154 0 6 (dk_at dksX5_tellGains_1 15 rfl rfl)
theorem dX5_tellGains_42 : decode cX5_tellGains 42 = .ok (.goto 164, 3) := dk_167 0 164 (dk_at dksX5_tellGains_1 18 rfl rfl)
theorem dX5_tellGains_45 : decode cX5_tellGains 45 = .ok (.aload_n 0, 1) := dk_42 (dk_at dksX5_tellGains_1 21 rfl rfl)
theorem dX5_tellGains_46 : decode cX5_tellGains 46 = .ok (.getfield 337, 3) := dk_180 1 81 (dk_at dksX5_tellGains_2 0 rfl rfl)
theorem dX5_tellGains_49 : decode cX5_tellGains 49 = .ok (.istore 4, 2) := dk_54 4 (dk_at dksX5_tellGains_2 3 rfl rfl)
theorem dX5_tellGains_51 : decode cX5_tellGains 51 = .ok (.iload_n 2, 1) := dk_28 (dk_at dksX5_tellGains_2 5 rfl rfl)
theorem dX5_tellGains_52 : decode cX5_tellGains 52 = .ok (.ifCond .le 12, 3) := dk_158 0 12 (dk_at dksX5_tellGains_2 6 rfl rfl)
theorem dX5_tellGains_55 : decode cX5_tellGains 55 = .ok (.aload_n 0, 1) := dk_42 (dk_at dksX5_tellGains_2 9 rfl rfl)
theorem dX5_tellGains_56 : decode cX5_tellGains 56 = .ok (.iload_n 2, 1) := dk_28 (dk_at dksX5_tellGains_2 10 rfl rfl)
theorem dX5_tellGains_57 : decode cX5_tellGains 57 = .ok (.iconst 1, 1) := dk_4 (dk_at dksX5_tellGains_2 11 rfl rfl)
theorem dX5_tellGains_58 : decode cX5_tellGains 58 = .ok (.isub, 1) := dk_100 (dk_at dksX5_tellGains_2 12 rfl rfl)
theorem dX5_tellGains_59 : decode cX5_tellGains 59 = .ok (.iload_n 1, 1) := dk_27 (dk_at dksX5_tellGains_2 13 rfl rfl)
theorem dX5_tellGains_60 : decode cX5_tellGains 60 = .ok (.iconst 0, 1) := dk_3 (dk_at dksX5_tellGains_2 14 rfl rfl)
theorem dX5_tellGains_61 : decode cX5_tellGains 61 = .ok (.invokevirtual 388, 3) := dk_182 1 132 (dk_at dksX5_tellGains_2 15 rfl rfl)
theorem dX5_tellGains_64 : decode cX5_tellGains 64 = .ok (.iload_n 3, 1) := dk_29 (dk_at dksX5_tellGains_2 18 rfl rfl)
theorem dX5_tellGains_65 : decode cX5_tellGains 65 = .ok (.ifCond .le 12, 3) := dk_158 0 12 (dk_at dksX5_tellGains_2 19 rfl rfl)
theorem dX5_tellGains_68 : decode cX5_tellGains 68 = .ok (.aload_n 0, 1) := dk_42 (dk_at dksX5_tellGains_2 22 rfl rfl)
theorem dX5_tellGains_69 : decode cX5_tellGains 69 = .ok (.iload_n 3, 1) := dk_29 (dk_at dksX5_tellGains_2 23 rfl rfl)
theorem dX5_tellGains_70 : decode cX5_tellGains 70 = .ok (.iconst 1, 1) := dk_4 (dk_at dksX5_tellGains_3 0 rfl rfl)
theorem dX5_tellGains_71 : decode cX5_tellGains 71 = .ok (.isub, 1) := dk_100 (dk_at dksX5_tellGains_3 1 rfl rfl)
theorem dX5_tellGains_72 : decode cX5_tellGains 72 = .ok (.iload_n 1, 1) := dk_27 (dk_at dksX5_tellGains_3 2 rfl rfl)
theorem dX5_tellGains_73 : decode cX5_tellGains 73 = .ok (.iconst 0, 1) := dk_3 (dk_at dksX5_tellGains_3 3 rfl rfl)
theorem dX5_tellGains_74 : decode cX5_tellGains 74 = .ok (.invokevirtual 388, 3) := dk_182 1 132 (dk_at dksX5_tellGains_3 4 rfl rfl)
theorem dX5_tellGains_77 : decode cX5_tellGains 77 = .ok (.aload_n 0, 1) := dk_42 (dk_at dksX5_tellGains_3 7 rfl rfl)
theorem dX5_tellGains_78 : decode cX5_tellGains 78 = .ok (.invokevirtual 392, 3) := dk_182 1 136 (dk_at dksX5_tellGains_3 8 rfl rfl)
theorem dX5_tellGains_81 : decode cX5_tellGains 81 = .ok (.aload_n 0, 1) := dk_42 (dk_at dksX5_tellGains_3 11 rfl rfl)
theorem dX5_tellGains_82 : decode cX5_tellGains 82 = .ok (.iload 4, 2) := dk_21 4 (dk_at dksX5_tellGains_3 12 rfl rfl)
theorem dX5_tellGains_84 : decode cX5_tellGains 84 = .ok (.putfield 337, 3) := dk_181 1 81 (dk_at dksX5_tellGains_3 14 rfl rfl)
theorem dX5_tellGains_87 : decode cX5_tellGains 87 = .ok (.aload_n 0, 1) := dk_42 (dk_at dksX5_tellGains_3 17 rfl rfl)
theorem dX5_tellGains_88 : decode cX5_tellGains 88 = .ok (.getfield 155, 3) := dk_180 0 155 (dk_at dksX5_tellGains_3 18 rfl rfl)
theorem dX5_tellGains_91 : decode cX5_tellGains 91 = .ok (.iconst 2, 1) := dk_5 (dk_at dksX5_tellGains_3 21 rfl rfl)
theorem dX5_tellGains_92 : decode cX5_tellGains 92 = .ok (.bipush 7, 2) := dk_16 7 (dk_at dksX5_tellGains_3 22 rfl rfl)
theorem dX5_tellGains_94 : decode cX5_tellGains 94 = .ok (.iload_n 2, 1) := dk_28 (dk_at dksX5_tellGains_4 0 rfl rfl)
theorem dX5_tellGains_95 : decode cX5_tellGains 95 = .ok (.imul, 1) := dk_104 (dk_at dksX5_tellGains_4 1 rfl rfl)
theorem dX5_tellGains_96 : decode cX5_tellGains 96 = .ok (.iload_n 3, 1) := dk_29 (dk_at dksX5_tellGains_4 2 rfl rfl)
theorem dX5_tellGains_97 : decode cX5_tellGains 97 = .ok (.iadd, 1) := dk_96 (dk_at dksX5_tellGains_4 3 rfl rfl)
theorem dX5_tellGains_98 : decode cX5_tellGains 98 = .ok (.imul, 1) := dk_104 (dk_at dksX5_tellGains_4 4 rfl rfl)
theorem dX5_tellGains_99 : decode cX5_tellGains 99 = .ok (.iload_n 2, 1) := dk_28 (dk_at dksX5_tellGains_4 5 rfl rfl)
theorem dX5_tellGains_100 : decode cX5_tellGains 100 = .ok (.ifCond .le 13, 3) := dk_158 0 13 (dk_at dksX5_tellGains_4 6 rfl rfl)
theorem dX5_tellGains_103 : decode cX5_tellGains 103 = .ok (.aload_n 0, 1) := dk_42 (dk_at dksX5_tellGains_4 9 rfl rfl)
theorem dX5_tellGains_104 : decode cX5_tellGains 104 = .ok (.getfield 45, 3) := dk_180 0 45 (dk_at dksX5_tellGains_4 10 rfl rfl)
theorem dX5_tellGains_107 : decode cX5_tellGains 107 = .ok (.iconst 4, 1) := dk_7 (dk_at dksX5_tellGains_4 13 rfl rfl)
theorem dX5_tellGains_108 : decode cX5_tellGains 108 = .ok (.iaload, 1) := dk_46 (dk_at dksX5_tellGains_4 14 rfl rfl)
theorem dX5_tellGains_109 : decode cX5_tellGains 109 = .ok (.ineg, 1) := dk_116 (dk_at dksX5_tellGains_4 15 rfl rfl)
theorem dX5_tellGains_110 : decode cX5_tellGains 110 = .ok (.goto 4, 3) := dk_167 0 4 (dk_at dksX5_tellGains_4 16 rfl rfl)
theorem dX5_tellGains_113 : decode cX5_tellGains 113 = .ok (.iconst 0, 1) := dk_3 (dk_at dksX5_tellGains_4 19 rfl rfl)
theorem dX5_tellGains_114 : decode cX5_tellGains 114 = .ok (.iastore, 1) := dk_79 (dk_at dksX5_tellGains_4 20 rfl rfl)
theorem dX5_tellGains_115 : decode cX5_tellGains 115 = .ok (.aload_n 0, 1) := dk_42 (dk_at dksX5_tellGains_4 21 rfl rfl)
theorem dX5_tellGains_116 : decode cX5_tellGains 116 = .ok (.getfield 155, 3) := dk_180 0 155 (dk_at dksX5_tellGains_5 0 rfl rfl)
theorem dX5_tellGains_119 : decode cX5_tellGains 119 = .ok (.iconst 2, 1) := dk_5 (dk_at dksX5_tellGains_5 3 rfl rfl)
theorem dX5_tellGains_120 : decode cX5_tellGains 120 = .ok (.bipush 7, 2) := dk_16 7 (dk_at dksX5_tellGains_5 4 rfl rfl)
theorem dX5_tellGains_122 : decode cX5_tellGains 122 = .ok (.iload_n 2, 1) := dk_28 (dk_at dksX5_tellGains_5 6 rfl rfl)
theorem dX5_tellGains_123 : decode cX5_tellGains 123 = .ok (.imul, 1) := dk_104 (dk_at dksX5_tellGains_5 7 rfl rfl)
theorem dX5_tellGains_124 : decode cX5_tellGains 124 = .ok (.iload_n 3, 1) := dk_29 (dk_at dksX5_tellGains_5 8 rfl rfl)
theorem dX5_tellGains_125 : decode cX5_tellGains 125 = .ok (.iadd, 1) := dk_96 (dk_at dksX5_tellGains_5 9 rfl rfl)
theorem dX5_tellGains_126 : decode cX5_tellGains 126 = .ok (.imul, 1) := dk_104 (dk_at dksX5_tellGains_5 10 rfl rfl)
theorem dX5_tellGains_127 : decode cX5_tellGains 127 = .ok (.iconst 1, 1) := dk_4 (dk_at dksX5_tellGains_5 11 rfl rfl)
theorem dX5_tellGains_128 : decode cX5_tellGains 128 = .ok (.iadd, 1) := dk_96 (dk_at dksX5_tellGains_5 12 rfl rfl)
theorem dX5_tellGains_129 : decode cX5_tellGains 129 = .ok (.iload_n 3, 1) := dk_29 (dk_at dksX5_tellGains_5 13 rfl rfl)
theorem dX5_tellGains_130 : decode cX5_tellGains 130 = .ok (.ifCond .le 13, 3) := dk_158 0 13 (dk_at dksX5_tellGains_5 14 rfl rfl)
theorem dX5_tellGains_133 : decode cX5_tellGains 133 = .ok (.aload_n 0, 1) := dk_42 (dk_at dksX5_tellGains_5 17 rfl rfl)
theorem dX5_tellGains_134 : decode cX5_tellGains 134 = .ok (.getfield 45, 3) := dk_180 0 45 (dk_at dksX5_tellGains_5 18 rfl rfl)
theorem dX5_tellGains_137 : decode cX5_tellGains 137 = .ok (.iconst 4, 1) := dk_7 (dk_at dksX5_tellGains_5 21 rfl rfl)
theorem dX5_tellGains_138 : decode cX5_tellGains 138 = .ok (.iaload, 1) := dk_46 (dk_at dksX5_tellGains_5 22 rfl rfl)
theorem dX5_tellGains_139 : decode cX5_tellGains 139 = .ok (.ineg, 1) := dk_116 (dk_at dksX5_tellGains_5 23 rfl rfl)
theorem dX5_tellGains_140 : decode cX5_tellGains 140 = .ok (.goto 4, 3) := dk_167 0 4 (dk_at dksX5_tellGains_6 0 rfl rfl)
theorem dX5_tellGains_143 : decode cX5_tellGains 143 = .ok (.iconst 0, 1) := dk_3 (dk_at dksX5_tellGains_6 3 rfl rfl)
theorem dX5_tellGains_144 : decode cX5_tellGains 144 = .ok (.iastore, 1) := dk_79 (dk_at dksX5_tellGains_6 4 rfl rfl)
theorem dX5_tellGains_145 : decode cX5_tellGains 145 = .ok (.iconst 0, 1) := dk_3 (dk_at dksX5_tellGains_6 5 rfl rfl)
theorem dX5_tellGains_146 : decode cX5_tellGains 146 = .ok (.istore 5, 2) := dk_54 5 (dk_at dksX5_tellGains_6 6 rfl rfl)
theorem dX5_tellGains_148 : decode cX5_tellGains 148 = .ok (.iload 5, 2) := dk_21 5 (dk_at dksX5_tellGains_6 8 rfl rfl)
theorem dX5_tellGains_150 : decode cX5_tellGains 150 = .ok (.aload_n 0, 1) := dk_42 (dk_at dksX5_tellGains_6 10 rfl rfl)
theorem dX5_tellGains_151 : decode cX5_tellGains 151 = .ok (.getfield 45, 3) := dk_180 0 45 (dk_at dksX5_tellGains_6 11 rfl rfl)
theorem dX5_tellGains_154 : decode cX5_tellGains 154 = .ok (.iconst 2, 1) := dk_5 (dk_at dksX5_tellGains_6 14 rfl rfl)
theorem dX5_tellGains_155 : decode cX5_tellGains 155 = .ok (.iaload, 1) := dk_46 (dk_at dksX5_tellGains_6 15 rfl rfl)
theorem dX5_tellGains_156 : decode cX5_tellGains 156 = .ok (.if_icmp .ge 50, 3) := dk_162 0 50 (dk_at dksX5_tellGains_6 16 rfl rfl)
theorem dX5_tellGains_159 : decode cX5_tellGains 159 = .ok (.aload_n 0, 1) := dk_42 (dk_at dksX5_tellGains_6 19 rfl rfl)
theorem dX5_tellGains_160 : decode cX5_tellGains 160 = .ok (.iload 5, 2) := dk_21 5 (dk_at dksX5_tellGains_6 20 rfl rfl)
theorem dX5_tellGains_162 : decode cX5_tellGains 162 = .ok (.invokevirtual 414, 3) := dk_182 1 158 (dk_at dksX5_tellGains_7 0 rfl rfl)
theorem dX5_tellGains_165 : decode cX5_tellGains 165 = .ok (.iconst 1, 1) := dk_4 (dk_at dksX5_tellGains_7 3 rfl rfl)
theorem dX5_tellGains_166 : decode cX5_tellGains 166 = .ok (.if_icmp .ne 34, 3) := dk_160 0 34 (dk_at dksX5_tellGains_7 4 rfl rfl)
theorem dX5_tellGains_169 : decode cX5_tellGains 169 = .ok (.aload_n 0, 1) := dk_42 (dk_at dksX5_tellGains_7 7 rfl rfl)
theorem dX5_tellGains_170 : decode cX5_tellGains 170 = .ok (.getfield 155, 3) := dk_180 0 155 (dk_at dksX5_tellGains_7 8 rfl rfl)
theorem dX5_tellGains_173 : decode cX5_tellGains 173 = .ok (.iconst 2, 1) := dk_5 (dk_at dksX5_tellGains_7 11 rfl rfl)
theorem dX5_tellGains_174 : decode cX5_tellGains 174 = .ok (.bipush 7, 2) := dk_16 7 (dk_at dksX5_tellGains_7 12 rfl rfl)
theorem dX5_tellGains_176 : decode cX5_tellGains 176 = .ok (.iload_n 2, 1) := dk_28 (dk_at dksX5_tellGains_7 14 rfl rfl)
theorem dX5_tellGains_177 : decode cX5_tellGains 177 = .ok (.imul, 1) := dk_104 (dk_at dksX5_tellGains_7 15 rfl rfl)
theorem dX5_tellGains_178 : decode cX5_tellGains 178 = .ok (.iload_n 3, 1) := dk_29 (dk_at dksX5_tellGains_7 16 rfl rfl)
theorem dX5_tellGains_179 : decode cX5_tellGains 179 = .ok (.iadd, 1) := dk_96 (dk_at dksX5_tellGains_7 17 rfl rfl)
theorem dX5_tellGains_180 : decode cX5_tellGains 180 = .ok (.imul, 1) := dk_104 (dk_at dksX5_tellGains_7 18 rfl rfl)
theorem dX5_tellGains_181 : decode cX5_tellGains 181 = .ok (.aload_n 0, 1) := dk_42 (dk_at dksX5_tellGains_7 19 rfl rfl)
theorem dX5_tellGains_182 : decode cX5_tellGains 182 = .ok (.getfield 52, 3) := dk_180 0 52 (dk_at dksX5_tellGains_7 20 rfl rfl)
theorem dX5_tellGains_185 : decode cX5_tellGains 185 = .ok (.aload_n 0, 1) := dk_42 (dk_at dksX5_tellGains_7 23 rfl rfl)
theorem dX5_tellGains_186 : decode cX5_tellGains 186 = .ok (.getfield 140, 3) := dk_180 0 140 (dk_at dksX5_tellGains_8 0 rfl rfl)
theorem dX5_tellGains_189 : decode cX5_tellGains 189 = .ok (.bipush 24, 2) := dk_16 24 (dk_at dksX5_tellGains_8 3 rfl rfl)
theorem dX5_tellGains_191 : decode cX5_tellGains 191 = .ok (.iaload, 1) := dk_46 (dk_at dksX5_tellGains_8 5 rfl rfl)
theorem dX5_tellGains_192 : decode cX5_tellGains 192 = .ok (.iaload, 1) := dk_46 (dk_at dksX5_tellGains_8 6 rfl rfl)
theorem dX5_tellGains_193 : decode cX5_tellGains 193 = .ok (.iadd, 1) := dk_96 (dk_at dksX5_tellGains_8 7 rfl rfl)
theorem dX5_tellGains_194 : decode cX5_tellGains 194 = .ok (.dup2, 1) := dk_92 (dk_at dksX5_tellGains_8 8 rfl rfl)
theorem dX5_tellGains_195 : decode cX5_tellGains 195 = .ok (.iaload, 1) := dk_46 (dk_at dksX5_tellGains_8 9 rfl rfl)
theorem dX5_tellGains_196 : decode cX5_tellGains 196 = .ok (.bipush 10, 2) := dk_16 10 (dk_at dksX5_tellGains_8 10 rfl rfl)
theorem dX5_tellGains_198 : decode cX5_tellGains 198 = .ok (.iadd, 1) := dk_96 (dk_at dksX5_tellGains_8 12 rfl rfl)
theorem dX5_tellGains_199 : decode cX5_tellGains 199 = .ok (.iastore, 1) := dk_79 (dk_at dksX5_tellGains_8 13 rfl rfl)
theorem dX5_tellGains_200 : decode cX5_tellGains 200 = .ok (.iinc 5 1, 3) := dk_132 5 1 (dk_at dksX5_tellGains_8 14 rfl rfl)
theorem dX5_tellGains_203 : decode cX5_tellGains 203 = .ok (.goto (-55), 3) := dk_167 255 201 (dk_at dksX5_tellGains_8 17 rfl rfl)
theorem dX5_tellGains_206 : decode cX5_tellGains 206 = .ok (.iinc 3 1, 3) := dk_132 3 1 (dk_at dksX5_tellGains_8 20 rfl rfl)
theorem dX5_tellGains_209 : decode cX5_tellGains 209 = .ok (.goto (-195), 3) := dk_167 255 61 (dk_at dksX5_tellGains_9 0 rfl rfl)
theorem dX5_tellGains_212 : decode cX5_tellGains 212 = .ok (.iinc 2 1, 3) := dk_132 2 1 (dk_at dksX5_tellGains_9 3 rfl rfl)
theorem dX5_tellGains_215 : decode cX5_tellGains 215 = .ok (.goto (-213), 3) := dk_167 255 43 (dk_at dksX5_tellGains_9 6 rfl rfl)
theorem dX5_tellGains_218 : decode cX5_tellGains 218 = .ok (.return_, 1) := dk_177 (dk_at dksX5_tellGains_9 9 rfl rfl)
abbrev cX5_mayFeed : ByteArray := prog_23_method_73_code
def yX5_mayFeed : MethodName := ⟨RX5, "mayFeed", "(II)Z"⟩
def dkwX5_mayFeed_0 : List UInt8 := [28, 153, 0, 15, 42, 180, 0, 64, 28, 4, 100, 46, 27, 160, 0, 7, 4, 167, 0, 4, 3, 172]
abbrev dktX5_mayFeed_0 : List UInt8 := dkwX5_mayFeed_0 ++ []
theorem dksX5_mayFeed_0 : cX5_mayFeed.data.toList.drop 0 = dktX5_mayFeed_0 := by decide +kernel
theorem dX5_mayFeed_0 : decode cX5_mayFeed 0 = .ok (.iload_n 2, 1) := dk_28 (dk_at dksX5_mayFeed_0 0 rfl rfl)
theorem dX5_mayFeed_1 : decode cX5_mayFeed 1 = .ok (.ifCond .eq 15, 3) := dk_153 0 15 (dk_at dksX5_mayFeed_0 1 rfl rfl)
theorem dX5_mayFeed_4 : decode cX5_mayFeed 4 = .ok (.aload_n 0, 1) := dk_42 (dk_at dksX5_mayFeed_0 4 rfl rfl)
theorem dX5_mayFeed_5 : decode cX5_mayFeed 5 = .ok (.getfield 64, 3) := dk_180 0 64 (dk_at dksX5_mayFeed_0 5 rfl rfl)
theorem dX5_mayFeed_8 : decode cX5_mayFeed 8 = .ok (.iload_n 2, 1) := dk_28 (dk_at dksX5_mayFeed_0 8 rfl rfl)
theorem dX5_mayFeed_9 : decode cX5_mayFeed 9 = .ok (.iconst 1, 1) := dk_4 (dk_at dksX5_mayFeed_0 9 rfl rfl)
theorem dX5_mayFeed_10 : decode cX5_mayFeed 10 = .ok (.isub, 1) := dk_100 (dk_at dksX5_mayFeed_0 10 rfl rfl)
theorem dX5_mayFeed_11 : decode cX5_mayFeed 11 = .ok (.iaload, 1) := dk_46 (dk_at dksX5_mayFeed_0 11 rfl rfl)
theorem dX5_mayFeed_12 : decode cX5_mayFeed 12 = .ok (.iload_n 1, 1) := dk_27 (dk_at dksX5_mayFeed_0 12 rfl rfl)
theorem dX5_mayFeed_13 : decode cX5_mayFeed 13 = .ok (.if_icmp .ne 7, 3) := dk_160 0 7 (dk_at dksX5_mayFeed_0 13 rfl rfl)
theorem dX5_mayFeed_16 : decode cX5_mayFeed 16 = .ok (.iconst 1, 1) := dk_4 (dk_at dksX5_mayFeed_0 16 rfl rfl)
theorem dX5_mayFeed_17 : decode cX5_mayFeed 17 = .ok (.goto 4, 3) := dk_167 0 4 (dk_at dksX5_mayFeed_0 17 rfl rfl)
theorem dX5_mayFeed_20 : decode cX5_mayFeed 20 = .ok (.iconst 0, 1) := dk_3 (dk_at dksX5_mayFeed_0 20 rfl rfl)
theorem dX5_mayFeed_21 : decode cX5_mayFeed 21 = .ok (.ireturn, 1) := dk_172 (dk_at dksX5_mayFeed_0 21 rfl rfl)
abbrev cX5_restsAt : ByteArray := prog_23_method_75_code
def yX5_restsAt : MethodName := ⟨RX5, "restsAt", "(II)Z"⟩
def dkwX5_restsAt_4 : List UInt8 := [3, 172, 132, 3, 1, 167, 255, 159, 4, 172]
abbrev dktX5_restsAt_4 : List UInt8 := dkwX5_restsAt_4 ++ []
def dkwX5_restsAt_3 : List UInt8 := [29, 96, 104, 4, 96, 46, 42, 180, 0, 155, 5, 16, 7, 27, 104, 28, 96, 104, 4, 96, 46, 164, 0, 5]
abbrev dktX5_restsAt_3 : List UInt8 := dkwX5_restsAt_3 ++ dktX5_restsAt_4
def dkwX5_restsAt_2 : List UInt8 := [46, 164, 0, 5, 3, 172, 42, 4, 29, 182, 1, 186, 153, 0, 38, 42, 180, 0, 155, 5, 16, 7, 27, 104]
abbrev dktX5_restsAt_2 : List UInt8 := dkwX5_restsAt_2 ++ dktX5_restsAt_3
def dkwX5_restsAt_1 : List UInt8 := [180, 0, 155, 5, 16, 7, 29, 104, 28, 96, 104, 46, 42, 180, 0, 155, 5, 16, 7, 27, 104, 28, 96, 104]
abbrev dktX5_restsAt_1 : List UInt8 := dkwX5_restsAt_1 ++ dktX5_restsAt_2
def dkwX5_restsAt_0 : List UInt8 := [3, 62, 29, 42, 180, 0, 45, 4, 46, 163, 0, 93, 42, 3, 29, 182, 1, 186, 153, 0, 34, 42]
abbrev dktX5_restsAt_0 : List UInt8 := dkwX5_restsAt_0 ++ dktX5_restsAt_1
theorem dksX5_restsAt_0 : cX5_restsAt.data.toList.drop 0 = dktX5_restsAt_0 := by decide +kernel
theorem dksX5_restsAt_1 : cX5_restsAt.data.toList.drop 22 = dktX5_restsAt_1 := dk_seg dksX5_restsAt_0 22 rfl rfl
theorem dksX5_restsAt_2 : cX5_restsAt.data.toList.drop 46 = dktX5_restsAt_2 := dk_seg dksX5_restsAt_1 24 rfl rfl
theorem dksX5_restsAt_3 : cX5_restsAt.data.toList.drop 70 = dktX5_restsAt_3 := dk_seg dksX5_restsAt_2 24 rfl rfl
theorem dksX5_restsAt_4 : cX5_restsAt.data.toList.drop 94 = dktX5_restsAt_4 := dk_seg dksX5_restsAt_3 24 rfl rfl
theorem dX5_restsAt_0 : decode cX5_restsAt 0 = .ok (.iconst 0, 1) := dk_3 (dk_at dksX5_restsAt_0 0 rfl rfl)
theorem dX5_restsAt_1 : decode cX5_restsAt 1 = .ok (.istore_n 3, 1) := dk_62 (dk_at dksX5_restsAt_0 1 rfl rfl)
theorem dX5_restsAt_2 : decode cX5_restsAt 2 = .ok (.iload_n 3, 1) := dk_29 (dk_at dksX5_restsAt_0 2 rfl rfl)
theorem dX5_restsAt_3 : decode cX5_restsAt 3 = .ok (.aload_n 0, 1) := dk_42 (dk_at dksX5_restsAt_0 3 rfl rfl)
theorem dX5_restsAt_4 : decode cX5_restsAt 4 = .ok (.getfield 45, 3) := dk_180 0 45 (dk_at dksX5_restsAt_0 4 rfl rfl)
theorem dX5_restsAt_7 : decode cX5_restsAt 7 = .ok (.iconst 1, 1) := dk_4 (dk_at dksX5_restsAt_0 7 rfl rfl)
theorem dX5_restsAt_8 : decode cX5_restsAt 8 = .ok (.iaload, 1) := dk_46 (dk_at dksX5_restsAt_0 8 rfl rfl)
theorem dX5_restsAt_9 : decode cX5_restsAt 9 = .ok (.if_icmp .gt 93, 3) := dk_163 0 93 (dk_at dksX5_restsAt_0 9 rfl rfl)
theorem dX5_restsAt_12 : decode cX5_restsAt 12 = .ok (.aload_n 0, 1) := dk_42 (dk_at dksX5_restsAt_0 12 rfl rfl)
theorem dX5_restsAt_13 : decode cX5_restsAt 13 = .ok (.iconst 0, 1) := dk_3 (dk_at dksX5_restsAt_0 13 rfl rfl)
theorem dX5_restsAt_14 : decode cX5_restsAt 14 = .ok (.iload_n 3, 1) := dk_29 (dk_at dksX5_restsAt_0 14 rfl rfl)
theorem dX5_restsAt_15 : decode cX5_restsAt 15 = .ok (.invokevirtual 442, 3) := dk_182 1 186 (dk_at dksX5_restsAt_0 15 rfl rfl)
theorem dX5_restsAt_18 : decode cX5_restsAt 18 = .ok (.ifCond .eq 34, 3) := dk_153 0 34 (dk_at dksX5_restsAt_0 18 rfl rfl)
theorem dX5_restsAt_21 : decode cX5_restsAt 21 = .ok (.aload_n 0, 1) := dk_42 (dk_at dksX5_restsAt_0 21 rfl rfl)
theorem dX5_restsAt_22 : decode cX5_restsAt 22 = .ok (.getfield 155, 3) := dk_180 0 155 (dk_at dksX5_restsAt_1 0 rfl rfl)
theorem dX5_restsAt_25 : decode cX5_restsAt 25 = .ok (.iconst 2, 1) := dk_5 (dk_at dksX5_restsAt_1 3 rfl rfl)
theorem dX5_restsAt_26 : decode cX5_restsAt 26 = .ok (.bipush 7, 2) := dk_16 7 (dk_at dksX5_restsAt_1 4 rfl rfl)
theorem dX5_restsAt_28 : decode cX5_restsAt 28 = .ok (.iload_n 3, 1) := dk_29 (dk_at dksX5_restsAt_1 6 rfl rfl)
theorem dX5_restsAt_29 : decode cX5_restsAt 29 = .ok (.imul, 1) := dk_104 (dk_at dksX5_restsAt_1 7 rfl rfl)
theorem dX5_restsAt_30 : decode cX5_restsAt 30 = .ok (.iload_n 2, 1) := dk_28 (dk_at dksX5_restsAt_1 8 rfl rfl)
theorem dX5_restsAt_31 : decode cX5_restsAt 31 = .ok (.iadd, 1) := dk_96 (dk_at dksX5_restsAt_1 9 rfl rfl)
theorem dX5_restsAt_32 : decode cX5_restsAt 32 = .ok (.imul, 1) := dk_104 (dk_at dksX5_restsAt_1 10 rfl rfl)
theorem dX5_restsAt_33 : decode cX5_restsAt 33 = .ok (.iaload, 1) := dk_46 (dk_at dksX5_restsAt_1 11 rfl rfl)
theorem dX5_restsAt_34 : decode cX5_restsAt 34 = .ok (.aload_n 0, 1) := dk_42 (dk_at dksX5_restsAt_1 12 rfl rfl)
theorem dX5_restsAt_35 : decode cX5_restsAt 35 = .ok (.getfield 155, 3) := dk_180 0 155 (dk_at dksX5_restsAt_1 13 rfl rfl)
theorem dX5_restsAt_38 : decode cX5_restsAt 38 = .ok (.iconst 2, 1) := dk_5 (dk_at dksX5_restsAt_1 16 rfl rfl)
theorem dX5_restsAt_39 : decode cX5_restsAt 39 = .ok (.bipush 7, 2) := dk_16 7 (dk_at dksX5_restsAt_1 17 rfl rfl)
theorem dX5_restsAt_41 : decode cX5_restsAt 41 = .ok (.iload_n 1, 1) := dk_27 (dk_at dksX5_restsAt_1 19 rfl rfl)
theorem dX5_restsAt_42 : decode cX5_restsAt 42 = .ok (.imul, 1) := dk_104 (dk_at dksX5_restsAt_1 20 rfl rfl)
theorem dX5_restsAt_43 : decode cX5_restsAt 43 = .ok (.iload_n 2, 1) := dk_28 (dk_at dksX5_restsAt_1 21 rfl rfl)
theorem dX5_restsAt_44 : decode cX5_restsAt 44 = .ok (.iadd, 1) := dk_96 (dk_at dksX5_restsAt_1 22 rfl rfl)
theorem dX5_restsAt_45 : decode cX5_restsAt 45 = .ok (.imul, 1) := dk_104 (dk_at dksX5_restsAt_1 23 rfl rfl)
theorem dX5_restsAt_46 : decode cX5_restsAt 46 = .ok (.iaload, 1) := dk_46 (dk_at dksX5_restsAt_2 0 rfl rfl)
theorem dX5_restsAt_47 : decode cX5_restsAt 47 = .ok (.if_icmp .le 5, 3) := dk_164 0 5 (dk_at dksX5_restsAt_2 1 rfl rfl)
theorem dX5_restsAt_50 : decode cX5_restsAt 50 = .ok (.iconst 0, 1) := dk_3 (dk_at dksX5_restsAt_2 4 rfl rfl)
theorem dX5_restsAt_51 : decode cX5_restsAt 51 = .ok (.ireturn, 1) := dk_172 (dk_at dksX5_restsAt_2 5 rfl rfl)
theorem dX5_restsAt_52 : decode cX5_restsAt 52 = .ok (.aload_n 0, 1) := dk_42 (dk_at dksX5_restsAt_2 6 rfl rfl)
theorem dX5_restsAt_53 : decode cX5_restsAt 53 = .ok (.iconst 1, 1) := dk_4 (dk_at dksX5_restsAt_2 7 rfl rfl)
theorem dX5_restsAt_54 : decode cX5_restsAt 54 = .ok (.iload_n 3, 1) := dk_29 (dk_at dksX5_restsAt_2 8 rfl rfl)
theorem dX5_restsAt_55 : decode cX5_restsAt 55 = .ok (.invokevirtual 442, 3) := dk_182 1 186 (dk_at dksX5_restsAt_2 9 rfl rfl)
theorem dX5_restsAt_58 : decode cX5_restsAt 58 = .ok (.ifCond .eq 38, 3) := dk_153 0 38 (dk_at dksX5_restsAt_2 12 rfl rfl)
theorem dX5_restsAt_61 : decode cX5_restsAt 61 = .ok (.aload_n 0, 1) := dk_42 (dk_at dksX5_restsAt_2 15 rfl rfl)
theorem dX5_restsAt_62 : decode cX5_restsAt 62 = .ok (.getfield 155, 3) := dk_180 0 155 (dk_at dksX5_restsAt_2 16 rfl rfl)
theorem dX5_restsAt_65 : decode cX5_restsAt 65 = .ok (.iconst 2, 1) := dk_5 (dk_at dksX5_restsAt_2 19 rfl rfl)
theorem dX5_restsAt_66 : decode cX5_restsAt 66 = .ok (.bipush 7, 2) := dk_16 7 (dk_at dksX5_restsAt_2 20 rfl rfl)
theorem dX5_restsAt_68 : decode cX5_restsAt 68 = .ok (.iload_n 1, 1) := dk_27 (dk_at dksX5_restsAt_2 22 rfl rfl)
theorem dX5_restsAt_69 : decode cX5_restsAt 69 = .ok (.imul, 1) := dk_104 (dk_at dksX5_restsAt_2 23 rfl rfl)
theorem dX5_restsAt_70 : decode cX5_restsAt 70 = .ok (.iload_n 3, 1) := dk_29 (dk_at dksX5_restsAt_3 0 rfl rfl)
theorem dX5_restsAt_71 : decode cX5_restsAt 71 = .ok (.iadd, 1) := dk_96 (dk_at dksX5_restsAt_3 1 rfl rfl)
theorem dX5_restsAt_72 : decode cX5_restsAt 72 = .ok (.imul, 1) := dk_104 (dk_at dksX5_restsAt_3 2 rfl rfl)
theorem dX5_restsAt_73 : decode cX5_restsAt 73 = .ok (.iconst 1, 1) := dk_4 (dk_at dksX5_restsAt_3 3 rfl rfl)
theorem dX5_restsAt_74 : decode cX5_restsAt 74 = .ok (.iadd, 1) := dk_96 (dk_at dksX5_restsAt_3 4 rfl rfl)
theorem dX5_restsAt_75 : decode cX5_restsAt 75 = .ok (.iaload, 1) := dk_46 (dk_at dksX5_restsAt_3 5 rfl rfl)
theorem dX5_restsAt_76 : decode cX5_restsAt 76 = .ok (.aload_n 0, 1) := dk_42 (dk_at dksX5_restsAt_3 6 rfl rfl)
theorem dX5_restsAt_77 : decode cX5_restsAt 77 = .ok (.getfield 155, 3) := dk_180 0 155 (dk_at dksX5_restsAt_3 7 rfl rfl)
theorem dX5_restsAt_80 : decode cX5_restsAt 80 = .ok (.iconst 2, 1) := dk_5 (dk_at dksX5_restsAt_3 10 rfl rfl)
theorem dX5_restsAt_81 : decode cX5_restsAt 81 = .ok (.bipush 7, 2) := dk_16 7 (dk_at dksX5_restsAt_3 11 rfl rfl)
theorem dX5_restsAt_83 : decode cX5_restsAt 83 = .ok (.iload_n 1, 1) := dk_27 (dk_at dksX5_restsAt_3 13 rfl rfl)
theorem dX5_restsAt_84 : decode cX5_restsAt 84 = .ok (.imul, 1) := dk_104 (dk_at dksX5_restsAt_3 14 rfl rfl)
theorem dX5_restsAt_85 : decode cX5_restsAt 85 = .ok (.iload_n 2, 1) := dk_28 (dk_at dksX5_restsAt_3 15 rfl rfl)
theorem dX5_restsAt_86 : decode cX5_restsAt 86 = .ok (.iadd, 1) := dk_96 (dk_at dksX5_restsAt_3 16 rfl rfl)
theorem dX5_restsAt_87 : decode cX5_restsAt 87 = .ok (.imul, 1) := dk_104 (dk_at dksX5_restsAt_3 17 rfl rfl)
theorem dX5_restsAt_88 : decode cX5_restsAt 88 = .ok (.iconst 1, 1) := dk_4 (dk_at dksX5_restsAt_3 18 rfl rfl)
theorem dX5_restsAt_89 : decode cX5_restsAt 89 = .ok (.iadd, 1) := dk_96 (dk_at dksX5_restsAt_3 19 rfl rfl)
theorem dX5_restsAt_90 : decode cX5_restsAt 90 = .ok (.iaload, 1) := dk_46 (dk_at dksX5_restsAt_3 20 rfl rfl)
theorem dX5_restsAt_91 : decode cX5_restsAt 91 = .ok (.if_icmp .le 5, 3) := dk_164 0 5 (dk_at dksX5_restsAt_3 21 rfl rfl)
theorem dX5_restsAt_94 : decode cX5_restsAt 94 = .ok (.iconst 0, 1) := dk_3 (dk_at dksX5_restsAt_4 0 rfl rfl)
theorem dX5_restsAt_95 : decode cX5_restsAt 95 = .ok (.ireturn, 1) := dk_172 (dk_at dksX5_restsAt_4 1 rfl rfl)
theorem dX5_restsAt_96 : decode cX5_restsAt 96 = .ok (.iinc 3 1, 3) := dk_132 3 1 (dk_at dksX5_restsAt_4 2 rfl rfl)
theorem dX5_restsAt_99 : decode cX5_restsAt 99 = .ok (.goto (-97), 3) := dk_167 255 159 (dk_at dksX5_restsAt_4 5 rfl rfl)
theorem dX5_restsAt_102 : decode cX5_restsAt 102 = .ok (.iconst 1, 1) := dk_4 (dk_at dksX5_restsAt_4 8 rfl rfl)
theorem dX5_restsAt_103 : decode cX5_restsAt 103 = .ok (.ireturn, 1) := dk_172 (dk_at dksX5_restsAt_4 9 rfl rfl)
abbrev cX5_shone : ByteArray := prog_23_method_77_code
def yX5_shone : MethodName := ⟨RX5, "shone", "(III)I"⟩
def dkwX5_shone_4 : List UInt8 := [4, 96, 181, 1, 86, 42, 180, 1, 86, 172]
abbrev dktX5_shone_4 : List UInt8 := dkwX5_shone_4 ++ []
def dkwX5_shone_3 : List UInt8 := [180, 0, 161, 42, 180, 1, 86, 28, 79, 42, 180, 0, 164, 42, 180, 1, 86, 29, 79, 42, 89, 180, 1, 86]
abbrev dktX5_shone_3 : List UInt8 := dkwX5_shone_3 ++ dktX5_shone_4
def dkwX5_shone_2 : List UInt8 := [42, 180, 0, 103, 5, 92, 46, 4, 96, 79, 2, 172, 42, 180, 0, 158, 42, 180, 1, 86, 27, 79, 42]
abbrev dktX5_shone_2 : List UInt8 := dkwX5_shone_2 ++ dktX5_shone_3
def dkwX5_shone_1 : List UInt8 := [182, 1, 67, 172, 42, 180, 1, 86, 16, 12, 159, 0, 14, 29, 3, 17, 0, 255, 184, 0, 197, 154, 0, 15]
abbrev dktX5_shone_1 : List UInt8 := dkwX5_shone_1 ++ dktX5_shone_2
def dkwX5_shone_0 : List UInt8 := [42, 3, 181, 0, 194, 42, 27, 182, 1, 120, 153, 0, 10, 28, 184, 1, 129, 154, 0, 9, 42, 4]
abbrev dktX5_shone_0 : List UInt8 := dkwX5_shone_0 ++ dktX5_shone_1
theorem dksX5_shone_0 : cX5_shone.data.toList.drop 0 = dktX5_shone_0 := by decide +kernel
theorem dksX5_shone_1 : cX5_shone.data.toList.drop 22 = dktX5_shone_1 := dk_seg dksX5_shone_0 22 rfl rfl
theorem dksX5_shone_2 : cX5_shone.data.toList.drop 46 = dktX5_shone_2 := dk_seg dksX5_shone_1 24 rfl rfl
theorem dksX5_shone_3 : cX5_shone.data.toList.drop 69 = dktX5_shone_3 := dk_seg dksX5_shone_2 23 rfl rfl
theorem dksX5_shone_4 : cX5_shone.data.toList.drop 93 = dktX5_shone_4 := dk_seg dksX5_shone_3 24 rfl rfl
theorem dX5_shone_0 : decode cX5_shone 0 = .ok (.aload_n 0, 1) := dk_42 (dk_at dksX5_shone_0 0 rfl rfl)
theorem dX5_shone_1 : decode cX5_shone 1 = .ok (.iconst 0, 1) := dk_3 (dk_at dksX5_shone_0 1 rfl rfl)
theorem dX5_shone_2 : decode cX5_shone 2 = .ok (.putfield 194, 3) := dk_181 0 194 (dk_at dksX5_shone_0 2 rfl rfl)
theorem dX5_shone_5 : decode cX5_shone 5 = .ok (.aload_n 0, 1) := dk_42 (dk_at dksX5_shone_0 5 rfl rfl)
theorem dX5_shone_6 : decode cX5_shone 6 = .ok (.iload_n 1, 1) := dk_27 (dk_at dksX5_shone_0 6 rfl rfl)
theorem dX5_shone_7 : decode cX5_shone 7 = .ok (.invokevirtual 376, 3) := dk_182 1 120 (dk_at dksX5_shone_0 7 rfl rfl)
theorem dX5_shone_10 : decode cX5_shone 10 = .ok (.ifCond .eq 10, 3) := dk_153 0 10 (dk_at dksX5_shone_0 10 rfl rfl)
theorem dX5_shone_13 : decode cX5_shone 13 = .ok (.iload_n 2, 1) := dk_28 (dk_at dksX5_shone_0 13 rfl rfl)
theorem dX5_shone_14 : decode cX5_shone 14 = .ok (.invokestatic 385, 3) := dk_184 1 129 (dk_at dksX5_shone_0 14 rfl rfl)
theorem dX5_shone_17 : decode cX5_shone 17 = .ok (.ifCond .ne 9, 3) := dk_154 0 9 (dk_at dksX5_shone_0 17 rfl rfl)
theorem dX5_shone_20 : decode cX5_shone 20 = .ok (.aload_n 0, 1) := dk_42 (dk_at dksX5_shone_0 20 rfl rfl)
theorem dX5_shone_21 : decode cX5_shone 21 = .ok (.iconst 1, 1) := dk_4 (dk_at dksX5_shone_0 21 rfl rfl)
theorem dX5_shone_22 : decode cX5_shone 22 = .ok (.invokevirtual 323, 3) := dk_182 1 67 (dk_at dksX5_shone_1 0 rfl rfl)
theorem dX5_shone_25 : decode cX5_shone 25 = .ok (.ireturn, 1) := dk_172 (dk_at dksX5_shone_1 3 rfl rfl)
theorem dX5_shone_26 : decode cX5_shone 26 = .ok (.aload_n 0, 1) := dk_42 (dk_at dksX5_shone_1 4 rfl rfl)
theorem dX5_shone_27 : decode cX5_shone 27 = .ok (.getfield 342, 3) := dk_180 1 86 (dk_at dksX5_shone_1 5 rfl rfl)
theorem dX5_shone_30 : decode cX5_shone 30 = .ok (.bipush 12, 2) := dk_16 12 (dk_at dksX5_shone_1 8 rfl rfl)
theorem dX5_shone_32 : decode cX5_shone 32 = .ok (.if_icmp .eq 14, 3) := dk_159 0 14 (dk_at dksX5_shone_1 10 rfl rfl)
theorem dX5_shone_35 : decode cX5_shone 35 = .ok (.iload_n 3, 1) := dk_29 (dk_at dksX5_shone_1 13 rfl rfl)
theorem dX5_shone_36 : decode cX5_shone 36 = .ok (.iconst 0, 1) := dk_3 (dk_at dksX5_shone_1 14 rfl rfl)
theorem dX5_shone_37 : decode cX5_shone 37 = .ok (.sipush 255, 3) := dk_17 0 255 (dk_at dksX5_shone_1 15 rfl rfl)
theorem dX5_shone_40 : decode cX5_shone 40 = .ok (.invokestatic 197, 3) := dk_184 0 197 (dk_at dksX5_shone_1 18 rfl rfl)
theorem dX5_shone_43 : decode cX5_shone 43 = .ok (.ifCond .ne 15, 3) := dk_154 0 15 (dk_at dksX5_shone_1 21 rfl rfl)
theorem dX5_shone_46 : decode cX5_shone 46 = .ok (.aload_n 0, 1) := dk_42 (dk_at dksX5_shone_2 0 rfl rfl)
theorem dX5_shone_47 : decode cX5_shone 47 = .ok (.getfield 103, 3) := dk_180 0 103 (dk_at dksX5_shone_2 1 rfl rfl)
theorem dX5_shone_50 : decode cX5_shone 50 = .ok (.iconst 2, 1) := dk_5 (dk_at dksX5_shone_2 4 rfl rfl)
theorem dX5_shone_51 : decode cX5_shone 51 = .ok (.dup2, 1) := dk_92 (dk_at dksX5_shone_2 5 rfl rfl)
theorem dX5_shone_52 : decode cX5_shone 52 = .ok (.iaload, 1) := dk_46 (dk_at dksX5_shone_2 6 rfl rfl)
theorem dX5_shone_53 : decode cX5_shone 53 = .ok (.iconst 1, 1) := dk_4 (dk_at dksX5_shone_2 7 rfl rfl)
theorem dX5_shone_54 : decode cX5_shone 54 = .ok (.iadd, 1) := dk_96 (dk_at dksX5_shone_2 8 rfl rfl)
theorem dX5_shone_55 : decode cX5_shone 55 = .ok (.iastore, 1) := dk_79 (dk_at dksX5_shone_2 9 rfl rfl)
theorem dX5_shone_56 : decode cX5_shone 56 = .ok (.iconst (-1), 1) := dk_2 (dk_at dksX5_shone_2 10 rfl rfl)
theorem dX5_shone_57 : decode cX5_shone 57 = .ok (.ireturn, 1) := dk_172 (dk_at dksX5_shone_2 11 rfl rfl)
theorem dX5_shone_58 : decode cX5_shone 58 = .ok (.aload_n 0, 1) := dk_42 (dk_at dksX5_shone_2 12 rfl rfl)
theorem dX5_shone_59 : decode cX5_shone 59 = .ok (.getfield 158, 3) := dk_180 0 158 (dk_at dksX5_shone_2 13 rfl rfl)
theorem dX5_shone_62 : decode cX5_shone 62 = .ok (.aload_n 0, 1) := dk_42 (dk_at dksX5_shone_2 16 rfl rfl)
theorem dX5_shone_63 : decode cX5_shone 63 = .ok (.getfield 342, 3) := dk_180 1 86 (dk_at dksX5_shone_2 17 rfl rfl)
theorem dX5_shone_66 : decode cX5_shone 66 = .ok (.iload_n 1, 1) := dk_27 (dk_at dksX5_shone_2 20 rfl rfl)
theorem dX5_shone_67 : decode cX5_shone 67 = .ok (.iastore, 1) := dk_79 (dk_at dksX5_shone_2 21 rfl rfl)
theorem dX5_shone_68 : decode cX5_shone 68 = .ok (.aload_n 0, 1) := dk_42 (dk_at dksX5_shone_2 22 rfl rfl)
theorem dX5_shone_69 : decode cX5_shone 69 = .ok (.getfield 161, 3) := dk_180 0 161 (dk_at dksX5_shone_3 0 rfl rfl)
theorem dX5_shone_72 : decode cX5_shone 72 = .ok (.aload_n 0, 1) := dk_42 (dk_at dksX5_shone_3 3 rfl rfl)
theorem dX5_shone_73 : decode cX5_shone 73 = .ok (.getfield 342, 3) := dk_180 1 86 (dk_at dksX5_shone_3 4 rfl rfl)
theorem dX5_shone_76 : decode cX5_shone 76 = .ok (.iload_n 2, 1) := dk_28 (dk_at dksX5_shone_3 7 rfl rfl)
theorem dX5_shone_77 : decode cX5_shone 77 = .ok (.iastore, 1) := dk_79 (dk_at dksX5_shone_3 8 rfl rfl)
theorem dX5_shone_78 : decode cX5_shone 78 = .ok (.aload_n 0, 1) := dk_42 (dk_at dksX5_shone_3 9 rfl rfl)
theorem dX5_shone_79 : decode cX5_shone 79 = .ok (.getfield 164, 3) := dk_180 0 164 (dk_at dksX5_shone_3 10 rfl rfl)
theorem dX5_shone_82 : decode cX5_shone 82 = .ok (.aload_n 0, 1) := dk_42 (dk_at dksX5_shone_3 13 rfl rfl)
theorem dX5_shone_83 : decode cX5_shone 83 = .ok (.getfield 342, 3) := dk_180 1 86 (dk_at dksX5_shone_3 14 rfl rfl)
theorem dX5_shone_86 : decode cX5_shone 86 = .ok (.iload_n 3, 1) := dk_29 (dk_at dksX5_shone_3 17 rfl rfl)
theorem dX5_shone_87 : decode cX5_shone 87 = .ok (.iastore, 1) := dk_79 (dk_at dksX5_shone_3 18 rfl rfl)
theorem dX5_shone_88 : decode cX5_shone 88 = .ok (.aload_n 0, 1) := dk_42 (dk_at dksX5_shone_3 19 rfl rfl)
theorem dX5_shone_89 : decode cX5_shone 89 = .ok (.dup, 1) := dk_89 (dk_at dksX5_shone_3 20 rfl rfl)
theorem dX5_shone_90 : decode cX5_shone 90 = .ok (.getfield 342, 3) := dk_180 1 86 (dk_at dksX5_shone_3 21 rfl rfl)
theorem dX5_shone_93 : decode cX5_shone 93 = .ok (.iconst 1, 1) := dk_4 (dk_at dksX5_shone_4 0 rfl rfl)
theorem dX5_shone_94 : decode cX5_shone 94 = .ok (.iadd, 1) := dk_96 (dk_at dksX5_shone_4 1 rfl rfl)
theorem dX5_shone_95 : decode cX5_shone 95 = .ok (.putfield 342, 3) := dk_181 1 86 (dk_at dksX5_shone_4 2 rfl rfl)
theorem dX5_shone_98 : decode cX5_shone 98 = .ok (.aload_n 0, 1) := dk_42 (dk_at dksX5_shone_4 5 rfl rfl)
theorem dX5_shone_99 : decode cX5_shone 99 = .ok (.getfield 342, 3) := dk_180 1 86 (dk_at dksX5_shone_4 6 rfl rfl)
theorem dX5_shone_102 : decode cX5_shone 102 = .ok (.ireturn, 1) := dk_172 (dk_at dksX5_shone_4 9 rfl rfl)
abbrev cX5_forget : ByteArray := prog_23_method_78_code
def yX5_forget : MethodName := ⟨RX5, "forget", "()I"⟩
def dkwX5_forget_1 : List UInt8 := [42, 180, 1, 86, 172]
abbrev dktX5_forget_1 : List UInt8 := dkwX5_forget_1 ++ []
def dkwX5_forget_0 : List UInt8 := [42, 3, 181, 0, 194, 42, 180, 1, 86, 154, 0, 5, 2, 172, 42, 89, 180, 1, 86, 4, 100, 181, 1, 86]
abbrev dktX5_forget_0 : List UInt8 := dkwX5_forget_0 ++ dktX5_forget_1
theorem dksX5_forget_0 : cX5_forget.data.toList.drop 0 = dktX5_forget_0 := by decide +kernel
theorem dksX5_forget_1 : cX5_forget.data.toList.drop 24 = dktX5_forget_1 := dk_seg dksX5_forget_0 24 rfl rfl
theorem dX5_forget_0 : decode cX5_forget 0 = .ok (.aload_n 0, 1) := dk_42 (dk_at dksX5_forget_0 0 rfl rfl)
theorem dX5_forget_1 : decode cX5_forget 1 = .ok (.iconst 0, 1) := dk_3 (dk_at dksX5_forget_0 1 rfl rfl)
theorem dX5_forget_2 : decode cX5_forget 2 = .ok (.putfield 194, 3) := dk_181 0 194 (dk_at dksX5_forget_0 2 rfl rfl)
theorem dX5_forget_5 : decode cX5_forget 5 = .ok (.aload_n 0, 1) := dk_42 (dk_at dksX5_forget_0 5 rfl rfl)
theorem dX5_forget_6 : decode cX5_forget 6 = .ok (.getfield 342, 3) := dk_180 1 86 (dk_at dksX5_forget_0 6 rfl rfl)
theorem dX5_forget_9 : decode cX5_forget 9 = .ok (.ifCond .ne 5, 3) := dk_154 0 5 (dk_at dksX5_forget_0 9 rfl rfl)
theorem dX5_forget_12 : decode cX5_forget 12 = .ok (.iconst (-1), 1) := dk_2 (dk_at dksX5_forget_0 12 rfl rfl)
theorem dX5_forget_13 : decode cX5_forget 13 = .ok (.ireturn, 1) := dk_172 (dk_at dksX5_forget_0 13 rfl rfl)
theorem dX5_forget_14 : decode cX5_forget 14 = .ok (.aload_n 0, 1) := dk_42 (dk_at dksX5_forget_0 14 rfl rfl)
theorem dX5_forget_15 : decode cX5_forget 15 = .ok (.dup, 1) := dk_89 (dk_at dksX5_forget_0 15 rfl rfl)
theorem dX5_forget_16 : decode cX5_forget 16 = .ok (.getfield 342, 3) := dk_180 1 86 (dk_at dksX5_forget_0 16 rfl rfl)
theorem dX5_forget_19 : decode cX5_forget 19 = .ok (.iconst 1, 1) := dk_4 (dk_at dksX5_forget_0 19 rfl rfl)
theorem dX5_forget_20 : decode cX5_forget 20 = .ok (.isub, 1) := dk_100 (dk_at dksX5_forget_0 20 rfl rfl)
theorem dX5_forget_21 : decode cX5_forget 21 = .ok (.putfield 342, 3) := dk_181 1 86 (dk_at dksX5_forget_0 21 rfl rfl)
theorem dX5_forget_24 : decode cX5_forget 24 = .ok (.aload_n 0, 1) := dk_42 (dk_at dksX5_forget_1 0 rfl rfl)
theorem dX5_forget_25 : decode cX5_forget 25 = .ok (.getfield 342, 3) := dk_180 1 86 (dk_at dksX5_forget_1 1 rfl rfl)
theorem dX5_forget_28 : decode cX5_forget 28 = .ok (.ireturn, 1) := dk_172 (dk_at dksX5_forget_1 4 rfl rfl)
abbrev cX5_where : ByteArray := prog_23_method_81_code
def yX5_where : MethodName := ⟨RX5, "where", "(I)I"⟩
def dkwX5_where_5 : List UInt8 := [42, 180, 0, 170, 27, 46, 172]
abbrev dktX5_where_5 : List UInt8 := dkwX5_where_5 ++ []
def dkwX5_where_4 : List UInt8 := [180, 0, 167, 28, 46, 79, 132, 2, 1, 167, 255, 235, 27, 2, 160, 0, 10, 42, 180, 1, 195, 167, 0, 9]
abbrev dktX5_where_4 : List UInt8 := dkwX5_where_4 ++ dktX5_where_5
def dkwX5_where_3 : List UInt8 := [42, 3, 181, 1, 195, 42, 3, 182, 1, 198, 3, 61, 28, 16, 6, 162, 0, 21, 42, 180, 0, 67, 28, 42]
abbrev dktX5_where_3 : List UInt8 := dkwX5_where_3 ++ dktX5_where_4
def dkwX5_where_2 : List UInt8 := [180, 0, 167, 28, 42, 180, 0, 67, 28, 46, 79, 42, 180, 0, 170, 28, 3, 79, 132, 2, 1, 167, 255, 228]
abbrev dktX5_where_2 : List UInt8 := dkwX5_where_2 ++ dktX5_where_3
def dkwX5_where_1 : List UInt8 := [42, 182, 1, 201, 153, 0, 6, 16, 254, 172, 42, 182, 1, 136, 3, 61, 28, 16, 6, 162, 0, 28, 42]
abbrev dktX5_where_1 : List UInt8 := dkwX5_where_1 ++ dktX5_where_2
def dkwX5_where_0 : List UInt8 := [42, 3, 181, 0, 194, 27, 2, 159, 0, 17, 42, 27, 182, 1, 123, 154, 0, 9, 42, 4, 182, 1, 67, 172]
abbrev dktX5_where_0 : List UInt8 := dkwX5_where_0 ++ dktX5_where_1
theorem dksX5_where_0 : cX5_where.data.toList.drop 0 = dktX5_where_0 := by decide +kernel
theorem dksX5_where_1 : cX5_where.data.toList.drop 24 = dktX5_where_1 := dk_seg dksX5_where_0 24 rfl rfl
theorem dksX5_where_2 : cX5_where.data.toList.drop 47 = dktX5_where_2 := dk_seg dksX5_where_1 23 rfl rfl
theorem dksX5_where_3 : cX5_where.data.toList.drop 71 = dktX5_where_3 := dk_seg dksX5_where_2 24 rfl rfl
theorem dksX5_where_4 : cX5_where.data.toList.drop 95 = dktX5_where_4 := dk_seg dksX5_where_3 24 rfl rfl
theorem dksX5_where_5 : cX5_where.data.toList.drop 119 = dktX5_where_5 := dk_seg dksX5_where_4 24 rfl rfl
theorem dX5_where_0 : decode cX5_where 0 = .ok (.aload_n 0, 1) := dk_42 (dk_at dksX5_where_0 0 rfl rfl)
theorem dX5_where_1 : decode cX5_where 1 = .ok (.iconst 0, 1) := dk_3 (dk_at dksX5_where_0 1 rfl rfl)
theorem dX5_where_2 : decode cX5_where 2 = .ok (.putfield 194, 3) := dk_181 0 194 (dk_at dksX5_where_0 2 rfl rfl)
theorem dX5_where_5 : decode cX5_where 5 = .ok (.iload_n 1, 1) := dk_27 (dk_at dksX5_where_0 5 rfl rfl)
theorem dX5_where_6 : decode cX5_where 6 = .ok (.iconst (-1), 1) := dk_2 (dk_at dksX5_where_0 6 rfl rfl)
theorem dX5_where_7 : decode cX5_where 7 = .ok (.if_icmp .eq 17, 3) := dk_159 0 17 (dk_at dksX5_where_0 7 rfl rfl)
theorem dX5_where_10 : decode cX5_where 10 = .ok (.aload_n 0, 1) := dk_42 (dk_at dksX5_where_0 10 rfl rfl)
theorem dX5_where_11 : decode cX5_where 11 = .ok (.iload_n 1, 1) := dk_27 (dk_at dksX5_where_0 11 rfl rfl)
theorem dX5_where_12 : decode cX5_where 12 = .ok (.invokevirtual 379, 3) := dk_182 1 123 (dk_at dksX5_where_0 12 rfl rfl)
theorem dX5_where_15 : decode cX5_where 15 = .ok (.ifCond .ne 9, 3) := dk_154 0 9 (dk_at dksX5_where_0 15 rfl rfl)
theorem dX5_where_18 : decode cX5_where 18 = .ok (.aload_n 0, 1) := dk_42 (dk_at dksX5_where_0 18 rfl rfl)
theorem dX5_where_19 : decode cX5_where 19 = .ok (.iconst 1, 1) := dk_4 (dk_at dksX5_where_0 19 rfl rfl)
theorem dX5_where_20 : decode cX5_where 20 = .ok (.invokevirtual 323, 3) := dk_182 1 67 (dk_at dksX5_where_0 20 rfl rfl)
theorem dX5_where_23 : decode cX5_where 23 = .ok (.ireturn, 1) := dk_172 (dk_at dksX5_where_0 23 rfl rfl)
theorem dX5_where_24 : decode cX5_where 24 = .ok (.aload_n 0, 1) := dk_42 (dk_at dksX5_where_1 0 rfl rfl)
theorem dX5_where_25 : decode cX5_where 25 = .ok (.invokevirtual 457, 3) := dk_182 1 201 (dk_at dksX5_where_1 1 rfl rfl)
theorem dX5_where_28 : decode cX5_where 28 = .ok (.ifCond .eq 6, 3) := dk_153 0 6 (dk_at dksX5_where_1 4 rfl rfl)
theorem dX5_where_31 : decode cX5_where 31 = .ok (.bipush (-2), 2) := dk_16 254 (dk_at dksX5_where_1 7 rfl rfl)
theorem dX5_where_33 : decode cX5_where 33 = .ok (.ireturn, 1) := dk_172 (dk_at dksX5_where_1 9 rfl rfl)
theorem dX5_where_34 : decode cX5_where 34 = .ok (.aload_n 0, 1) := dk_42 (dk_at dksX5_where_1 10 rfl rfl)
theorem dX5_where_35 : decode cX5_where 35 = .ok (.invokevirtual 392, 3) := dk_182 1 136 (dk_at dksX5_where_1 11 rfl rfl)
theorem dX5_where_38 : decode cX5_where 38 = .ok (.iconst 0, 1) := dk_3 (dk_at dksX5_where_1 14 rfl rfl)
theorem dX5_where_39 : decode cX5_where 39 = .ok (.istore_n 2, 1) := dk_61 (dk_at dksX5_where_1 15 rfl rfl)
theorem dX5_where_40 : decode cX5_where 40 = .ok (.iload_n 2, 1) := dk_28 (dk_at dksX5_where_1 16 rfl rfl)
theorem dX5_where_41 : decode cX5_where 41 = .ok (.bipush 6, 2) := dk_16 6 (dk_at dksX5_where_1 17 rfl rfl)
theorem dX5_where_43 : decode cX5_where 43 = .ok (.if_icmp .ge 28, 3) := dk_162 0 28 (dk_at dksX5_where_1 19 rfl rfl)
theorem dX5_where_46 : decode cX5_where 46 = .ok (.aload_n 0, 1) := dk_42 (dk_at dksX5_where_1 22 rfl rfl)
theorem dX5_where_47 : decode cX5_where 47 = .ok (.getfield 167, 3) := dk_180 0 167 (dk_at dksX5_where_2 0 rfl rfl)
theorem dX5_where_50 : decode cX5_where 50 = .ok (.iload_n 2, 1) := dk_28 (dk_at dksX5_where_2 3 rfl rfl)
theorem dX5_where_51 : decode cX5_where 51 = .ok (.aload_n 0, 1) := dk_42 (dk_at dksX5_where_2 4 rfl rfl)
theorem dX5_where_52 : decode cX5_where 52 = .ok (.getfield 67, 3) := dk_180 0 67 (dk_at dksX5_where_2 5 rfl rfl)
theorem dX5_where_55 : decode cX5_where 55 = .ok (.iload_n 2, 1) := dk_28 (dk_at dksX5_where_2 8 rfl rfl)
theorem dX5_where_56 : decode cX5_where 56 = .ok (.iaload, 1) := dk_46 (dk_at dksX5_where_2 9 rfl rfl)
theorem dX5_where_57 : decode cX5_where 57 = .ok (.iastore, 1) := dk_79 (dk_at dksX5_where_2 10 rfl rfl)
theorem dX5_where_58 : decode cX5_where 58 = .ok (.aload_n 0, 1) := dk_42 (dk_at dksX5_where_2 11 rfl rfl)
theorem dX5_where_59 : decode cX5_where 59 = .ok (.getfield 170, 3) := dk_180 0 170 (dk_at dksX5_where_2 12 rfl rfl)
theorem dX5_where_62 : decode cX5_where 62 = .ok (.iload_n 2, 1) := dk_28 (dk_at dksX5_where_2 15 rfl rfl)
theorem dX5_where_63 : decode cX5_where 63 = .ok (.iconst 0, 1) := dk_3 (dk_at dksX5_where_2 16 rfl rfl)
theorem dX5_where_64 : decode cX5_where 64 = .ok (.iastore, 1) := dk_79 (dk_at dksX5_where_2 17 rfl rfl)
theorem dX5_where_65 : decode cX5_where 65 = .ok (.iinc 2 1, 3) := dk_132 2 1 (dk_at dksX5_where_2 18 rfl rfl)
theorem dX5_where_68 : decode cX5_where 68 = .ok (.goto (-28), 3) := dk_167 255 228 (dk_at dksX5_where_2 21 rfl rfl)
theorem dX5_where_71 : decode cX5_where 71 = .ok (.aload_n 0, 1) := dk_42 (dk_at dksX5_where_3 0 rfl rfl)
theorem dX5_where_72 : decode cX5_where 72 = .ok (.iconst 0, 1) := dk_3 (dk_at dksX5_where_3 1 rfl rfl)
theorem dX5_where_73 : decode cX5_where 73 = .ok (.putfield 451, 3) := dk_181 1 195 (dk_at dksX5_where_3 2 rfl rfl)
theorem dX5_where_76 : decode cX5_where 76 = .ok (.aload_n 0, 1) := dk_42 (dk_at dksX5_where_3 5 rfl rfl)
theorem dX5_where_77 : decode cX5_where 77 = .ok (.iconst 0, 1) := dk_3 (dk_at dksX5_where_3 6 rfl rfl)
theorem dX5_where_78 : decode cX5_where 78 = .ok (.invokevirtual 454, 3) := dk_182 1 198 (dk_at dksX5_where_3 7 rfl rfl)
theorem dX5_where_81 : decode cX5_where 81 = .ok (.iconst 0, 1) := dk_3 (dk_at dksX5_where_3 10 rfl rfl)
theorem dX5_where_82 : decode cX5_where 82 = .ok (.istore_n 2, 1) := dk_61 (dk_at dksX5_where_3 11 rfl rfl)
theorem dX5_where_83 : decode cX5_where 83 = .ok (.iload_n 2, 1) := dk_28 (dk_at dksX5_where_3 12 rfl rfl)
theorem dX5_where_84 : decode cX5_where 84 = .ok (.bipush 6, 2) := dk_16 6 (dk_at dksX5_where_3 13 rfl rfl)
theorem dX5_where_86 : decode cX5_where 86 = .ok (.if_icmp .ge 21, 3) := dk_162 0 21 (dk_at dksX5_where_3 15 rfl rfl)
theorem dX5_where_89 : decode cX5_where 89 = .ok (.aload_n 0, 1) := dk_42 (dk_at dksX5_where_3 18 rfl rfl)
theorem dX5_where_90 : decode cX5_where 90 = .ok (.getfield 67, 3) := dk_180 0 67 (dk_at dksX5_where_3 19 rfl rfl)
theorem dX5_where_93 : decode cX5_where 93 = .ok (.iload_n 2, 1) := dk_28 (dk_at dksX5_where_3 22 rfl rfl)
theorem dX5_where_94 : decode cX5_where 94 = .ok (.aload_n 0, 1) := dk_42 (dk_at dksX5_where_3 23 rfl rfl)
theorem dX5_where_95 : decode cX5_where 95 = .ok (.getfield 167, 3) := dk_180 0 167 (dk_at dksX5_where_4 0 rfl rfl)
theorem dX5_where_98 : decode cX5_where 98 = .ok (.iload_n 2, 1) := dk_28 (dk_at dksX5_where_4 3 rfl rfl)
theorem dX5_where_99 : decode cX5_where 99 = .ok (.iaload, 1) := dk_46 (dk_at dksX5_where_4 4 rfl rfl)
theorem dX5_where_100 : decode cX5_where 100 = .ok (.iastore, 1) := dk_79 (dk_at dksX5_where_4 5 rfl rfl)
theorem dX5_where_101 : decode cX5_where 101 = .ok (.iinc 2 1, 3) := dk_132 2 1 (dk_at dksX5_where_4 6 rfl rfl)
theorem dX5_where_104 : decode cX5_where 104 = .ok (.goto (-21), 3) := dk_167 255 235 (dk_at dksX5_where_4 9 rfl rfl)
theorem dX5_where_107 : decode cX5_where 107 = .ok (.iload_n 1, 1) := dk_27 (dk_at dksX5_where_4 12 rfl rfl)
theorem dX5_where_108 : decode cX5_where 108 = .ok (.iconst (-1), 1) := dk_2 (dk_at dksX5_where_4 13 rfl rfl)
theorem dX5_where_109 : decode cX5_where 109 = .ok (.if_icmp .ne 10, 3) := dk_160 0 10 (dk_at dksX5_where_4 14 rfl rfl)
theorem dX5_where_112 : decode cX5_where 112 = .ok (.aload_n 0, 1) := dk_42 (dk_at dksX5_where_4 17 rfl rfl)
theorem dX5_where_113 : decode cX5_where 113 = .ok (.getfield 451, 3) := dk_180 1 195 (dk_at dksX5_where_4 18 rfl rfl)
theorem dX5_where_116 : decode cX5_where 116 = .ok (.goto 9, 3) := dk_167 0 9 (dk_at dksX5_where_4 21 rfl rfl)
theorem dX5_where_119 : decode cX5_where 119 = .ok (.aload_n 0, 1) := dk_42 (dk_at dksX5_where_5 0 rfl rfl)
theorem dX5_where_120 : decode cX5_where 120 = .ok (.getfield 170, 3) := dk_180 0 170 (dk_at dksX5_where_5 1 rfl rfl)
theorem dX5_where_123 : decode cX5_where 123 = .ok (.iload_n 1, 1) := dk_27 (dk_at dksX5_where_5 4 rfl rfl)
theorem dX5_where_124 : decode cX5_where 124 = .ok (.iaload, 1) := dk_46 (dk_at dksX5_where_5 5 rfl rfl)
theorem dX5_where_125 : decode cX5_where 125 = .ok (.ireturn, 1) := dk_172 (dk_at dksX5_where_5 6 rfl rfl)
abbrev cX5_isSpent : ByteArray := prog_23_method_80_code
def yX5_isSpent : MethodName := ⟨RX5, "isSpent", "()Z"⟩
def dkwX5_isSpent_2 : List UInt8 := [3, 172]
abbrev dktX5_isSpent_2 : List UInt8 := dkwX5_isSpent_2 ++ []
def dkwX5_isSpent_1 : List UInt8 := [180, 0, 45, 3, 46, 104, 60, 132, 2, 1, 167, 255, 227, 27, 17, 31, 64, 164, 0, 7, 4, 167, 0, 4]
abbrev dktX5_isSpent_1 : List UInt8 := dkwX5_isSpent_1 ++ dktX5_isSpent_2
def dkwX5_isSpent_0 : List UInt8 := [4, 60, 3, 61, 28, 42, 180, 0, 45, 4, 46, 162, 0, 25, 27, 17, 31, 64, 163, 0, 18, 27, 42]
abbrev dktX5_isSpent_0 : List UInt8 := dkwX5_isSpent_0 ++ dktX5_isSpent_1
theorem dksX5_isSpent_0 : cX5_isSpent.data.toList.drop 0 = dktX5_isSpent_0 := by decide +kernel
theorem dksX5_isSpent_1 : cX5_isSpent.data.toList.drop 23 = dktX5_isSpent_1 := dk_seg dksX5_isSpent_0 23 rfl rfl
theorem dksX5_isSpent_2 : cX5_isSpent.data.toList.drop 47 = dktX5_isSpent_2 := dk_seg dksX5_isSpent_1 24 rfl rfl
theorem dX5_isSpent_0 : decode cX5_isSpent 0 = .ok (.iconst 1, 1) := dk_4 (dk_at dksX5_isSpent_0 0 rfl rfl)
theorem dX5_isSpent_1 : decode cX5_isSpent 1 = .ok (.istore_n 1, 1) := dk_60 (dk_at dksX5_isSpent_0 1 rfl rfl)
theorem dX5_isSpent_2 : decode cX5_isSpent 2 = .ok (.iconst 0, 1) := dk_3 (dk_at dksX5_isSpent_0 2 rfl rfl)
theorem dX5_isSpent_3 : decode cX5_isSpent 3 = .ok (.istore_n 2, 1) := dk_61 (dk_at dksX5_isSpent_0 3 rfl rfl)
theorem dX5_isSpent_4 : decode cX5_isSpent 4 = .ok (.iload_n 2, 1) := dk_28 (dk_at dksX5_isSpent_0 4 rfl rfl)
theorem dX5_isSpent_5 : decode cX5_isSpent 5 = .ok (.aload_n 0, 1) := dk_42 (dk_at dksX5_isSpent_0 5 rfl rfl)
theorem dX5_isSpent_6 : decode cX5_isSpent 6 = .ok (.getfield 45, 3) := dk_180 0 45 (dk_at dksX5_isSpent_0 6 rfl rfl)
theorem dX5_isSpent_9 : decode cX5_isSpent 9 = .ok (.iconst 1, 1) := dk_4 (dk_at dksX5_isSpent_0 9 rfl rfl)
theorem dX5_isSpent_10 : decode cX5_isSpent 10 = .ok (.iaload, 1) := dk_46 (dk_at dksX5_isSpent_0 10 rfl rfl)
theorem dX5_isSpent_11 : decode cX5_isSpent 11 = .ok (.if_icmp .ge 25, 3) := dk_162 0 25 (dk_at dksX5_isSpent_0 11 rfl rfl)
theorem dX5_isSpent_14 : decode cX5_isSpent 14 = .ok (.iload_n 1, 1) := dk_27 (dk_at dksX5_isSpent_0 14 rfl rfl)
theorem dX5_isSpent_15 : decode cX5_isSpent 15 = .ok (.sipush 8000, 3) := dk_17 31 64 (dk_at dksX5_isSpent_0 15 rfl rfl)
theorem dX5_isSpent_18 : decode cX5_isSpent 18 = .ok (.if_icmp .gt 18, 3) := dk_163 0 18 (dk_at dksX5_isSpent_0 18 rfl rfl)
theorem dX5_isSpent_21 : decode cX5_isSpent 21 = .ok (.iload_n 1, 1) := dk_27 (dk_at dksX5_isSpent_0 21 rfl rfl)
theorem dX5_isSpent_22 : decode cX5_isSpent 22 = .ok (.aload_n 0, 1) := dk_42 (dk_at dksX5_isSpent_0 22 rfl rfl)
theorem dX5_isSpent_23 : decode cX5_isSpent 23 = .ok (.getfield 45, 3) := dk_180 0 45 (dk_at dksX5_isSpent_1 0 rfl rfl)
theorem dX5_isSpent_26 : decode cX5_isSpent 26 = .ok (.iconst 0, 1) := dk_3 (dk_at dksX5_isSpent_1 3 rfl rfl)
theorem dX5_isSpent_27 : decode cX5_isSpent 27 = .ok (.iaload, 1) := dk_46 (dk_at dksX5_isSpent_1 4 rfl rfl)
theorem dX5_isSpent_28 : decode cX5_isSpent 28 = .ok (.imul, 1) := dk_104 (dk_at dksX5_isSpent_1 5 rfl rfl)
theorem dX5_isSpent_29 : decode cX5_isSpent 29 = .ok (.istore_n 1, 1) := dk_60 (dk_at dksX5_isSpent_1 6 rfl rfl)
theorem dX5_isSpent_30 : decode cX5_isSpent 30 = .ok (.iinc 2 1, 3) := dk_132 2 1 (dk_at dksX5_isSpent_1 7 rfl rfl)
theorem dX5_isSpent_33 : decode cX5_isSpent 33 = .ok (.goto (-29), 3) := dk_167 255 227 (dk_at dksX5_isSpent_1 10 rfl rfl)
theorem dX5_isSpent_36 : decode cX5_isSpent 36 = .ok (.iload_n 1, 1) := dk_27 (dk_at dksX5_isSpent_1 13 rfl rfl)
theorem dX5_isSpent_37 : decode cX5_isSpent 37 = .ok (.sipush 8000, 3) := dk_17 31 64 (dk_at dksX5_isSpent_1 14 rfl rfl)
theorem dX5_isSpent_40 : decode cX5_isSpent 40 = .ok (.if_icmp .le 7, 3) := dk_164 0 7 (dk_at dksX5_isSpent_1 17 rfl rfl)
theorem dX5_isSpent_43 : decode cX5_isSpent 43 = .ok (.iconst 1, 1) := dk_4 (dk_at dksX5_isSpent_1 20 rfl rfl)
theorem dX5_isSpent_44 : decode cX5_isSpent 44 = .ok (.goto 4, 3) := dk_167 0 4 (dk_at dksX5_isSpent_1 21 rfl rfl)
theorem dX5_isSpent_47 : decode cX5_isSpent 47 = .ok (.iconst 0, 1) := dk_3 (dk_at dksX5_isSpent_2 0 rfl rfl)
theorem dX5_isSpent_48 : decode cX5_isSpent 48 = .ok (.ireturn, 1) := dk_172 (dk_at dksX5_isSpent_2 1 rfl rfl)
abbrev cX5_placeOn : ByteArray := prog_23_method_79_code
def yX5_placeOn : MethodName := ⟨RX5, "placeOn", "(I)V"⟩
def dkwX5_placeOn_5 : List UInt8 := [182, 1, 198, 132, 2, 1, 167, 255, 229, 177]
abbrev dktX5_placeOn_5 : List UInt8 := dkwX5_placeOn_5 ++ []
def dkwX5_placeOn_4 : List UInt8 := [61, 28, 42, 180, 0, 45, 3, 46, 162, 0, 23, 42, 180, 0, 67, 27, 28, 79, 42, 27, 4, 96]
abbrev dktX5_placeOn_4 : List UInt8 := dkwX5_placeOn_4 ++ dktX5_placeOn_5
def dkwX5_placeOn_3 : List UInt8 := [180, 0, 170, 28, 92, 46, 4, 42, 180, 0, 67, 28, 46, 120, 128, 79, 132, 2, 1, 167, 255, 231, 177, 3]
abbrev dktX5_placeOn_3 : List UInt8 := dkwX5_placeOn_3 ++ dktX5_placeOn_4
def dkwX5_placeOn_2 : List UInt8 := [132, 2, 1, 167, 255, 219, 42, 89, 180, 1, 195, 4, 96, 181, 1, 195, 3, 61, 28, 27, 162, 0, 26, 42]
abbrev dktX5_placeOn_2 : List UInt8 := dkwX5_placeOn_2 ++ dktX5_placeOn_3
def dkwX5_placeOn_1 : List UInt8 := [180, 0, 158, 28, 46, 42, 180, 0, 161, 28, 46, 182, 1, 108, 42, 180, 0, 164, 28, 46, 159, 0, 4, 177]
abbrev dktX5_placeOn_1 : List UInt8 := dkwX5_placeOn_1 ++ dktX5_placeOn_2
def dkwX5_placeOn_0 : List UInt8 := [27, 42, 180, 0, 45, 4, 46, 160, 0, 86, 3, 61, 28, 42, 180, 1, 86, 162, 0, 35, 42, 42]
abbrev dktX5_placeOn_0 : List UInt8 := dkwX5_placeOn_0 ++ dktX5_placeOn_1
theorem dksX5_placeOn_0 : cX5_placeOn.data.toList.drop 0 = dktX5_placeOn_0 := by decide +kernel
theorem dksX5_placeOn_1 : cX5_placeOn.data.toList.drop 22 = dktX5_placeOn_1 := dk_seg dksX5_placeOn_0 22 rfl rfl
theorem dksX5_placeOn_2 : cX5_placeOn.data.toList.drop 46 = dktX5_placeOn_2 := dk_seg dksX5_placeOn_1 24 rfl rfl
theorem dksX5_placeOn_3 : cX5_placeOn.data.toList.drop 70 = dktX5_placeOn_3 := dk_seg dksX5_placeOn_2 24 rfl rfl
theorem dksX5_placeOn_4 : cX5_placeOn.data.toList.drop 94 = dktX5_placeOn_4 := dk_seg dksX5_placeOn_3 24 rfl rfl
theorem dksX5_placeOn_5 : cX5_placeOn.data.toList.drop 116 = dktX5_placeOn_5 := dk_seg dksX5_placeOn_4 22 rfl rfl
theorem dX5_placeOn_0 : decode cX5_placeOn 0 = .ok (.iload_n 1, 1) := dk_27 (dk_at dksX5_placeOn_0 0 rfl rfl)
theorem dX5_placeOn_1 : decode cX5_placeOn 1 = .ok (.aload_n 0, 1) := dk_42 (dk_at dksX5_placeOn_0 1 rfl rfl)
theorem dX5_placeOn_2 : decode cX5_placeOn 2 = .ok (.getfield 45, 3) := dk_180 0 45 (dk_at dksX5_placeOn_0 2 rfl rfl)
theorem dX5_placeOn_5 : decode cX5_placeOn 5 = .ok (.iconst 1, 1) := dk_4 (dk_at dksX5_placeOn_0 5 rfl rfl)
theorem dX5_placeOn_6 : decode cX5_placeOn 6 = .ok (.iaload, 1) := dk_46 (dk_at dksX5_placeOn_0 6 rfl rfl)
theorem dX5_placeOn_7 : decode cX5_placeOn 7 = .ok (.if_icmp .ne 86, 3) := dk_160 0 86 (dk_at dksX5_placeOn_0 7 rfl rfl)
theorem dX5_placeOn_10 : decode cX5_placeOn 10 = .ok (.iconst 0, 1) := dk_3 (dk_at dksX5_placeOn_0 10 rfl rfl)
theorem dX5_placeOn_11 : decode cX5_placeOn 11 = .ok (.istore_n 2, 1) := dk_61 (dk_at dksX5_placeOn_0 11 rfl rfl)
theorem dX5_placeOn_12 : decode cX5_placeOn 12 = .ok (.iload_n 2, 1) := dk_28 (dk_at dksX5_placeOn_0 12 rfl rfl)
theorem dX5_placeOn_13 : decode cX5_placeOn 13 = .ok (.aload_n 0, 1) := dk_42 (dk_at dksX5_placeOn_0 13 rfl rfl)
theorem dX5_placeOn_14 : decode cX5_placeOn 14 = .ok (.getfield 342, 3) := dk_180 1 86 (dk_at dksX5_placeOn_0 14 rfl rfl)
theorem dX5_placeOn_17 : decode cX5_placeOn 17 = .ok (.if_icmp .ge 35, 3) := dk_162 0 35 (dk_at dksX5_placeOn_0 17 rfl rfl)
theorem dX5_placeOn_20 : decode cX5_placeOn 20 = .ok (.aload_n 0, 1) := dk_42 (dk_at dksX5_placeOn_0 20 rfl rfl)
theorem dX5_placeOn_21 : decode cX5_placeOn 21 = .ok (.aload_n 0, 1) := dk_42 (dk_at dksX5_placeOn_0 21 rfl rfl)
theorem dX5_placeOn_22 : decode cX5_placeOn 22 = .ok (.getfield 158, 3) := dk_180 0 158 (dk_at dksX5_placeOn_1 0 rfl rfl)
theorem dX5_placeOn_25 : decode cX5_placeOn 25 = .ok (.iload_n 2, 1) := dk_28 (dk_at dksX5_placeOn_1 3 rfl rfl)
theorem dX5_placeOn_26 : decode cX5_placeOn 26 = .ok (.iaload, 1) := dk_46 (dk_at dksX5_placeOn_1 4 rfl rfl)
theorem dX5_placeOn_27 : decode cX5_placeOn 27 = .ok (.aload_n 0, 1) := dk_42 (dk_at dksX5_placeOn_1 5 rfl rfl)
theorem dX5_placeOn_28 : decode cX5_placeOn 28 = .ok (.getfield 161, 3) := dk_180 0 161 (dk_at dksX5_placeOn_1 6 rfl rfl)
theorem dX5_placeOn_31 : decode cX5_placeOn 31 = .ok (.iload_n 2, 1) := dk_28 (dk_at dksX5_placeOn_1 9 rfl rfl)
theorem dX5_placeOn_32 : decode cX5_placeOn 32 = .ok (.iaload, 1) := dk_46 (dk_at dksX5_placeOn_1 10 rfl rfl)
theorem dX5_placeOn_33 : decode cX5_placeOn 33 = .ok (.invokevirtual 364, 3) := dk_182 1 108 (dk_at dksX5_placeOn_1 11 rfl rfl)
theorem dX5_placeOn_36 : decode cX5_placeOn 36 = .ok (.aload_n 0, 1) := dk_42 (dk_at dksX5_placeOn_1 14 rfl rfl)
theorem dX5_placeOn_37 : decode cX5_placeOn 37 = .ok (.getfield 164, 3) := dk_180 0 164 (dk_at dksX5_placeOn_1 15 rfl rfl)
theorem dX5_placeOn_40 : decode cX5_placeOn 40 = .ok (.iload_n 2, 1) := dk_28 (dk_at dksX5_placeOn_1 18 rfl rfl)
theorem dX5_placeOn_41 : decode cX5_placeOn 41 = .ok (.iaload, 1) := dk_46 (dk_at dksX5_placeOn_1 19 rfl rfl)
theorem dX5_placeOn_42 : decode cX5_placeOn 42 = .ok (.if_icmp .eq 4, 3) := dk_159 0 4 (dk_at dksX5_placeOn_1 20 rfl rfl)
theorem dX5_placeOn_45 : decode cX5_placeOn 45 = .ok (.return_, 1) := dk_177 (dk_at dksX5_placeOn_1 23 rfl rfl)
theorem dX5_placeOn_46 : decode cX5_placeOn 46 = .ok (.iinc 2 1, 3) := dk_132 2 1 (dk_at dksX5_placeOn_2 0 rfl rfl)
theorem dX5_placeOn_49 : decode cX5_placeOn 49 = .ok (.goto (-37), 3) := dk_167 255 219 (dk_at dksX5_placeOn_2 3 rfl rfl)
theorem dX5_placeOn_52 : decode cX5_placeOn 52 = .ok (.aload_n 0, 1) := dk_42 (dk_at dksX5_placeOn_2 6 rfl rfl)
theorem dX5_placeOn_53 : decode cX5_placeOn 53 = .ok (.dup, 1) := dk_89 (dk_at dksX5_placeOn_2 7 rfl rfl)
theorem dX5_placeOn_54 : decode cX5_placeOn 54 = .ok (.getfield 451, 3) := dk_180 1 195 (dk_at dksX5_placeOn_2 8 rfl rfl)
theorem dX5_placeOn_57 : decode cX5_placeOn 57 = .ok (.iconst 1, 1) := dk_4 (dk_at dksX5_placeOn_2 11 rfl rfl)
theorem dX5_placeOn_58 : decode cX5_placeOn 58 = .ok (.iadd, 1) := dk_96 (dk_at dksX5_placeOn_2 12 rfl rfl)
theorem dX5_placeOn_59 : decode cX5_placeOn 59 = .ok (.putfield 451, 3) := dk_181 1 195 (dk_at dksX5_placeOn_2 13 rfl rfl)
theorem dX5_placeOn_62 : decode cX5_placeOn 62 = .ok (.iconst 0, 1) := dk_3 (dk_at dksX5_placeOn_2 16 rfl rfl)
theorem dX5_placeOn_63 : decode cX5_placeOn 63 = .ok (.istore_n 2, 1) := dk_61 (dk_at dksX5_placeOn_2 17 rfl rfl)
theorem dX5_placeOn_64 : decode cX5_placeOn 64 = .ok (.iload_n 2, 1) := dk_28 (dk_at dksX5_placeOn_2 18 rfl rfl)
theorem dX5_placeOn_65 : decode cX5_placeOn 65 = .ok (.iload_n 1, 1) := dk_27 (dk_at dksX5_placeOn_2 19 rfl rfl)
theorem dX5_placeOn_66 : decode cX5_placeOn 66 = .ok (.if_icmp .ge 26, 3) := dk_162 0 26 (dk_at dksX5_placeOn_2 20 rfl rfl)
theorem dX5_placeOn_69 : decode cX5_placeOn 69 = .ok (.aload_n 0, 1) := dk_42 (dk_at dksX5_placeOn_2 23 rfl rfl)
theorem dX5_placeOn_70 : decode cX5_placeOn 70 = .ok (.getfield 170, 3) := dk_180 0 170 (dk_at dksX5_placeOn_3 0 rfl rfl)
theorem dX5_placeOn_73 : decode cX5_placeOn 73 = .ok (.iload_n 2, 1) := dk_28 (dk_at dksX5_placeOn_3 3 rfl rfl)
theorem dX5_placeOn_74 : decode cX5_placeOn 74 = .ok (.dup2, 1) := dk_92 (dk_at dksX5_placeOn_3 4 rfl rfl)
theorem dX5_placeOn_75 : decode cX5_placeOn 75 = .ok (.iaload, 1) := dk_46 (dk_at dksX5_placeOn_3 5 rfl rfl)
theorem dX5_placeOn_76 : decode cX5_placeOn 76 = .ok (.iconst 1, 1) := dk_4 (dk_at dksX5_placeOn_3 6 rfl rfl)
theorem dX5_placeOn_77 : decode cX5_placeOn 77 = .ok (.aload_n 0, 1) := dk_42 (dk_at dksX5_placeOn_3 7 rfl rfl)
theorem dX5_placeOn_78 : decode cX5_placeOn 78 = .ok (.getfield 67, 3) := dk_180 0 67 (dk_at dksX5_placeOn_3 8 rfl rfl)
theorem dX5_placeOn_81 : decode cX5_placeOn 81 = .ok (.iload_n 2, 1) := dk_28 (dk_at dksX5_placeOn_3 11 rfl rfl)
theorem dX5_placeOn_82 : decode cX5_placeOn 82 = .ok (.iaload, 1) := dk_46 (dk_at dksX5_placeOn_3 12 rfl rfl)
theorem dX5_placeOn_83 : decode cX5_placeOn 83 = .ok (.ishl, 1) := dk_120 (dk_at dksX5_placeOn_3 13 rfl rfl)
theorem dX5_placeOn_84 : decode cX5_placeOn 84 = .ok (.ior, 1) := dk_128 (dk_at dksX5_placeOn_3 14 rfl rfl)
theorem dX5_placeOn_85 : decode cX5_placeOn 85 = .ok (.iastore, 1) := dk_79 (dk_at dksX5_placeOn_3 15 rfl rfl)
theorem dX5_placeOn_86 : decode cX5_placeOn 86 = .ok (.iinc 2 1, 3) := dk_132 2 1 (dk_at dksX5_placeOn_3 16 rfl rfl)
theorem dX5_placeOn_89 : decode cX5_placeOn 89 = .ok (.goto (-25), 3) := dk_167 255 231 (dk_at dksX5_placeOn_3 19 rfl rfl)
theorem dX5_placeOn_92 : decode cX5_placeOn 92 = .ok (.return_, 1) := dk_177 (dk_at dksX5_placeOn_3 22 rfl rfl)
theorem dX5_placeOn_93 : decode cX5_placeOn 93 = .ok (.iconst 0, 1) := dk_3 (dk_at dksX5_placeOn_3 23 rfl rfl)
theorem dX5_placeOn_94 : decode cX5_placeOn 94 = .ok (.istore_n 2, 1) := dk_61 (dk_at dksX5_placeOn_4 0 rfl rfl)
theorem dX5_placeOn_95 : decode cX5_placeOn 95 = .ok (.iload_n 2, 1) := dk_28 (dk_at dksX5_placeOn_4 1 rfl rfl)
theorem dX5_placeOn_96 : decode cX5_placeOn 96 = .ok (.aload_n 0, 1) := dk_42 (dk_at dksX5_placeOn_4 2 rfl rfl)
theorem dX5_placeOn_97 : decode cX5_placeOn 97 = .ok (.getfield 45, 3) := dk_180 0 45 (dk_at dksX5_placeOn_4 3 rfl rfl)
theorem dX5_placeOn_100 : decode cX5_placeOn 100 = .ok (.iconst 0, 1) := dk_3 (dk_at dksX5_placeOn_4 6 rfl rfl)
theorem dX5_placeOn_101 : decode cX5_placeOn 101 = .ok (.iaload, 1) := dk_46 (dk_at dksX5_placeOn_4 7 rfl rfl)
theorem dX5_placeOn_102 : decode cX5_placeOn 102 = .ok (.if_icmp .ge 23, 3) := dk_162 0 23 (dk_at dksX5_placeOn_4 8 rfl rfl)
theorem dX5_placeOn_105 : decode cX5_placeOn 105 = .ok (.aload_n 0, 1) := dk_42 (dk_at dksX5_placeOn_4 11 rfl rfl)
theorem dX5_placeOn_106 : decode cX5_placeOn 106 = .ok (.getfield 67, 3) := dk_180 0 67 (dk_at dksX5_placeOn_4 12 rfl rfl)
theorem dX5_placeOn_109 : decode cX5_placeOn 109 = .ok (.iload_n 1, 1) := dk_27 (dk_at dksX5_placeOn_4 15 rfl rfl)
theorem dX5_placeOn_110 : decode cX5_placeOn 110 = .ok (.iload_n 2, 1) := dk_28 (dk_at dksX5_placeOn_4 16 rfl rfl)
theorem dX5_placeOn_111 : decode cX5_placeOn 111 = .ok (.iastore, 1) := dk_79 (dk_at dksX5_placeOn_4 17 rfl rfl)
theorem dX5_placeOn_112 : decode cX5_placeOn 112 = .ok (.aload_n 0, 1) := dk_42 (dk_at dksX5_placeOn_4 18 rfl rfl)
theorem dX5_placeOn_113 : decode cX5_placeOn 113 = .ok (.iload_n 1, 1) := dk_27 (dk_at dksX5_placeOn_4 19 rfl rfl)
theorem dX5_placeOn_114 : decode cX5_placeOn 114 = .ok (.iconst 1, 1) := dk_4 (dk_at dksX5_placeOn_4 20 rfl rfl)
theorem dX5_placeOn_115 : decode cX5_placeOn 115 = .ok (.iadd, 1) := dk_96 (dk_at dksX5_placeOn_4 21 rfl rfl)
theorem dX5_placeOn_116 : decode cX5_placeOn 116 = .ok (.invokevirtual 454, 3) := dk_182 1 198 (dk_at dksX5_placeOn_5 0 rfl rfl)
theorem dX5_placeOn_119 : decode cX5_placeOn 119 = .ok (.iinc 2 1, 3) := dk_132 2 1 (dk_at dksX5_placeOn_5 3 rfl rfl)
theorem dX5_placeOn_122 : decode cX5_placeOn 122 = .ok (.goto (-27), 3) := dk_167 255 229 (dk_at dksX5_placeOn_5 6 rfl rfl)
theorem dX5_placeOn_125 : decode cX5_placeOn 125 = .ok (.return_, 1) := dk_177 (dk_at dksX5_placeOn_5 9 rfl rfl)
abbrev cX5_nights : ByteArray := prog_23_method_82_code
def yX5_nights : MethodName := ⟨RX5, "nights", "(III)I"⟩
def dkwX5_nights_8 : List UInt8 := [54, 7, 132, 8, 1, 167, 255, 147, 42, 21, 4, 181, 1, 84, 21, 7, 172]
abbrev dktX5_nights_8 : List UInt8 := dkwX5_nights_8 ++ []
def dkwX5_nights_7 : List UInt8 := [167, 255, 218, 42, 182, 1, 136, 21, 7, 42, 27, 182, 1, 158, 4, 160, 0, 7, 4, 167, 0, 4, 3, 96]
abbrev dktX5_nights_7 : List UInt8 := dkwX5_nights_7 ++ dktX5_nights_8
def dkwX5_nights_6 : List UInt8 := [21, 9, 42, 180, 0, 91, 42, 180, 1, 84, 46, 100, 54, 9, 42, 89, 180, 1, 84, 4, 96, 181, 1, 84]
abbrev dktX5_nights_6 : List UInt8 := dkwX5_nights_6 ++ dktX5_nights_7
def dkwX5_nights_5 : List UInt8 := [17, 127, 255, 126, 21, 5, 112, 54, 9, 21, 9, 42, 180, 0, 91, 42, 180, 1, 84, 46, 161, 0, 30]
abbrev dktX5_nights_5 : List UInt8 := dkwX5_nights_5 ++ dktX5_nights_6
def dkwX5_nights_4 : List UInt8 := [21, 5, 158, 0, 70, 21, 6, 19, 1, 205, 104, 17, 48, 57, 96, 54, 6, 21, 6, 16, 16, 122]
abbrev dktX5_nights_4 : List UInt8 := dkwX5_nights_4 ++ dktX5_nights_5
def dkwX5_nights_3 : List UInt8 := [167, 255, 234, 28, 54, 6, 3, 54, 7, 3, 54, 8, 21, 8, 29, 162, 0, 109, 42, 3, 181, 1, 84]
abbrev dktX5_nights_3 : List UInt8 := dkwX5_nights_3 ++ dktX5_nights_4
def dkwX5_nights_2 : List UInt8 := [21, 6, 16, 10, 162, 0, 21, 21, 5, 42, 180, 0, 91, 21, 6, 46, 96, 54, 5, 132, 6, 1]
abbrev dktX5_nights_2 : List UInt8 := dkwX5_nights_2 ++ dktX5_nights_3
def dkwX5_nights_1 : List UInt8 := [184, 0, 197, 154, 0, 9, 42, 5, 182, 1, 67, 172, 42, 180, 1, 84, 54, 4, 3, 54, 5, 3, 54, 6]
abbrev dktX5_nights_1 : List UInt8 := dkwX5_nights_1 ++ dktX5_nights_2
def dkwX5_nights_0 : List UInt8 := [42, 3, 181, 0, 194, 42, 27, 182, 1, 126, 154, 0, 9, 42, 4, 182, 1, 67, 172, 29, 3, 16, 60]
abbrev dktX5_nights_0 : List UInt8 := dkwX5_nights_0 ++ dktX5_nights_1
theorem dksX5_nights_0 : cX5_nights.data.toList.drop 0 = dktX5_nights_0 := by decide +kernel
theorem dksX5_nights_1 : cX5_nights.data.toList.drop 23 = dktX5_nights_1 := dk_seg dksX5_nights_0 23 rfl rfl
theorem dksX5_nights_2 : cX5_nights.data.toList.drop 47 = dktX5_nights_2 := dk_seg dksX5_nights_1 24 rfl rfl
theorem dksX5_nights_3 : cX5_nights.data.toList.drop 69 = dktX5_nights_3 := dk_seg dksX5_nights_2 22 rfl rfl
theorem dksX5_nights_4 : cX5_nights.data.toList.drop 92 = dktX5_nights_4 := dk_seg dksX5_nights_3 23 rfl rfl
theorem dksX5_nights_5 : cX5_nights.data.toList.drop 114 = dktX5_nights_5 := dk_seg dksX5_nights_4 22 rfl rfl
theorem dksX5_nights_6 : cX5_nights.data.toList.drop 137 = dktX5_nights_6 := dk_seg dksX5_nights_5 23 rfl rfl
theorem dksX5_nights_7 : cX5_nights.data.toList.drop 161 = dktX5_nights_7 := dk_seg dksX5_nights_6 24 rfl rfl
theorem dksX5_nights_8 : cX5_nights.data.toList.drop 185 = dktX5_nights_8 := dk_seg dksX5_nights_7 24 rfl rfl
theorem dX5_nights_0 : decode cX5_nights 0 = .ok (.aload_n 0, 1) := dk_42 (dk_at dksX5_nights_0 0 rfl rfl)
theorem dX5_nights_1 : decode cX5_nights 1 = .ok (.iconst 0, 1) := dk_3 (dk_at dksX5_nights_0 1 rfl rfl)
theorem dX5_nights_2 : decode cX5_nights 2 = .ok (.putfield 194, 3) := dk_181 0 194 (dk_at dksX5_nights_0 2 rfl rfl)
theorem dX5_nights_5 : decode cX5_nights 5 = .ok (.aload_n 0, 1) := dk_42 (dk_at dksX5_nights_0 5 rfl rfl)
theorem dX5_nights_6 : decode cX5_nights 6 = .ok (.iload_n 1, 1) := dk_27 (dk_at dksX5_nights_0 6 rfl rfl)
theorem dX5_nights_7 : decode cX5_nights 7 = .ok (.invokevirtual 382, 3) := dk_182 1 126 (dk_at dksX5_nights_0 7 rfl rfl)
theorem dX5_nights_10 : decode cX5_nights 10 = .ok (.ifCond .ne 9, 3) := dk_154 0 9 (dk_at dksX5_nights_0 10 rfl rfl)
theorem dX5_nights_13 : decode cX5_nights 13 = .ok (.aload_n 0, 1) := dk_42 (dk_at dksX5_nights_0 13 rfl rfl)
theorem dX5_nights_14 : decode cX5_nights 14 = .ok (.iconst 1, 1) := dk_4 (dk_at dksX5_nights_0 14 rfl rfl)
theorem dX5_nights_15 : decode cX5_nights 15 = .ok (.invokevirtual 323, 3) := dk_182 1 67 (dk_at dksX5_nights_0 15 rfl rfl)
theorem dX5_nights_18 : decode cX5_nights 18 = .ok (.ireturn, 1) := dk_172 (dk_at dksX5_nights_0 18 rfl rfl)
theorem dX5_nights_19 : decode cX5_nights 19 = .ok (.iload_n 3, 1) := dk_29 (dk_at dksX5_nights_0 19 rfl rfl)
theorem dX5_nights_20 : decode cX5_nights 20 = .ok (.iconst 0, 1) := dk_3 (dk_at dksX5_nights_0 20 rfl rfl)
theorem dX5_nights_21 : decode cX5_nights 21 = .ok (.bipush 60, 2) := dk_16 60 (dk_at dksX5_nights_0 21 rfl rfl)
theorem dX5_nights_23 : decode cX5_nights 23 = .ok (.invokestatic 197, 3) := dk_184 0 197 (dk_at dksX5_nights_1 0 rfl rfl)
theorem dX5_nights_26 : decode cX5_nights 26 = .ok (.ifCond .ne 9, 3) := dk_154 0 9 (dk_at dksX5_nights_1 3 rfl rfl)
theorem dX5_nights_29 : decode cX5_nights 29 = .ok (.aload_n 0, 1) := dk_42 (dk_at dksX5_nights_1 6 rfl rfl)
theorem dX5_nights_30 : decode cX5_nights 30 = .ok (.iconst 2, 1) := dk_5 (dk_at dksX5_nights_1 7 rfl rfl)
theorem dX5_nights_31 : decode cX5_nights 31 = .ok (.invokevirtual 323, 3) := dk_182 1 67 (dk_at dksX5_nights_1 8 rfl rfl)
theorem dX5_nights_34 : decode cX5_nights 34 = .ok (.ireturn, 1) := dk_172 (dk_at dksX5_nights_1 11 rfl rfl)
theorem dX5_nights_35 : decode cX5_nights 35 = .ok (.aload_n 0, 1) := dk_42 (dk_at dksX5_nights_1 12 rfl rfl)
theorem dX5_nights_36 : decode cX5_nights 36 = .ok (.getfield 340, 3) := dk_180 1 84 (dk_at dksX5_nights_1 13 rfl rfl)
theorem dX5_nights_39 : decode cX5_nights 39 = .ok (.istore 4, 2) := dk_54 4 (dk_at dksX5_nights_1 16 rfl rfl)
theorem dX5_nights_41 : decode cX5_nights 41 = .ok (.iconst 0, 1) := dk_3 (dk_at dksX5_nights_1 18 rfl rfl)
theorem dX5_nights_42 : decode cX5_nights 42 = .ok (.istore 5, 2) := dk_54 5 (dk_at dksX5_nights_1 19 rfl rfl)
theorem dX5_nights_44 : decode cX5_nights 44 = .ok (.iconst 0, 1) := dk_3 (dk_at dksX5_nights_1 21 rfl rfl)
theorem dX5_nights_45 : decode cX5_nights 45 = .ok (.istore 6, 2) := dk_54 6 (dk_at dksX5_nights_1 22 rfl rfl)
theorem dX5_nights_47 : decode cX5_nights 47 = .ok (.iload 6, 2) := dk_21 6 (dk_at dksX5_nights_2 0 rfl rfl)
theorem dX5_nights_49 : decode cX5_nights 49 = .ok (.bipush 10, 2) := dk_16 10 (dk_at dksX5_nights_2 2 rfl rfl)
theorem dX5_nights_51 : decode cX5_nights 51 = .ok (.if_icmp .ge 21, 3) := dk_162 0 21 (dk_at dksX5_nights_2 4 rfl rfl)
theorem dX5_nights_54 : decode cX5_nights 54 = .ok (.iload 5, 2) := dk_21 5 (dk_at dksX5_nights_2 7 rfl rfl)
theorem dX5_nights_56 : decode cX5_nights 56 = .ok (.aload_n 0, 1) := dk_42 (dk_at dksX5_nights_2 9 rfl rfl)
theorem dX5_nights_57 : decode cX5_nights 57 = .ok (.getfield 91, 3) := dk_180 0 91 (dk_at dksX5_nights_2 10 rfl rfl)
theorem dX5_nights_60 : decode cX5_nights 60 = .ok (.iload 6, 2) := dk_21 6 (dk_at dksX5_nights_2 13 rfl rfl)
theorem dX5_nights_62 : decode cX5_nights 62 = .ok (.iaload, 1) := dk_46 (dk_at dksX5_nights_2 15 rfl rfl)
theorem dX5_nights_63 : decode cX5_nights 63 = .ok (.iadd, 1) := dk_96 (dk_at dksX5_nights_2 16 rfl rfl)
theorem dX5_nights_64 : decode cX5_nights 64 = .ok (.istore 5, 2) := dk_54 5 (dk_at dksX5_nights_2 17 rfl rfl)
theorem dX5_nights_66 : decode cX5_nights 66 = .ok (.iinc 6 1, 3) := dk_132 6 1 (dk_at dksX5_nights_2 19 rfl rfl)
theorem dX5_nights_69 : decode cX5_nights 69 = .ok (.goto (-22), 3) := dk_167 255 234 (dk_at dksX5_nights_3 0 rfl rfl)
theorem dX5_nights_72 : decode cX5_nights 72 = .ok (.iload_n 2, 1) := dk_28 (dk_at dksX5_nights_3 3 rfl rfl)
theorem dX5_nights_73 : decode cX5_nights 73 = .ok (.istore 6, 2) := dk_54 6 (dk_at dksX5_nights_3 4 rfl rfl)
theorem dX5_nights_75 : decode cX5_nights 75 = .ok (.iconst 0, 1) := dk_3 (dk_at dksX5_nights_3 6 rfl rfl)
theorem dX5_nights_76 : decode cX5_nights 76 = .ok (.istore 7, 2) := dk_54 7 (dk_at dksX5_nights_3 7 rfl rfl)
theorem dX5_nights_78 : decode cX5_nights 78 = .ok (.iconst 0, 1) := dk_3 (dk_at dksX5_nights_3 9 rfl rfl)
theorem dX5_nights_79 : decode cX5_nights 79 = .ok (.istore 8, 2) := dk_54 8 (dk_at dksX5_nights_3 10 rfl rfl)
theorem dX5_nights_81 : decode cX5_nights 81 = .ok (.iload 8, 2) := dk_21 8 (dk_at dksX5_nights_3 12 rfl rfl)
theorem dX5_nights_83 : decode cX5_nights 83 = .ok (.iload_n 3, 1) := dk_29 (dk_at dksX5_nights_3 14 rfl rfl)
theorem dX5_nights_84 : decode cX5_nights 84 = .ok (.if_icmp .ge 109, 3) := dk_162 0 109 (dk_at dksX5_nights_3 15 rfl rfl)
theorem dX5_nights_87 : decode cX5_nights 87 = .ok (.aload_n 0, 1) := dk_42 (dk_at dksX5_nights_3 18 rfl rfl)
theorem dX5_nights_88 : decode cX5_nights 88 = .ok (.iconst 0, 1) := dk_3 (dk_at dksX5_nights_3 19 rfl rfl)
theorem dX5_nights_89 : decode cX5_nights 89 = .ok (.putfield 340, 3) := dk_181 1 84 (dk_at dksX5_nights_3 20 rfl rfl)
theorem dX5_nights_92 : decode cX5_nights 92 = .ok (.iload 5, 2) := dk_21 5 (dk_at dksX5_nights_4 0 rfl rfl)
theorem dX5_nights_94 : decode cX5_nights 94 = .ok (.ifCond .le 70, 3) := dk_158 0 70 (dk_at dksX5_nights_4 2 rfl rfl)
theorem dX5_nights_97 : decode cX5_nights 97 = .ok (.iload 6, 2) := dk_21 6 (dk_at dksX5_nights_4 5 rfl rfl)
theorem dX5_nights_99 : decode cX5_nights 99 = .ok (.ldc_w 461, 3) := dk_19 1 205 (dk_at dksX5_nights_4 7 rfl rfl)
theorem dX5_nights_102 : decode cX5_nights 102 = .ok (.imul, 1) := dk_104 (dk_at dksX5_nights_4 10 rfl rfl)
theorem dX5_nights_103 : decode cX5_nights 103 = .ok (.sipush 12345, 3) := dk_17 48 57 (dk_at dksX5_nights_4 11 rfl rfl)
theorem dX5_nights_106 : decode cX5_nights 106 = .ok (.iadd, 1) := dk_96 (dk_at dksX5_nights_4 14 rfl rfl)
theorem dX5_nights_107 : decode cX5_nights 107 = .ok (.istore 6, 2) := dk_54 6 (dk_at dksX5_nights_4 15 rfl rfl)
theorem dX5_nights_109 : decode cX5_nights 109 = .ok (.iload 6, 2) := dk_21 6 (dk_at dksX5_nights_4 17 rfl rfl)
theorem dX5_nights_111 : decode cX5_nights 111 = .ok (.bipush 16, 2) := dk_16 16 (dk_at dksX5_nights_4 19 rfl rfl)
theorem dX5_nights_113 : decode cX5_nights 113 = .ok (.ishr, 1) := dk_122 (dk_at dksX5_nights_4 21 rfl rfl)
theorem dX5_nights_114 : decode cX5_nights 114 = .ok (.sipush 32767, 3) := dk_17 127 255 (dk_at dksX5_nights_5 0 rfl rfl)
theorem dX5_nights_117 : decode cX5_nights 117 = .ok (.iand, 1) := dk_126 (dk_at dksX5_nights_5 3 rfl rfl)
theorem dX5_nights_118 : decode cX5_nights 118 = .ok (.iload 5, 2) := dk_21 5 (dk_at dksX5_nights_5 4 rfl rfl)
theorem dX5_nights_120 : decode cX5_nights 120 = .ok (.irem, 1) := dk_112 (dk_at dksX5_nights_5 6 rfl rfl)
theorem dX5_nights_121 : decode cX5_nights 121 = .ok (.istore 9, 2) := dk_54 9 (dk_at dksX5_nights_5 7 rfl rfl)
theorem dX5_nights_123 : decode cX5_nights 123 = .ok (.iload 9, 2) := dk_21 9 (dk_at dksX5_nights_5 9 rfl rfl)
theorem dX5_nights_125 : decode cX5_nights 125 = .ok (.aload_n 0, 1) := dk_42 (dk_at dksX5_nights_5 11 rfl rfl)
theorem dX5_nights_126 : decode cX5_nights 126 = .ok (.getfield 91, 3) := dk_180 0 91 (dk_at dksX5_nights_5 12 rfl rfl)
theorem dX5_nights_129 : decode cX5_nights 129 = .ok (.aload_n 0, 1) := dk_42 (dk_at dksX5_nights_5 15 rfl rfl)
theorem dX5_nights_130 : decode cX5_nights 130 = .ok (.getfield 340, 3) := dk_180 1 84 (dk_at dksX5_nights_5 16 rfl rfl)
theorem dX5_nights_133 : decode cX5_nights 133 = .ok (.iaload, 1) := dk_46 (dk_at dksX5_nights_5 19 rfl rfl)
theorem dX5_nights_134 : decode cX5_nights 134 = .ok (.if_icmp .lt 30, 3) := dk_161 0 30 (dk_at dksX5_nights_5 20 rfl rfl)
theorem dX5_nights_137 : decode cX5_nights 137 = .ok (.iload 9, 2) := dk_21 9 (dk_at dksX5_nights_6 0 rfl rfl)
theorem dX5_nights_139 : decode cX5_nights 139 = .ok (.aload_n 0, 1) := dk_42 (dk_at dksX5_nights_6 2 rfl rfl)
theorem dX5_nights_140 : decode cX5_nights 140 = .ok (.getfield 91, 3) := dk_180 0 91 (dk_at dksX5_nights_6 3 rfl rfl)
theorem dX5_nights_143 : decode cX5_nights 143 = .ok (.aload_n 0, 1) := dk_42 (dk_at dksX5_nights_6 6 rfl rfl)
theorem dX5_nights_144 : decode cX5_nights 144 = .ok (.getfield 340, 3) := dk_180 1 84 (dk_at dksX5_nights_6 7 rfl rfl)
theorem dX5_nights_147 : decode cX5_nights 147 = .ok (.iaload, 1) := dk_46 (dk_at dksX5_nights_6 10 rfl rfl)
theorem dX5_nights_148 : decode cX5_nights 148 = .ok (.isub, 1) := dk_100 (dk_at dksX5_nights_6 11 rfl rfl)
theorem dX5_nights_149 : decode cX5_nights 149 = .ok (.istore 9, 2) := dk_54 9 (dk_at dksX5_nights_6 12 rfl rfl)
theorem dX5_nights_151 : decode cX5_nights 151 = .ok (.aload_n 0, 1) := dk_42 (dk_at dksX5_nights_6 14 rfl rfl)
theorem dX5_nights_152 : decode cX5_nights 152 = .ok (.dup, 1) := dk_89 (dk_at dksX5_nights_6 15 rfl rfl)
theorem dX5_nights_153 : decode cX5_nights 153 = .ok (.getfield 340, 3) := dk_180 1 84 (dk_at dksX5_nights_6 16 rfl rfl)
theorem dX5_nights_156 : decode cX5_nights 156 = .ok (.iconst 1, 1) := dk_4 (dk_at dksX5_nights_6 19 rfl rfl)
theorem dX5_nights_157 : decode cX5_nights 157 = .ok (.iadd, 1) := dk_96 (dk_at dksX5_nights_6 20 rfl rfl)
theorem dX5_nights_158 : decode cX5_nights 158 = .ok (.putfield 340, 3) := dk_181 1 84 (dk_at dksX5_nights_6 21 rfl rfl)
theorem dX5_nights_161 : decode cX5_nights 161 = .ok (.goto (-38), 3) := dk_167 255 218 (dk_at dksX5_nights_7 0 rfl rfl)
theorem dX5_nights_164 : decode cX5_nights 164 = .ok (.aload_n 0, 1) := dk_42 (dk_at dksX5_nights_7 3 rfl rfl)
theorem dX5_nights_165 : decode cX5_nights 165 = .ok (.invokevirtual 392, 3) := dk_182 1 136 (dk_at dksX5_nights_7 4 rfl rfl)
theorem dX5_nights_168 : decode cX5_nights 168 = .ok (.iload 7, 2) := dk_21 7 (dk_at dksX5_nights_7 7 rfl rfl)
theorem dX5_nights_170 : decode cX5_nights 170 = .ok (.aload_n 0, 1) := dk_42 (dk_at dksX5_nights_7 9 rfl rfl)
theorem dX5_nights_171 : decode cX5_nights 171 = .ok (.iload_n 1, 1) := dk_27 (dk_at dksX5_nights_7 10 rfl rfl)
theorem dX5_nights_172 : decode cX5_nights 172 = .ok (.invokevirtual 414, 3) := dk_182 1 158 (dk_at dksX5_nights_7 11 rfl rfl)
theorem dX5_nights_175 : decode cX5_nights 175 = .ok (.iconst 1, 1) := dk_4 (dk_at dksX5_nights_7 14 rfl rfl)
theorem dX5_nights_176 : decode cX5_nights 176 = .ok (.if_icmp .ne 7, 3) := dk_160 0 7 (dk_at dksX5_nights_7 15 rfl rfl)
theorem dX5_nights_179 : decode cX5_nights 179 = .ok (.iconst 1, 1) := dk_4 (dk_at dksX5_nights_7 18 rfl rfl)
theorem dX5_nights_180 : decode cX5_nights 180 = .ok (.goto 4, 3) := dk_167 0 4 (dk_at dksX5_nights_7 19 rfl rfl)
theorem dX5_nights_183 : decode cX5_nights 183 = .ok (.iconst 0, 1) := dk_3 (dk_at dksX5_nights_7 22 rfl rfl)
theorem dX5_nights_184 : decode cX5_nights 184 = .ok (.iadd, 1) := dk_96 (dk_at dksX5_nights_7 23 rfl rfl)
theorem dX5_nights_185 : decode cX5_nights 185 = .ok (.istore 7, 2) := dk_54 7 (dk_at dksX5_nights_8 0 rfl rfl)
theorem dX5_nights_187 : decode cX5_nights 187 = .ok (.iinc 8 1, 3) := dk_132 8 1 (dk_at dksX5_nights_8 2 rfl rfl)
theorem dX5_nights_190 : decode cX5_nights 190 = .ok (.goto (-109), 3) := dk_167 255 147 (dk_at dksX5_nights_8 5 rfl rfl)
theorem dX5_nights_193 : decode cX5_nights 193 = .ok (.aload_n 0, 1) := dk_42 (dk_at dksX5_nights_8 8 rfl rfl)
theorem dX5_nights_194 : decode cX5_nights 194 = .ok (.iload 4, 2) := dk_21 4 (dk_at dksX5_nights_8 9 rfl rfl)
theorem dX5_nights_196 : decode cX5_nights 196 = .ok (.putfield 340, 3) := dk_181 1 84 (dk_at dksX5_nights_8 11 rfl rfl)
theorem dX5_nights_199 : decode cX5_nights 199 = .ok (.iload 7, 2) := dk_21 7 (dk_at dksX5_nights_8 14 rfl rfl)
theorem dX5_nights_201 : decode cX5_nights 201 = .ok (.ireturn, 1) := dk_172 (dk_at dksX5_nights_8 16 rfl rfl)
abbrev cX5_image : ByteArray := prog_23_method_84_code
def yX5_image : MethodName := ⟨RX5, "image", "()V"⟩
def dkwX5_image_4 : List UInt8 := [180, 0, 188, 42, 180, 0, 164, 184, 1, 167, 42, 180, 0, 191, 42, 180, 0, 103, 184, 1, 167, 177]
abbrev dktX5_image_4 : List UInt8 := dkwX5_image_4 ++ []
def dkwX5_image_3 : List UInt8 := [180, 0, 182, 42, 180, 0, 158, 184, 1, 167, 42, 180, 0, 185, 42, 180, 0, 161, 184, 1, 167, 42]
abbrev dktX5_image_3 : List UInt8 := dkwX5_image_3 ++ dktX5_image_4
def dkwX5_image_2 : List UInt8 := [180, 0, 176, 42, 180, 0, 116, 184, 1, 167, 42, 180, 0, 179, 42, 180, 0, 119, 184, 1, 167, 42]
abbrev dktX5_image_2 : List UInt8 := dkwX5_image_2 ++ dktX5_image_3
def dkwX5_image_1 : List UInt8 := [181, 1, 209, 42, 42, 180, 1, 86, 181, 1, 212, 42, 180, 0, 173, 42, 180, 0, 113, 184, 1, 167, 42]
abbrev dktX5_image_1 : List UInt8 := dkwX5_image_1 ++ dktX5_image_2
def dkwX5_image_0 : List UInt8 := [42, 3, 181, 0, 194, 42, 4, 181, 1, 89, 42, 42, 180, 1, 81, 181, 1, 206, 42, 42, 180, 1, 84]
abbrev dktX5_image_0 : List UInt8 := dkwX5_image_0 ++ dktX5_image_1
theorem dksX5_image_0 : cX5_image.data.toList.drop 0 = dktX5_image_0 := by decide +kernel
theorem dksX5_image_1 : cX5_image.data.toList.drop 23 = dktX5_image_1 := dk_seg dksX5_image_0 23 rfl rfl
theorem dksX5_image_2 : cX5_image.data.toList.drop 46 = dktX5_image_2 := dk_seg dksX5_image_1 23 rfl rfl
theorem dksX5_image_3 : cX5_image.data.toList.drop 68 = dktX5_image_3 := dk_seg dksX5_image_2 22 rfl rfl
theorem dksX5_image_4 : cX5_image.data.toList.drop 90 = dktX5_image_4 := dk_seg dksX5_image_3 22 rfl rfl
theorem dX5_image_0 : decode cX5_image 0 = .ok (.aload_n 0, 1) := dk_42 (dk_at dksX5_image_0 0 rfl rfl)
theorem dX5_image_1 : decode cX5_image 1 = .ok (.iconst 0, 1) := dk_3 (dk_at dksX5_image_0 1 rfl rfl)
theorem dX5_image_2 : decode cX5_image 2 = .ok (.putfield 194, 3) := dk_181 0 194 (dk_at dksX5_image_0 2 rfl rfl)
theorem dX5_image_5 : decode cX5_image 5 = .ok (.aload_n 0, 1) := dk_42 (dk_at dksX5_image_0 5 rfl rfl)
theorem dX5_image_6 : decode cX5_image 6 = .ok (.iconst 1, 1) := dk_4 (dk_at dksX5_image_0 6 rfl rfl)
theorem dX5_image_7 : decode cX5_image 7 = .ok (.putfield 345, 3) := dk_181 1 89 (dk_at dksX5_image_0 7 rfl rfl)
theorem dX5_image_10 : decode cX5_image 10 = .ok (.aload_n 0, 1) := dk_42 (dk_at dksX5_image_0 10 rfl rfl)
theorem dX5_image_11 : decode cX5_image 11 = .ok (.aload_n 0, 1) := dk_42 (dk_at dksX5_image_0 11 rfl rfl)
theorem dX5_image_12 : decode cX5_image 12 = .ok (.getfield 337, 3) := dk_180 1 81 (dk_at dksX5_image_0 12 rfl rfl)
theorem dX5_image_15 : decode cX5_image 15 = .ok (.putfield 462, 3) := dk_181 1 206 (dk_at dksX5_image_0 15 rfl rfl)
theorem dX5_image_18 : decode cX5_image 18 = .ok (.aload_n 0, 1) := dk_42 (dk_at dksX5_image_0 18 rfl rfl)
theorem dX5_image_19 : decode cX5_image 19 = .ok (.aload_n 0, 1) := dk_42 (dk_at dksX5_image_0 19 rfl rfl)
theorem dX5_image_20 : decode cX5_image 20 = .ok (.getfield 340, 3) := dk_180 1 84 (dk_at dksX5_image_0 20 rfl rfl)
theorem dX5_image_23 : decode cX5_image 23 = .ok (.putfield 465, 3) := dk_181 1 209 (dk_at dksX5_image_1 0 rfl rfl)
theorem dX5_image_26 : decode cX5_image 26 = .ok (.aload_n 0, 1) := dk_42 (dk_at dksX5_image_1 3 rfl rfl)
theorem dX5_image_27 : decode cX5_image 27 = .ok (.aload_n 0, 1) := dk_42 (dk_at dksX5_image_1 4 rfl rfl)
theorem dX5_image_28 : decode cX5_image 28 = .ok (.getfield 342, 3) := dk_180 1 86 (dk_at dksX5_image_1 5 rfl rfl)
theorem dX5_image_31 : decode cX5_image 31 = .ok (.putfield 468, 3) := dk_181 1 212 (dk_at dksX5_image_1 8 rfl rfl)
theorem dX5_image_34 : decode cX5_image 34 = .ok (.aload_n 0, 1) := dk_42 (dk_at dksX5_image_1 11 rfl rfl)
theorem dX5_image_35 : decode cX5_image 35 = .ok (.getfield 173, 3) := dk_180 0 173 (dk_at dksX5_image_1 12 rfl rfl)
theorem dX5_image_38 : decode cX5_image 38 = .ok (.aload_n 0, 1) := dk_42 (dk_at dksX5_image_1 15 rfl rfl)
theorem dX5_image_39 : decode cX5_image 39 = .ok (.getfield 113, 3) := dk_180 0 113 (dk_at dksX5_image_1 16 rfl rfl)
theorem dX5_image_42 : decode cX5_image 42 = .ok (.invokestatic 423, 3) := dk_184 1 167 (dk_at dksX5_image_1 19 rfl rfl)
theorem dX5_image_45 : decode cX5_image 45 = .ok (.aload_n 0, 1) := dk_42 (dk_at dksX5_image_1 22 rfl rfl)
theorem dX5_image_46 : decode cX5_image 46 = .ok (.getfield 176, 3) := dk_180 0 176 (dk_at dksX5_image_2 0 rfl rfl)
theorem dX5_image_49 : decode cX5_image 49 = .ok (.aload_n 0, 1) := dk_42 (dk_at dksX5_image_2 3 rfl rfl)
theorem dX5_image_50 : decode cX5_image 50 = .ok (.getfield 116, 3) := dk_180 0 116 (dk_at dksX5_image_2 4 rfl rfl)
theorem dX5_image_53 : decode cX5_image 53 = .ok (.invokestatic 423, 3) := dk_184 1 167 (dk_at dksX5_image_2 7 rfl rfl)
theorem dX5_image_56 : decode cX5_image 56 = .ok (.aload_n 0, 1) := dk_42 (dk_at dksX5_image_2 10 rfl rfl)
theorem dX5_image_57 : decode cX5_image 57 = .ok (.getfield 179, 3) := dk_180 0 179 (dk_at dksX5_image_2 11 rfl rfl)
theorem dX5_image_60 : decode cX5_image 60 = .ok (.aload_n 0, 1) := dk_42 (dk_at dksX5_image_2 14 rfl rfl)
theorem dX5_image_61 : decode cX5_image 61 = .ok (.getfield 119, 3) := dk_180 0 119 (dk_at dksX5_image_2 15 rfl rfl)
theorem dX5_image_64 : decode cX5_image 64 = .ok (.invokestatic 423, 3) := dk_184 1 167 (dk_at dksX5_image_2 18 rfl rfl)
theorem dX5_image_67 : decode cX5_image 67 = .ok (.aload_n 0, 1) := dk_42 (dk_at dksX5_image_2 21 rfl rfl)
theorem dX5_image_68 : decode cX5_image 68 = .ok (.getfield 182, 3) := dk_180 0 182 (dk_at dksX5_image_3 0 rfl rfl)
theorem dX5_image_71 : decode cX5_image 71 = .ok (.aload_n 0, 1) := dk_42 (dk_at dksX5_image_3 3 rfl rfl)
theorem dX5_image_72 : decode cX5_image 72 = .ok (.getfield 158, 3) := dk_180 0 158 (dk_at dksX5_image_3 4 rfl rfl)
theorem dX5_image_75 : decode cX5_image 75 = .ok (.invokestatic 423, 3) := dk_184 1 167 (dk_at dksX5_image_3 7 rfl rfl)
theorem dX5_image_78 : decode cX5_image 78 = .ok (.aload_n 0, 1) := dk_42 (dk_at dksX5_image_3 10 rfl rfl)
theorem dX5_image_79 : decode cX5_image 79 = .ok (.getfield 185, 3) := dk_180 0 185 (dk_at dksX5_image_3 11 rfl rfl)
theorem dX5_image_82 : decode cX5_image 82 = .ok (.aload_n 0, 1) := dk_42 (dk_at dksX5_image_3 14 rfl rfl)
theorem dX5_image_83 : decode cX5_image 83 = .ok (.getfield 161, 3) := dk_180 0 161 (dk_at dksX5_image_3 15 rfl rfl)
theorem dX5_image_86 : decode cX5_image 86 = .ok (.invokestatic 423, 3) := dk_184 1 167 (dk_at dksX5_image_3 18 rfl rfl)
theorem dX5_image_89 : decode cX5_image 89 = .ok (.aload_n 0, 1) := dk_42 (dk_at dksX5_image_3 21 rfl rfl)
theorem dX5_image_90 : decode cX5_image 90 = .ok (.getfield 188, 3) := dk_180 0 188 (dk_at dksX5_image_4 0 rfl rfl)
theorem dX5_image_93 : decode cX5_image 93 = .ok (.aload_n 0, 1) := dk_42 (dk_at dksX5_image_4 3 rfl rfl)
theorem dX5_image_94 : decode cX5_image 94 = .ok (.getfield 164, 3) := dk_180 0 164 (dk_at dksX5_image_4 4 rfl rfl)
theorem dX5_image_97 : decode cX5_image 97 = .ok (.invokestatic 423, 3) := dk_184 1 167 (dk_at dksX5_image_4 7 rfl rfl)
theorem dX5_image_100 : decode cX5_image 100 = .ok (.aload_n 0, 1) := dk_42 (dk_at dksX5_image_4 10 rfl rfl)
theorem dX5_image_101 : decode cX5_image 101 = .ok (.getfield 191, 3) := dk_180 0 191 (dk_at dksX5_image_4 11 rfl rfl)
theorem dX5_image_104 : decode cX5_image 104 = .ok (.aload_n 0, 1) := dk_42 (dk_at dksX5_image_4 14 rfl rfl)
theorem dX5_image_105 : decode cX5_image 105 = .ok (.getfield 103, 3) := dk_180 0 103 (dk_at dksX5_image_4 15 rfl rfl)
theorem dX5_image_108 : decode cX5_image 108 = .ok (.invokestatic 423, 3) := dk_184 1 167 (dk_at dksX5_image_4 18 rfl rfl)
theorem dX5_image_111 : decode cX5_image 111 = .ok (.return_, 1) := dk_177 (dk_at dksX5_image_4 21 rfl rfl)
abbrev cX5_restore : ByteArray := prog_23_method_85_code
def yX5_restore : MethodName := ⟨RX5, "restore", "()Z"⟩
def dkwX5_restore_5 : List UInt8 := [184, 1, 167, 4, 172]
abbrev dktX5_restore_5 : List UInt8 := dkwX5_restore_5 ++ []
def dkwX5_restore_4 : List UInt8 := [184, 1, 167, 42, 180, 0, 164, 42, 180, 0, 188, 184, 1, 167, 42, 180, 0, 103, 42, 180, 0, 191]
abbrev dktX5_restore_4 : List UInt8 := dkwX5_restore_4 ++ dktX5_restore_5
def dkwX5_restore_3 : List UInt8 := [184, 1, 167, 42, 180, 0, 158, 42, 180, 0, 182, 184, 1, 167, 42, 180, 0, 161, 42, 180, 0, 185]
abbrev dktX5_restore_3 : List UInt8 := dkwX5_restore_3 ++ dktX5_restore_4
def dkwX5_restore_2 : List UInt8 := [184, 1, 167, 42, 180, 0, 116, 42, 180, 0, 176, 184, 1, 167, 42, 180, 0, 119, 42, 180, 0, 179]
abbrev dktX5_restore_2 : List UInt8 := dkwX5_restore_2 ++ dktX5_restore_3
def dkwX5_restore_1 : List UInt8 := [180, 1, 209, 181, 1, 84, 42, 42, 180, 1, 212, 181, 1, 86, 42, 180, 0, 113, 42, 180, 0, 173]
abbrev dktX5_restore_1 : List UInt8 := dkwX5_restore_1 ++ dktX5_restore_2
def dkwX5_restore_0 : List UInt8 := [42, 3, 181, 0, 194, 42, 180, 1, 89, 154, 0, 5, 3, 172, 42, 42, 180, 1, 206, 181, 1, 81, 42, 42]
abbrev dktX5_restore_0 : List UInt8 := dkwX5_restore_0 ++ dktX5_restore_1
theorem dksX5_restore_0 : cX5_restore.data.toList.drop 0 = dktX5_restore_0 := by decide +kernel
theorem dksX5_restore_1 : cX5_restore.data.toList.drop 24 = dktX5_restore_1 := dk_seg dksX5_restore_0 24 rfl rfl
theorem dksX5_restore_2 : cX5_restore.data.toList.drop 46 = dktX5_restore_2 := dk_seg dksX5_restore_1 22 rfl rfl
theorem dksX5_restore_3 : cX5_restore.data.toList.drop 68 = dktX5_restore_3 := dk_seg dksX5_restore_2 22 rfl rfl
theorem dksX5_restore_4 : cX5_restore.data.toList.drop 90 = dktX5_restore_4 := dk_seg dksX5_restore_3 22 rfl rfl
theorem dksX5_restore_5 : cX5_restore.data.toList.drop 112 = dktX5_restore_5 := dk_seg dksX5_restore_4 22 rfl rfl
theorem dX5_restore_0 : decode cX5_restore 0 = .ok (.aload_n 0, 1) := dk_42 (dk_at dksX5_restore_0 0 rfl rfl)
theorem dX5_restore_1 : decode cX5_restore 1 = .ok (.iconst 0, 1) := dk_3 (dk_at dksX5_restore_0 1 rfl rfl)
theorem dX5_restore_2 : decode cX5_restore 2 = .ok (.putfield 194, 3) := dk_181 0 194 (dk_at dksX5_restore_0 2 rfl rfl)
theorem dX5_restore_5 : decode cX5_restore 5 = .ok (.aload_n 0, 1) := dk_42 (dk_at dksX5_restore_0 5 rfl rfl)
theorem dX5_restore_6 : decode cX5_restore 6 = .ok (.getfield 345, 3) := dk_180 1 89 (dk_at dksX5_restore_0 6 rfl rfl)
theorem dX5_restore_9 : decode cX5_restore 9 = .ok (.ifCond .ne 5, 3) := dk_154 0 5 (dk_at dksX5_restore_0 9 rfl rfl)
theorem dX5_restore_12 : decode cX5_restore 12 = .ok (.iconst 0, 1) := dk_3 (dk_at dksX5_restore_0 12 rfl rfl)
theorem dX5_restore_13 : decode cX5_restore 13 = .ok (.ireturn, 1) := dk_172 (dk_at dksX5_restore_0 13 rfl rfl)
theorem dX5_restore_14 : decode cX5_restore 14 = .ok (.aload_n 0, 1) := dk_42 (dk_at dksX5_restore_0 14 rfl rfl)
theorem dX5_restore_15 : decode cX5_restore 15 = .ok (.aload_n 0, 1) := dk_42 (dk_at dksX5_restore_0 15 rfl rfl)
theorem dX5_restore_16 : decode cX5_restore 16 = .ok (.getfield 462, 3) := dk_180 1 206 (dk_at dksX5_restore_0 16 rfl rfl)
theorem dX5_restore_19 : decode cX5_restore 19 = .ok (.putfield 337, 3) := dk_181 1 81 (dk_at dksX5_restore_0 19 rfl rfl)
theorem dX5_restore_22 : decode cX5_restore 22 = .ok (.aload_n 0, 1) := dk_42 (dk_at dksX5_restore_0 22 rfl rfl)
theorem dX5_restore_23 : decode cX5_restore 23 = .ok (.aload_n 0, 1) := dk_42 (dk_at dksX5_restore_0 23 rfl rfl)
theorem dX5_restore_24 : decode cX5_restore 24 = .ok (.getfield 465, 3) := dk_180 1 209 (dk_at dksX5_restore_1 0 rfl rfl)
theorem dX5_restore_27 : decode cX5_restore 27 = .ok (.putfield 340, 3) := dk_181 1 84 (dk_at dksX5_restore_1 3 rfl rfl)
theorem dX5_restore_30 : decode cX5_restore 30 = .ok (.aload_n 0, 1) := dk_42 (dk_at dksX5_restore_1 6 rfl rfl)
theorem dX5_restore_31 : decode cX5_restore 31 = .ok (.aload_n 0, 1) := dk_42 (dk_at dksX5_restore_1 7 rfl rfl)
theorem dX5_restore_32 : decode cX5_restore 32 = .ok (.getfield 468, 3) := dk_180 1 212 (dk_at dksX5_restore_1 8 rfl rfl)
theorem dX5_restore_35 : decode cX5_restore 35 = .ok (.putfield 342, 3) := dk_181 1 86 (dk_at dksX5_restore_1 11 rfl rfl)
theorem dX5_restore_38 : decode cX5_restore 38 = .ok (.aload_n 0, 1) := dk_42 (dk_at dksX5_restore_1 14 rfl rfl)
theorem dX5_restore_39 : decode cX5_restore 39 = .ok (.getfield 113, 3) := dk_180 0 113 (dk_at dksX5_restore_1 15 rfl rfl)
theorem dX5_restore_42 : decode cX5_restore 42 = .ok (.aload_n 0, 1) := dk_42 (dk_at dksX5_restore_1 18 rfl rfl)
theorem dX5_restore_43 : decode cX5_restore 43 = .ok (.getfield 173, 3) := dk_180 0 173 (dk_at dksX5_restore_1 19 rfl rfl)
theorem dX5_restore_46 : decode cX5_restore 46 = .ok (.invokestatic 423, 3) := dk_184 1 167 (dk_at dksX5_restore_2 0 rfl rfl)
theorem dX5_restore_49 : decode cX5_restore 49 = .ok (.aload_n 0, 1) := dk_42 (dk_at dksX5_restore_2 3 rfl rfl)
theorem dX5_restore_50 : decode cX5_restore 50 = .ok (.getfield 116, 3) := dk_180 0 116 (dk_at dksX5_restore_2 4 rfl rfl)
theorem dX5_restore_53 : decode cX5_restore 53 = .ok (.aload_n 0, 1) := dk_42 (dk_at dksX5_restore_2 7 rfl rfl)
theorem dX5_restore_54 : decode cX5_restore 54 = .ok (.getfield 176, 3) := dk_180 0 176 (dk_at dksX5_restore_2 8 rfl rfl)
theorem dX5_restore_57 : decode cX5_restore 57 = .ok (.invokestatic 423, 3) := dk_184 1 167 (dk_at dksX5_restore_2 11 rfl rfl)
theorem dX5_restore_60 : decode cX5_restore 60 = .ok (.aload_n 0, 1) := dk_42 (dk_at dksX5_restore_2 14 rfl rfl)
theorem dX5_restore_61 : decode cX5_restore 61 = .ok (.getfield 119, 3) := dk_180 0 119 (dk_at dksX5_restore_2 15 rfl rfl)
theorem dX5_restore_64 : decode cX5_restore 64 = .ok (.aload_n 0, 1) := dk_42 (dk_at dksX5_restore_2 18 rfl rfl)
theorem dX5_restore_65 : decode cX5_restore 65 = .ok (.getfield 179, 3) := dk_180 0 179 (dk_at dksX5_restore_2 19 rfl rfl)
theorem dX5_restore_68 : decode cX5_restore 68 = .ok (.invokestatic 423, 3) := dk_184 1 167 (dk_at dksX5_restore_3 0 rfl rfl)
theorem dX5_restore_71 : decode cX5_restore 71 = .ok (.aload_n 0, 1) := dk_42 (dk_at dksX5_restore_3 3 rfl rfl)
theorem dX5_restore_72 : decode cX5_restore 72 = .ok (.getfield 158, 3) := dk_180 0 158 (dk_at dksX5_restore_3 4 rfl rfl)
theorem dX5_restore_75 : decode cX5_restore 75 = .ok (.aload_n 0, 1) := dk_42 (dk_at dksX5_restore_3 7 rfl rfl)
theorem dX5_restore_76 : decode cX5_restore 76 = .ok (.getfield 182, 3) := dk_180 0 182 (dk_at dksX5_restore_3 8 rfl rfl)
theorem dX5_restore_79 : decode cX5_restore 79 = .ok (.invokestatic 423, 3) := dk_184 1 167 (dk_at dksX5_restore_3 11 rfl rfl)
theorem dX5_restore_82 : decode cX5_restore 82 = .ok (.aload_n 0, 1) := dk_42 (dk_at dksX5_restore_3 14 rfl rfl)
theorem dX5_restore_83 : decode cX5_restore 83 = .ok (.getfield 161, 3) := dk_180 0 161 (dk_at dksX5_restore_3 15 rfl rfl)
theorem dX5_restore_86 : decode cX5_restore 86 = .ok (.aload_n 0, 1) := dk_42 (dk_at dksX5_restore_3 18 rfl rfl)
theorem dX5_restore_87 : decode cX5_restore 87 = .ok (.getfield 185, 3) := dk_180 0 185 (dk_at dksX5_restore_3 19 rfl rfl)
theorem dX5_restore_90 : decode cX5_restore 90 = .ok (.invokestatic 423, 3) := dk_184 1 167 (dk_at dksX5_restore_4 0 rfl rfl)
theorem dX5_restore_93 : decode cX5_restore 93 = .ok (.aload_n 0, 1) := dk_42 (dk_at dksX5_restore_4 3 rfl rfl)
theorem dX5_restore_94 : decode cX5_restore 94 = .ok (.getfield 164, 3) := dk_180 0 164 (dk_at dksX5_restore_4 4 rfl rfl)
theorem dX5_restore_97 : decode cX5_restore 97 = .ok (.aload_n 0, 1) := dk_42 (dk_at dksX5_restore_4 7 rfl rfl)
theorem dX5_restore_98 : decode cX5_restore 98 = .ok (.getfield 188, 3) := dk_180 0 188 (dk_at dksX5_restore_4 8 rfl rfl)
theorem dX5_restore_101 : decode cX5_restore 101 = .ok (.invokestatic 423, 3) := dk_184 1 167 (dk_at dksX5_restore_4 11 rfl rfl)
theorem dX5_restore_104 : decode cX5_restore 104 = .ok (.aload_n 0, 1) := dk_42 (dk_at dksX5_restore_4 14 rfl rfl)
theorem dX5_restore_105 : decode cX5_restore 105 = .ok (.getfield 103, 3) := dk_180 0 103 (dk_at dksX5_restore_4 15 rfl rfl)
theorem dX5_restore_108 : decode cX5_restore 108 = .ok (.aload_n 0, 1) := dk_42 (dk_at dksX5_restore_4 18 rfl rfl)
theorem dX5_restore_109 : decode cX5_restore 109 = .ok (.getfield 191, 3) := dk_180 0 191 (dk_at dksX5_restore_4 19 rfl rfl)
theorem dX5_restore_112 : decode cX5_restore 112 = .ok (.invokestatic 423, 3) := dk_184 1 167 (dk_at dksX5_restore_5 0 rfl rfl)
theorem dX5_restore_115 : decode cX5_restore 115 = .ok (.iconst 1, 1) := dk_4 (dk_at dksX5_restore_5 3 rfl rfl)
theorem dX5_restore_116 : decode cX5_restore 116 = .ok (.ireturn, 1) := dk_172 (dk_at dksX5_restore_5 4 rfl rfl)
theorem q101 : (Jvm.Cond.initialized "EelPortModel") ∈ lw_all := lw_g (lw_at lw_m1 24 rfl) rfl
theorem q1121 : (Jvm.Cond.selects "EelPortModel" ({ cls := "java/lang/Object", name := "getClass", desc := "()Ljava/lang/Class;" } : Jvm.MethodName) ({ cls := "java/lang/Object", name := "getClass", desc := "()Ljava/lang/Class;" } : Jvm.MethodName)) ∈ lw_all := lw_g (lw_at lw_m5 84 rfl) rfl
theorem q1575 : (Jvm.Cond.instantiable "EelPortModel" (74 : Nat)) ∈ lw_all := lw_g (lw_at lw_m7 58 rfl) rfl
theorem q1577 : (Jvm.Cond.instanceMethod ({ cls := "EelPortModel", name := "<init>", desc := "()V" } : Jvm.MethodName)) ∈ lw_all := lw_g (lw_at lw_m7 60 rfl) rfl
theorem q1578 : (Jvm.Cond.code ({ cls := "EelPortModel", name := "<init>", desc := "()V" } : Jvm.MethodName) prog_23_method_1_code (1 : Nat) (Option.none : Option Jvm.ClassFile.FieldType)) ∈ lw_all := lw_g (lw_at lw_m7 61 rfl) rfl
theorem q1579 : (Jvm.Cond.methodLink "EelPortModel" (3 : Nat) ({ cls := "java/lang/Object", name := "<init>", desc := "()V" } : Jvm.MethodName)) ∈ lw_all := lw_g (lw_at lw_m7 62 rfl) rfl
theorem q1580 : (Jvm.Cond.classLink "EelPortModel" (9 : Nat) "java/lang/String") ∈ lw_all := lw_g (lw_at lw_m7 63 rfl) rfl
theorem q1582 : (Jvm.Cond.stringRef "EelPortModel" (11 : Nat) "open") ∈ lw_tbl := lw_at lw_m7 65 rfl
theorem q1583 : (Jvm.Cond.stringRef "EelPortModel" (13 : Nat) "lock") ∈ lw_tbl := lw_at lw_m7 66 rfl
theorem q1584 : (Jvm.Cond.stringRef "EelPortModel" (15 : Nat) "rock") ∈ lw_tbl := lw_at lw_m7 67 rfl
theorem q1585 : (Jvm.Cond.stringRef "EelPortModel" (17 : Nat) "home") ∈ lw_tbl := lw_at lw_m7 68 rfl
theorem q1586 : (Jvm.Cond.stringRef "EelPortModel" (23 : Nat) "plain") ∈ lw_tbl := lw_at lw_m7 69 rfl
theorem q1587 : (Jvm.Cond.stringRef "EelPortModel" (25 : Nat) "greedy") ∈ lw_tbl := lw_at lw_m7 70 rfl
theorem q1588 : (Jvm.Cond.stringRef "EelPortModel" (27 : Nat) "loving") ∈ lw_tbl := lw_at lw_m7 71 rfl
theorem q1589 : (Jvm.Cond.stringRef "EelPortModel" (29 : Nat) "shy") ∈ lw_tbl := lw_at lw_m7 72 rfl
theorem q1590 : (Jvm.Cond.stringRef "EelPortModel" (34 : Nat) "barge") ∈ lw_tbl := lw_at lw_m7 73 rfl
theorem q1591 : (Jvm.Cond.stringRef "EelPortModel" (36 : Nat) "cutter") ∈ lw_tbl := lw_at lw_m7 74 rfl
theorem q1592 : (Jvm.Cond.stringRef "EelPortModel" (38 : Nat) "smuggler") ∈ lw_tbl := lw_at lw_m7 75 rfl
theorem q1593 : (Jvm.Cond.stringRef "EelPortModel" (40 : Nat) "pilot") ∈ lw_tbl := lw_at lw_m7 76 rfl
theorem q1594 : (Jvm.Cond.fieldLink "EelPortModel" (19 : Nat) "EelPortModel" "quayKinds" "[Ljava/lang/String;") ∈ lw_all := lw_g (lw_at lw_m7 77 rfl) rfl
theorem q1595 : (Jvm.Cond.fieldLink "EelPortModel" (31 : Nat) "EelPortModel" "eelKinds" "[Ljava/lang/String;") ∈ lw_all := lw_g (lw_at lw_m7 78 rfl) rfl
theorem q1596 : (Jvm.Cond.fieldLink "EelPortModel" (42 : Nat) "EelPortModel" "shipKinds" "[Ljava/lang/String;") ∈ lw_all := lw_g (lw_at lw_m7 79 rfl) rfl
theorem q1597 : (Jvm.Cond.fieldLink "EelPortModel" (194 : Nat) "EelPortModel" "code" "I") ∈ lw_all := lw_g (lw_at lw_m7 80 rfl) rfl
theorem q1598 : (Jvm.Cond.fieldLink "EelPortModel" (45 : Nat) "EelPortModel" "told" "[I") ∈ lw_all := lw_g (lw_at lw_m7 81 rfl) rfl
theorem q1599 : (Jvm.Cond.fieldLink "EelPortModel" (49 : Nat) "EelPortModel" "quayKind" "[I") ∈ lw_all := lw_g (lw_at lw_m7 82 rfl) rfl
theorem q1600 : (Jvm.Cond.fieldLink "EelPortModel" (52 : Nat) "EelPortModel" "quayOwner" "[I") ∈ lw_all := lw_g (lw_at lw_m7 83 rfl) rfl
theorem q1601 : (Jvm.Cond.fieldLink "EelPortModel" (55 : Nat) "EelPortModel" "salt" "[I") ∈ lw_all := lw_g (lw_at lw_m7 84 rfl) rfl
theorem q1602 : (Jvm.Cond.fieldLink "EelPortModel" (58 : Nat) "EelPortModel" "ways" "[I") ∈ lw_all := lw_g (lw_at lw_m7 85 rfl) rfl
theorem q1603 : (Jvm.Cond.fieldLink "EelPortModel" (61 : Nat) "EelPortModel" "eelKind" "[I") ∈ lw_all := lw_g (lw_at lw_m7 86 rfl) rfl
theorem q1604 : (Jvm.Cond.fieldLink "EelPortModel" (64 : Nat) "EelPortModel" "eelOwner" "[I") ∈ lw_all := lw_g (lw_at lw_m7 87 rfl) rfl
theorem q1605 : (Jvm.Cond.fieldLink "EelPortModel" (67 : Nat) "EelPortModel" "eelQuay" "[I") ∈ lw_all := lw_g (lw_at lw_m7 88 rfl) rfl
theorem q1606 : (Jvm.Cond.fieldLink "EelPortModel" (70 : Nat) "EelPortModel" "glare" "[I") ∈ lw_all := lw_g (lw_at lw_m7 89 rfl) rfl
theorem q1607 : (Jvm.Cond.fieldLink "EelPortModel" (73 : Nat) "EelPortModel" "hungry" "[I") ∈ lw_all := lw_g (lw_at lw_m7 90 rfl) rfl
theorem q1608 : (Jvm.Cond.fieldLink "EelPortModel" (76 : Nat) "EelPortModel" "shipKind" "[I") ∈ lw_all := lw_g (lw_at lw_m7 91 rfl) rfl
theorem q1609 : (Jvm.Cond.fieldLink "EelPortModel" (79 : Nat) "EelPortModel" "shipQuay" "[I") ∈ lw_all := lw_g (lw_at lw_m7 92 rfl) rfl
theorem q1610 : (Jvm.Cond.fieldLink "EelPortModel" (82 : Nat) "EelPortModel" "shipHour" "[I") ∈ lw_all := lw_g (lw_at lw_m7 93 rfl) rfl
theorem q1611 : (Jvm.Cond.fieldLink "EelPortModel" (85 : Nat) "EelPortModel" "sees" "[I") ∈ lw_all := lw_g (lw_at lw_m7 94 rfl) rfl
theorem q1612 : (Jvm.Cond.fieldLink "EelPortModel" (88 : Nat) "EelPortModel" "moon" "[I") ∈ lw_all := lw_g (lw_at lw_m7 95 rfl) rfl
theorem q1613 : (Jvm.Cond.fieldLink "EelPortModel" (91 : Nat) "EelPortModel" "weight" "[I") ∈ lw_all := lw_g (lw_at lw_m7 96 rfl) rfl
theorem q1614 : (Jvm.Cond.fieldLink "EelPortModel" (94 : Nat) "EelPortModel" "hooded" "[I") ∈ lw_all := lw_g (lw_at lw_m7 97 rfl) rfl
theorem q1615 : (Jvm.Cond.fieldLink "EelPortModel" (97 : Nat) "EelPortModel" "hoodFrom" "[I") ∈ lw_all := lw_g (lw_at lw_m7 98 rfl) rfl
theorem q1616 : (Jvm.Cond.fieldLink "EelPortModel" (100 : Nat) "EelPortModel" "hoodTo" "[I") ∈ lw_all := lw_g (lw_at lw_m7 99 rfl) rfl
theorem q1617 : (Jvm.Cond.fieldLink "EelPortModel" (103 : Nat) "EelPortModel" "status" "[I") ∈ lw_all := lw_g (lw_at lw_m7 100 rfl) rfl
theorem q1618 : (Jvm.Cond.fieldLink "EelPortModel" (106 : Nat) "EelPortModel" "tape" "[I") ∈ lw_all := lw_g (lw_at lw_m7 101 rfl) rfl
theorem q1619 : (Jvm.Cond.fieldLink "EelPortModel" (201 : Nat) "EelPortModel" "taped" "I") ∈ lw_all := lw_g (lw_at lw_m7 102 rfl) rfl
theorem q1620 : (Jvm.Cond.fieldLink "EelPortModel" (207 : Nat) "EelPortModel" "at" "I") ∈ lw_all := lw_g (lw_at lw_m7 103 rfl) rfl
theorem q1621 : (Jvm.Cond.fieldLink "EelPortModel" (204 : Nat) "EelPortModel" "size" "I") ∈ lw_all := lw_g (lw_at lw_m7 104 rfl) rfl
theorem q1622 : (Jvm.Cond.fieldLink "EelPortModel" (217 : Nat) "EelPortModel" "token" "I") ∈ lw_all := lw_g (lw_at lw_m7 105 rfl) rfl
theorem q1623 : (Jvm.Cond.fieldLink "EelPortModel" (227 : Nat) "EelPortModel" "number" "I") ∈ lw_all := lw_g (lw_at lw_m7 106 rfl) rfl
theorem q1624 : (Jvm.Cond.fieldLink "EelPortModel" (214 : Nat) "EelPortModel" "begins" "I") ∈ lw_all := lw_g (lw_at lw_m7 107 rfl) rfl
theorem q1625 : (Jvm.Cond.fieldLink "EelPortModel" (236 : Nat) "EelPortModel" "ends" "I") ∈ lw_all := lw_g (lw_at lw_m7 108 rfl) rfl
theorem q1626 : (Jvm.Cond.fieldLink "EelPortModel" (239 : Nat) "EelPortModel" "bad" "I") ∈ lw_all := lw_g (lw_at lw_m7 109 rfl) rfl
theorem q1627 : (Jvm.Cond.fieldLink "EelPortModel" (242 : Nat) "EelPortModel" "badPlace" "I") ∈ lw_all := lw_g (lw_at lw_m7 110 rfl) rfl
theorem q1628 : (Jvm.Cond.fieldLink "EelPortModel" (109 : Nat) "EelPortModel" "faultPlace" "I") ∈ lw_all := lw_g (lw_at lw_m7 111 rfl) rfl
theorem q1629 : (Jvm.Cond.fieldLink "EelPortModel" (283 : Nat) "EelPortModel" "moons" "I") ∈ lw_all := lw_g (lw_at lw_m7 112 rfl) rfl
theorem q1630 : (Jvm.Cond.fieldLink "EelPortModel" (286 : Nat) "EelPortModel" "colds" "I") ∈ lw_all := lw_g (lw_at lw_m7 113 rfl) rfl
theorem q1631 : (Jvm.Cond.fieldLink "EelPortModel" (113 : Nat) "EelPortModel" "mealEel" "[I") ∈ lw_all := lw_g (lw_at lw_m7 114 rfl) rfl
theorem q1632 : (Jvm.Cond.fieldLink "EelPortModel" (116 : Nat) "EelPortModel" "mealHour" "[I") ∈ lw_all := lw_g (lw_at lw_m7 115 rfl) rfl
theorem q1633 : (Jvm.Cond.fieldLink "EelPortModel" (119 : Nat) "EelPortModel" "mealSort" "[I") ∈ lw_all := lw_g (lw_at lw_m7 116 rfl) rfl
theorem q1634 : (Jvm.Cond.fieldLink "EelPortModel" (122 : Nat) "EelPortModel" "hunger" "[I") ∈ lw_all := lw_g (lw_at lw_m7 117 rfl) rfl
theorem q1635 : (Jvm.Cond.fieldLink "EelPortModel" (125 : Nat) "EelPortModel" "glow" "[I") ∈ lw_all := lw_g (lw_at lw_m7 118 rfl) rfl
theorem q1636 : (Jvm.Cond.fieldLink "EelPortModel" (128 : Nat) "EelPortModel" "led" "[I") ∈ lw_all := lw_g (lw_at lw_m7 119 rfl) rfl
theorem q1637 : (Jvm.Cond.fieldLink "EelPortModel" (131 : Nat) "EelPortModel" "light" "[I") ∈ lw_all := lw_g (lw_at lw_m7 120 rfl) rfl
theorem q1638 : (Jvm.Cond.fieldLink "EelPortModel" (337 : Nat) "EelPortModel" "meals" "I") ∈ lw_all := lw_g (lw_at lw_m7 121 rfl) rfl
theorem q1639 : (Jvm.Cond.fieldLink "EelPortModel" (340 : Nat) "EelPortModel" "cold" "I") ∈ lw_all := lw_g (lw_at lw_m7 122 rfl) rfl
theorem q1640 : (Jvm.Cond.fieldLink "EelPortModel" (342 : Nat) "EelPortModel" "shones" "I") ∈ lw_all := lw_g (lw_at lw_m7 123 rfl) rfl
theorem q1641 : (Jvm.Cond.fieldLink "EelPortModel" (134 : Nat) "EelPortModel" "firstMeal" "[I") ∈ lw_all := lw_g (lw_at lw_m7 124 rfl) rfl
theorem q1642 : (Jvm.Cond.fieldLink "EelPortModel" (137 : Nat) "EelPortModel" "nextMeal" "[I") ∈ lw_all := lw_g (lw_at lw_m7 125 rfl) rfl
theorem q1643 : (Jvm.Cond.fieldLink "EelPortModel" (140 : Nat) "EelPortModel" "where" "[I") ∈ lw_all := lw_g (lw_at lw_m7 126 rfl) rfl
theorem q1644 : (Jvm.Cond.fieldLink "EelPortModel" (143 : Nat) "EelPortModel" "rowTry" "[I") ∈ lw_all := lw_g (lw_at lw_m7 127 rfl) rfl
theorem q1645 : (Jvm.Cond.fieldLink "EelPortModel" (146 : Nat) "EelPortModel" "rowBest" "[I") ∈ lw_all := lw_g (lw_at lw_m7 128 rfl) rfl
theorem q1646 : (Jvm.Cond.fieldLink "EelPortModel" (149 : Nat) "EelPortModel" "planKept" "[I") ∈ lw_all := lw_g (lw_at lw_m7 129 rfl) rfl
theorem q1647 : (Jvm.Cond.fieldLink "EelPortModel" (152 : Nat) "EelPortModel" "planMany" "I") ∈ lw_all := lw_g (lw_at lw_m7 130 rfl) rfl
theorem q1648 : (Jvm.Cond.fieldLink "EelPortModel" (420 : Nat) "EelPortModel" "best" "I") ∈ lw_all := lw_g (lw_at lw_m7 131 rfl) rfl
theorem q1649 : (Jvm.Cond.fieldLink "EelPortModel" (417 : Nat) "EelPortModel" "mealsGiven" "I") ∈ lw_all := lw_g (lw_at lw_m7 132 rfl) rfl
theorem q1650 : (Jvm.Cond.fieldLink "EelPortModel" (155 : Nat) "EelPortModel" "gains" "[I") ∈ lw_all := lw_g (lw_at lw_m7 133 rfl) rfl
theorem q1651 : (Jvm.Cond.fieldLink "EelPortModel" (158 : Nat) "EelPortModel" "shoneQuay" "[I") ∈ lw_all := lw_g (lw_at lw_m7 134 rfl) rfl
theorem q1652 : (Jvm.Cond.fieldLink "EelPortModel" (161 : Nat) "EelPortModel" "shoneHour" "[I") ∈ lw_all := lw_g (lw_at lw_m7 135 rfl) rfl
theorem q1653 : (Jvm.Cond.fieldLink "EelPortModel" (164 : Nat) "EelPortModel" "shoneLight" "[I") ∈ lw_all := lw_g (lw_at lw_m7 136 rfl) rfl
theorem q1654 : (Jvm.Cond.fieldLink "EelPortModel" (167 : Nat) "EelPortModel" "placeThen" "[I") ∈ lw_all := lw_g (lw_at lw_m7 137 rfl) rfl
theorem q1655 : (Jvm.Cond.fieldLink "EelPortModel" (170 : Nat) "EelPortModel" "mayBe" "[I") ∈ lw_all := lw_g (lw_at lw_m7 138 rfl) rfl
theorem q1656 : (Jvm.Cond.fieldLink "EelPortModel" (451 : Nat) "EelPortModel" "cases" "I") ∈ lw_all := lw_g (lw_at lw_m7 139 rfl) rfl
theorem q1657 : (Jvm.Cond.fieldLink "EelPortModel" (345 : Nat) "EelPortModel" "hasImage" "Z") ∈ lw_all := lw_g (lw_at lw_m7 140 rfl) rfl
theorem q1658 : (Jvm.Cond.fieldLink "EelPortModel" (462 : Nat) "EelPortModel" "mealsThen" "I") ∈ lw_all := lw_g (lw_at lw_m7 141 rfl) rfl
theorem q1659 : (Jvm.Cond.fieldLink "EelPortModel" (465 : Nat) "EelPortModel" "coldThen" "I") ∈ lw_all := lw_g (lw_at lw_m7 142 rfl) rfl
theorem q1660 : (Jvm.Cond.fieldLink "EelPortModel" (468 : Nat) "EelPortModel" "shonesThen" "I") ∈ lw_all := lw_g (lw_at lw_m7 143 rfl) rfl
theorem q1661 : (Jvm.Cond.fieldLink "EelPortModel" (173 : Nat) "EelPortModel" "mealEelThen" "[I") ∈ lw_all := lw_g (lw_at lw_m7 144 rfl) rfl
theorem q1662 : (Jvm.Cond.fieldLink "EelPortModel" (176 : Nat) "EelPortModel" "mealHourThen" "[I") ∈ lw_all := lw_g (lw_at lw_m7 145 rfl) rfl
theorem q1663 : (Jvm.Cond.fieldLink "EelPortModel" (179 : Nat) "EelPortModel" "mealSortThen" "[I") ∈ lw_all := lw_g (lw_at lw_m7 146 rfl) rfl
theorem q1664 : (Jvm.Cond.fieldLink "EelPortModel" (182 : Nat) "EelPortModel" "shoneQuayThen" "[I") ∈ lw_all := lw_g (lw_at lw_m7 147 rfl) rfl
theorem q1665 : (Jvm.Cond.fieldLink "EelPortModel" (185 : Nat) "EelPortModel" "shoneHourThen" "[I") ∈ lw_all := lw_g (lw_at lw_m7 148 rfl) rfl
theorem q1666 : (Jvm.Cond.fieldLink "EelPortModel" (188 : Nat) "EelPortModel" "shoneLightThen" "[I") ∈ lw_all := lw_g (lw_at lw_m7 149 rfl) rfl
theorem q1667 : (Jvm.Cond.fieldLink "EelPortModel" (191 : Nat) "EelPortModel" "statusThen" "[I") ∈ lw_all := lw_g (lw_at lw_m7 150 rfl) rfl
theorem q1668 : (Jvm.Cond.laysFinal "EelPortModel" "EelPortModel" "quayKinds" "[Ljava/lang/String;") ∈ lw_all := lw_g (lw_at lw_m7 151 rfl) rfl
theorem q1669 : (Jvm.Cond.soleField "EelPortModel" "quayKinds") ∈ lw_all := lw_g (lw_at lw_m7 152 rfl) rfl
theorem q1670 : (Jvm.Cond.laysFinal "EelPortModel" "EelPortModel" "eelKinds" "[Ljava/lang/String;") ∈ lw_all := lw_g (lw_at lw_m7 153 rfl) rfl
theorem q1671 : (Jvm.Cond.soleField "EelPortModel" "eelKinds") ∈ lw_all := lw_g (lw_at lw_m7 154 rfl) rfl
theorem q1672 : (Jvm.Cond.laysFinal "EelPortModel" "EelPortModel" "shipKinds" "[Ljava/lang/String;") ∈ lw_all := lw_g (lw_at lw_m7 155 rfl) rfl
theorem q1673 : (Jvm.Cond.soleField "EelPortModel" "shipKinds") ∈ lw_all := lw_g (lw_at lw_m7 156 rfl) rfl
theorem q1674 : (Jvm.Cond.lays "EelPortModel" "EelPortModel" "code" "I") ∈ lw_all := lw_g (lw_at lw_m7 157 rfl) rfl
theorem q1675 : (Jvm.Cond.soleField "EelPortModel" "code") ∈ lw_all := lw_g (lw_at lw_m7 158 rfl) rfl
theorem q1676 : (Jvm.Cond.laysFinal "EelPortModel" "EelPortModel" "told" "[I") ∈ lw_all := lw_g (lw_at lw_m7 159 rfl) rfl
theorem q1677 : (Jvm.Cond.soleField "EelPortModel" "told") ∈ lw_all := lw_g (lw_at lw_m7 160 rfl) rfl
theorem q1678 : (Jvm.Cond.laysFinal "EelPortModel" "EelPortModel" "quayKind" "[I") ∈ lw_all := lw_g (lw_at lw_m7 161 rfl) rfl
theorem q1679 : (Jvm.Cond.soleField "EelPortModel" "quayKind") ∈ lw_all := lw_g (lw_at lw_m7 162 rfl) rfl
theorem q1680 : (Jvm.Cond.laysFinal "EelPortModel" "EelPortModel" "quayOwner" "[I") ∈ lw_all := lw_g (lw_at lw_m7 163 rfl) rfl
theorem q1681 : (Jvm.Cond.soleField "EelPortModel" "quayOwner") ∈ lw_all := lw_g (lw_at lw_m7 164 rfl) rfl
theorem q1682 : (Jvm.Cond.laysFinal "EelPortModel" "EelPortModel" "salt" "[I") ∈ lw_all := lw_g (lw_at lw_m7 165 rfl) rfl
theorem q1683 : (Jvm.Cond.soleField "EelPortModel" "salt") ∈ lw_all := lw_g (lw_at lw_m7 166 rfl) rfl
theorem q1684 : (Jvm.Cond.laysFinal "EelPortModel" "EelPortModel" "ways" "[I") ∈ lw_all := lw_g (lw_at lw_m7 167 rfl) rfl
theorem q1685 : (Jvm.Cond.soleField "EelPortModel" "ways") ∈ lw_all := lw_g (lw_at lw_m7 168 rfl) rfl
theorem q1686 : (Jvm.Cond.laysFinal "EelPortModel" "EelPortModel" "eelKind" "[I") ∈ lw_all := lw_g (lw_at lw_m7 169 rfl) rfl
theorem q1687 : (Jvm.Cond.soleField "EelPortModel" "eelKind") ∈ lw_all := lw_g (lw_at lw_m7 170 rfl) rfl
theorem q1688 : (Jvm.Cond.laysFinal "EelPortModel" "EelPortModel" "eelOwner" "[I") ∈ lw_all := lw_g (lw_at lw_m7 171 rfl) rfl
theorem q1689 : (Jvm.Cond.soleField "EelPortModel" "eelOwner") ∈ lw_all := lw_g (lw_at lw_m7 172 rfl) rfl
theorem q1690 : (Jvm.Cond.laysFinal "EelPortModel" "EelPortModel" "eelQuay" "[I") ∈ lw_all := lw_g (lw_at lw_m7 173 rfl) rfl
theorem q1691 : (Jvm.Cond.soleField "EelPortModel" "eelQuay") ∈ lw_all := lw_g (lw_at lw_m7 174 rfl) rfl
theorem q1692 : (Jvm.Cond.laysFinal "EelPortModel" "EelPortModel" "glare" "[I") ∈ lw_all := lw_g (lw_at lw_m7 175 rfl) rfl
theorem q1693 : (Jvm.Cond.soleField "EelPortModel" "glare") ∈ lw_all := lw_g (lw_at lw_m7 176 rfl) rfl
theorem q1694 : (Jvm.Cond.laysFinal "EelPortModel" "EelPortModel" "hungry" "[I") ∈ lw_all := lw_g (lw_at lw_m7 177 rfl) rfl
theorem q1695 : (Jvm.Cond.soleField "EelPortModel" "hungry") ∈ lw_all := lw_g (lw_at lw_m7 178 rfl) rfl
theorem q1696 : (Jvm.Cond.laysFinal "EelPortModel" "EelPortModel" "shipKind" "[I") ∈ lw_all := lw_g (lw_at lw_m7 179 rfl) rfl
theorem q1697 : (Jvm.Cond.soleField "EelPortModel" "shipKind") ∈ lw_all := lw_g (lw_at lw_m7 180 rfl) rfl
theorem q1698 : (Jvm.Cond.laysFinal "EelPortModel" "EelPortModel" "shipQuay" "[I") ∈ lw_all := lw_g (lw_at lw_m7 181 rfl) rfl
theorem q1699 : (Jvm.Cond.soleField "EelPortModel" "shipQuay") ∈ lw_all := lw_g (lw_at lw_m7 182 rfl) rfl
theorem q1700 : (Jvm.Cond.laysFinal "EelPortModel" "EelPortModel" "shipHour" "[I") ∈ lw_all := lw_g (lw_at lw_m7 183 rfl) rfl
theorem q1701 : (Jvm.Cond.soleField "EelPortModel" "shipHour") ∈ lw_all := lw_g (lw_at lw_m7 184 rfl) rfl
theorem q1702 : (Jvm.Cond.laysFinal "EelPortModel" "EelPortModel" "sees" "[I") ∈ lw_all := lw_g (lw_at lw_m7 185 rfl) rfl
theorem q1703 : (Jvm.Cond.soleField "EelPortModel" "sees") ∈ lw_all := lw_g (lw_at lw_m7 186 rfl) rfl
theorem q1704 : (Jvm.Cond.laysFinal "EelPortModel" "EelPortModel" "moon" "[I") ∈ lw_all := lw_g (lw_at lw_m7 187 rfl) rfl
theorem q1705 : (Jvm.Cond.soleField "EelPortModel" "moon") ∈ lw_all := lw_g (lw_at lw_m7 188 rfl) rfl
theorem q1706 : (Jvm.Cond.laysFinal "EelPortModel" "EelPortModel" "weight" "[I") ∈ lw_all := lw_g (lw_at lw_m7 189 rfl) rfl
theorem q1707 : (Jvm.Cond.soleField "EelPortModel" "weight") ∈ lw_all := lw_g (lw_at lw_m7 190 rfl) rfl
theorem q1708 : (Jvm.Cond.laysFinal "EelPortModel" "EelPortModel" "hooded" "[I") ∈ lw_all := lw_g (lw_at lw_m7 191 rfl) rfl
theorem q1709 : (Jvm.Cond.soleField "EelPortModel" "hooded") ∈ lw_all := lw_g (lw_at lw_m7 192 rfl) rfl
theorem q1710 : (Jvm.Cond.laysFinal "EelPortModel" "EelPortModel" "hoodFrom" "[I") ∈ lw_all := lw_g (lw_at lw_m7 193 rfl) rfl
theorem q1711 : (Jvm.Cond.soleField "EelPortModel" "hoodFrom") ∈ lw_all := lw_g (lw_at lw_m7 194 rfl) rfl
theorem q1712 : (Jvm.Cond.laysFinal "EelPortModel" "EelPortModel" "hoodTo" "[I") ∈ lw_all := lw_g (lw_at lw_m7 195 rfl) rfl
theorem q1713 : (Jvm.Cond.soleField "EelPortModel" "hoodTo") ∈ lw_all := lw_g (lw_at lw_m7 196 rfl) rfl
theorem q1714 : (Jvm.Cond.laysFinal "EelPortModel" "EelPortModel" "status" "[I") ∈ lw_all := lw_g (lw_at lw_m7 197 rfl) rfl
theorem q1715 : (Jvm.Cond.soleField "EelPortModel" "status") ∈ lw_all := lw_g (lw_at lw_m7 198 rfl) rfl
theorem q1716 : (Jvm.Cond.laysFinal "EelPortModel" "EelPortModel" "tape" "[I") ∈ lw_all := lw_g (lw_at lw_m7 199 rfl) rfl
theorem q1717 : (Jvm.Cond.soleField "EelPortModel" "tape") ∈ lw_all := lw_g (lw_at lw_m7 200 rfl) rfl
theorem q1718 : (Jvm.Cond.lays "EelPortModel" "EelPortModel" "taped" "I") ∈ lw_all := lw_g (lw_at lw_m7 201 rfl) rfl
theorem q1719 : (Jvm.Cond.soleField "EelPortModel" "taped") ∈ lw_all := lw_g (lw_at lw_m7 202 rfl) rfl
theorem q1720 : (Jvm.Cond.lays "EelPortModel" "EelPortModel" "at" "I") ∈ lw_all := lw_g (lw_at lw_m7 203 rfl) rfl
theorem q1721 : (Jvm.Cond.soleField "EelPortModel" "at") ∈ lw_all := lw_g (lw_at lw_m7 204 rfl) rfl
theorem q1722 : (Jvm.Cond.lays "EelPortModel" "EelPortModel" "size" "I") ∈ lw_all := lw_g (lw_at lw_m7 205 rfl) rfl
theorem q1723 : (Jvm.Cond.soleField "EelPortModel" "size") ∈ lw_all := lw_g (lw_at lw_m7 206 rfl) rfl
theorem q1724 : (Jvm.Cond.lays "EelPortModel" "EelPortModel" "token" "I") ∈ lw_all := lw_g (lw_at lw_m7 207 rfl) rfl
theorem q1725 : (Jvm.Cond.soleField "EelPortModel" "token") ∈ lw_all := lw_g (lw_at lw_m7 208 rfl) rfl
theorem q1726 : (Jvm.Cond.lays "EelPortModel" "EelPortModel" "number" "I") ∈ lw_all := lw_g (lw_at lw_m7 209 rfl) rfl
theorem q1727 : (Jvm.Cond.soleField "EelPortModel" "number") ∈ lw_all := lw_g (lw_at lw_m7 210 rfl) rfl
theorem q1728 : (Jvm.Cond.lays "EelPortModel" "EelPortModel" "begins" "I") ∈ lw_all := lw_g (lw_at lw_m7 211 rfl) rfl
theorem q1729 : (Jvm.Cond.soleField "EelPortModel" "begins") ∈ lw_all := lw_g (lw_at lw_m7 212 rfl) rfl
theorem q1730 : (Jvm.Cond.lays "EelPortModel" "EelPortModel" "ends" "I") ∈ lw_all := lw_g (lw_at lw_m7 213 rfl) rfl
theorem q1731 : (Jvm.Cond.soleField "EelPortModel" "ends") ∈ lw_all := lw_g (lw_at lw_m7 214 rfl) rfl
theorem q1732 : (Jvm.Cond.lays "EelPortModel" "EelPortModel" "bad" "I") ∈ lw_all := lw_g (lw_at lw_m7 215 rfl) rfl
theorem q1733 : (Jvm.Cond.soleField "EelPortModel" "bad") ∈ lw_all := lw_g (lw_at lw_m7 216 rfl) rfl
theorem q1734 : (Jvm.Cond.lays "EelPortModel" "EelPortModel" "badPlace" "I") ∈ lw_all := lw_g (lw_at lw_m7 217 rfl) rfl
theorem q1735 : (Jvm.Cond.soleField "EelPortModel" "badPlace") ∈ lw_all := lw_g (lw_at lw_m7 218 rfl) rfl
theorem q1736 : (Jvm.Cond.lays "EelPortModel" "EelPortModel" "faultPlace" "I") ∈ lw_all := lw_g (lw_at lw_m7 219 rfl) rfl
theorem q1737 : (Jvm.Cond.soleField "EelPortModel" "faultPlace") ∈ lw_all := lw_g (lw_at lw_m7 220 rfl) rfl
theorem q1738 : (Jvm.Cond.lays "EelPortModel" "EelPortModel" "moons" "I") ∈ lw_all := lw_g (lw_at lw_m7 221 rfl) rfl
theorem q1739 : (Jvm.Cond.soleField "EelPortModel" "moons") ∈ lw_all := lw_g (lw_at lw_m7 222 rfl) rfl
theorem q1740 : (Jvm.Cond.lays "EelPortModel" "EelPortModel" "colds" "I") ∈ lw_all := lw_g (lw_at lw_m7 223 rfl) rfl
theorem q1741 : (Jvm.Cond.soleField "EelPortModel" "colds") ∈ lw_all := lw_g (lw_at lw_m7 224 rfl) rfl
theorem q1742 : (Jvm.Cond.laysFinal "EelPortModel" "EelPortModel" "mealEel" "[I") ∈ lw_all := lw_g (lw_at lw_m7 225 rfl) rfl
theorem q1743 : (Jvm.Cond.soleField "EelPortModel" "mealEel") ∈ lw_all := lw_g (lw_at lw_m7 226 rfl) rfl
theorem q1744 : (Jvm.Cond.laysFinal "EelPortModel" "EelPortModel" "mealHour" "[I") ∈ lw_all := lw_g (lw_at lw_m7 227 rfl) rfl
theorem q1745 : (Jvm.Cond.soleField "EelPortModel" "mealHour") ∈ lw_all := lw_g (lw_at lw_m7 228 rfl) rfl
theorem q1746 : (Jvm.Cond.laysFinal "EelPortModel" "EelPortModel" "mealSort" "[I") ∈ lw_all := lw_g (lw_at lw_m7 229 rfl) rfl
theorem q1747 : (Jvm.Cond.soleField "EelPortModel" "mealSort") ∈ lw_all := lw_g (lw_at lw_m7 230 rfl) rfl
theorem q1748 : (Jvm.Cond.laysFinal "EelPortModel" "EelPortModel" "hunger" "[I") ∈ lw_all := lw_g (lw_at lw_m7 231 rfl) rfl
theorem q1749 : (Jvm.Cond.soleField "EelPortModel" "hunger") ∈ lw_all := lw_g (lw_at lw_m7 232 rfl) rfl
theorem q1750 : (Jvm.Cond.laysFinal "EelPortModel" "EelPortModel" "glow" "[I") ∈ lw_all := lw_g (lw_at lw_m7 233 rfl) rfl
theorem q1751 : (Jvm.Cond.soleField "EelPortModel" "glow") ∈ lw_all := lw_g (lw_at lw_m7 234 rfl) rfl
theorem q1752 : (Jvm.Cond.laysFinal "EelPortModel" "EelPortModel" "led" "[I") ∈ lw_all := lw_g (lw_at lw_m7 235 rfl) rfl
theorem q1753 : (Jvm.Cond.soleField "EelPortModel" "led") ∈ lw_all := lw_g (lw_at lw_m7 236 rfl) rfl
theorem q1754 : (Jvm.Cond.laysFinal "EelPortModel" "EelPortModel" "light" "[I") ∈ lw_all := lw_g (lw_at lw_m7 237 rfl) rfl
theorem q1755 : (Jvm.Cond.soleField "EelPortModel" "light") ∈ lw_all := lw_g (lw_at lw_m7 238 rfl) rfl
theorem q1756 : (Jvm.Cond.lays "EelPortModel" "EelPortModel" "meals" "I") ∈ lw_all := lw_g (lw_at lw_m7 239 rfl) rfl
theorem q1757 : (Jvm.Cond.soleField "EelPortModel" "meals") ∈ lw_all := lw_g (lw_at lw_m8 0 rfl) rfl
theorem q1758 : (Jvm.Cond.lays "EelPortModel" "EelPortModel" "cold" "I") ∈ lw_all := lw_g (lw_at lw_m8 1 rfl) rfl
theorem q1759 : (Jvm.Cond.soleField "EelPortModel" "cold") ∈ lw_all := lw_g (lw_at lw_m8 2 rfl) rfl
theorem q1760 : (Jvm.Cond.lays "EelPortModel" "EelPortModel" "shones" "I") ∈ lw_all := lw_g (lw_at lw_m8 3 rfl) rfl
theorem q1761 : (Jvm.Cond.soleField "EelPortModel" "shones") ∈ lw_all := lw_g (lw_at lw_m8 4 rfl) rfl
theorem q1762 : (Jvm.Cond.laysFinal "EelPortModel" "EelPortModel" "firstMeal" "[I") ∈ lw_all := lw_g (lw_at lw_m8 5 rfl) rfl
theorem q1763 : (Jvm.Cond.soleField "EelPortModel" "firstMeal") ∈ lw_all := lw_g (lw_at lw_m8 6 rfl) rfl
theorem q1764 : (Jvm.Cond.laysFinal "EelPortModel" "EelPortModel" "nextMeal" "[I") ∈ lw_all := lw_g (lw_at lw_m8 7 rfl) rfl
theorem q1765 : (Jvm.Cond.soleField "EelPortModel" "nextMeal") ∈ lw_all := lw_g (lw_at lw_m8 8 rfl) rfl
theorem q1766 : (Jvm.Cond.laysFinal "EelPortModel" "EelPortModel" "where" "[I") ∈ lw_all := lw_g (lw_at lw_m8 9 rfl) rfl
theorem q1767 : (Jvm.Cond.soleField "EelPortModel" "where") ∈ lw_all := lw_g (lw_at lw_m8 10 rfl) rfl
theorem q1768 : (Jvm.Cond.laysFinal "EelPortModel" "EelPortModel" "rowTry" "[I") ∈ lw_all := lw_g (lw_at lw_m8 11 rfl) rfl
theorem q1769 : (Jvm.Cond.soleField "EelPortModel" "rowTry") ∈ lw_all := lw_g (lw_at lw_m8 12 rfl) rfl
theorem q1770 : (Jvm.Cond.laysFinal "EelPortModel" "EelPortModel" "rowBest" "[I") ∈ lw_all := lw_g (lw_at lw_m8 13 rfl) rfl
theorem q1771 : (Jvm.Cond.soleField "EelPortModel" "rowBest") ∈ lw_all := lw_g (lw_at lw_m8 14 rfl) rfl
theorem q1772 : (Jvm.Cond.laysFinal "EelPortModel" "EelPortModel" "planKept" "[I") ∈ lw_all := lw_g (lw_at lw_m8 15 rfl) rfl
theorem q1773 : (Jvm.Cond.soleField "EelPortModel" "planKept") ∈ lw_all := lw_g (lw_at lw_m8 16 rfl) rfl
theorem q1774 : (Jvm.Cond.lays "EelPortModel" "EelPortModel" "planMany" "I") ∈ lw_all := lw_g (lw_at lw_m8 17 rfl) rfl
theorem q1775 : (Jvm.Cond.soleField "EelPortModel" "planMany") ∈ lw_all := lw_g (lw_at lw_m8 18 rfl) rfl
theorem q1776 : (Jvm.Cond.lays "EelPortModel" "EelPortModel" "best" "I") ∈ lw_all := lw_g (lw_at lw_m8 19 rfl) rfl
theorem q1777 : (Jvm.Cond.soleField "EelPortModel" "best") ∈ lw_all := lw_g (lw_at lw_m8 20 rfl) rfl
theorem q1778 : (Jvm.Cond.lays "EelPortModel" "EelPortModel" "mealsGiven" "I") ∈ lw_all := lw_g (lw_at lw_m8 21 rfl) rfl
theorem q1779 : (Jvm.Cond.soleField "EelPortModel" "mealsGiven") ∈ lw_all := lw_g (lw_at lw_m8 22 rfl) rfl
theorem q1780 : (Jvm.Cond.laysFinal "EelPortModel" "EelPortModel" "gains" "[I") ∈ lw_all := lw_g (lw_at lw_m8 23 rfl) rfl
theorem q1781 : (Jvm.Cond.soleField "EelPortModel" "gains") ∈ lw_all := lw_g (lw_at lw_m8 24 rfl) rfl
theorem q1782 : (Jvm.Cond.laysFinal "EelPortModel" "EelPortModel" "shoneQuay" "[I") ∈ lw_all := lw_g (lw_at lw_m8 25 rfl) rfl
theorem q1783 : (Jvm.Cond.soleField "EelPortModel" "shoneQuay") ∈ lw_all := lw_g (lw_at lw_m8 26 rfl) rfl
theorem q1784 : (Jvm.Cond.laysFinal "EelPortModel" "EelPortModel" "shoneHour" "[I") ∈ lw_all := lw_g (lw_at lw_m8 27 rfl) rfl
theorem q1785 : (Jvm.Cond.soleField "EelPortModel" "shoneHour") ∈ lw_all := lw_g (lw_at lw_m8 28 rfl) rfl
theorem q1786 : (Jvm.Cond.laysFinal "EelPortModel" "EelPortModel" "shoneLight" "[I") ∈ lw_all := lw_g (lw_at lw_m8 29 rfl) rfl
theorem q1787 : (Jvm.Cond.soleField "EelPortModel" "shoneLight") ∈ lw_all := lw_g (lw_at lw_m8 30 rfl) rfl
theorem q1788 : (Jvm.Cond.laysFinal "EelPortModel" "EelPortModel" "placeThen" "[I") ∈ lw_all := lw_g (lw_at lw_m8 31 rfl) rfl
theorem q1789 : (Jvm.Cond.soleField "EelPortModel" "placeThen") ∈ lw_all := lw_g (lw_at lw_m8 32 rfl) rfl
theorem q1790 : (Jvm.Cond.laysFinal "EelPortModel" "EelPortModel" "mayBe" "[I") ∈ lw_all := lw_g (lw_at lw_m8 33 rfl) rfl
theorem q1791 : (Jvm.Cond.soleField "EelPortModel" "mayBe") ∈ lw_all := lw_g (lw_at lw_m8 34 rfl) rfl
theorem q1792 : (Jvm.Cond.lays "EelPortModel" "EelPortModel" "cases" "I") ∈ lw_all := lw_g (lw_at lw_m8 35 rfl) rfl
theorem q1793 : (Jvm.Cond.soleField "EelPortModel" "cases") ∈ lw_all := lw_g (lw_at lw_m8 36 rfl) rfl
theorem q1794 : (Jvm.Cond.lays "EelPortModel" "EelPortModel" "hasImage" "Z") ∈ lw_all := lw_g (lw_at lw_m8 37 rfl) rfl
theorem q1795 : (Jvm.Cond.soleField "EelPortModel" "hasImage") ∈ lw_all := lw_g (lw_at lw_m8 38 rfl) rfl
theorem q1796 : (Jvm.Cond.lays "EelPortModel" "EelPortModel" "mealsThen" "I") ∈ lw_all := lw_g (lw_at lw_m8 39 rfl) rfl
theorem q1797 : (Jvm.Cond.soleField "EelPortModel" "mealsThen") ∈ lw_all := lw_g (lw_at lw_m8 40 rfl) rfl
theorem q1798 : (Jvm.Cond.lays "EelPortModel" "EelPortModel" "coldThen" "I") ∈ lw_all := lw_g (lw_at lw_m8 41 rfl) rfl
theorem q1799 : (Jvm.Cond.soleField "EelPortModel" "coldThen") ∈ lw_all := lw_g (lw_at lw_m8 42 rfl) rfl
theorem q1800 : (Jvm.Cond.lays "EelPortModel" "EelPortModel" "shonesThen" "I") ∈ lw_all := lw_g (lw_at lw_m8 43 rfl) rfl
theorem q1801 : (Jvm.Cond.soleField "EelPortModel" "shonesThen") ∈ lw_all := lw_g (lw_at lw_m8 44 rfl) rfl
theorem q1802 : (Jvm.Cond.laysFinal "EelPortModel" "EelPortModel" "mealEelThen" "[I") ∈ lw_all := lw_g (lw_at lw_m8 45 rfl) rfl
theorem q1803 : (Jvm.Cond.soleField "EelPortModel" "mealEelThen") ∈ lw_all := lw_g (lw_at lw_m8 46 rfl) rfl
theorem q1804 : (Jvm.Cond.laysFinal "EelPortModel" "EelPortModel" "mealHourThen" "[I") ∈ lw_all := lw_g (lw_at lw_m8 47 rfl) rfl
theorem q1805 : (Jvm.Cond.soleField "EelPortModel" "mealHourThen") ∈ lw_all := lw_g (lw_at lw_m8 48 rfl) rfl
theorem q1806 : (Jvm.Cond.laysFinal "EelPortModel" "EelPortModel" "mealSortThen" "[I") ∈ lw_all := lw_g (lw_at lw_m8 49 rfl) rfl
theorem q1807 : (Jvm.Cond.soleField "EelPortModel" "mealSortThen") ∈ lw_all := lw_g (lw_at lw_m8 50 rfl) rfl
theorem q1808 : (Jvm.Cond.laysFinal "EelPortModel" "EelPortModel" "shoneQuayThen" "[I") ∈ lw_all := lw_g (lw_at lw_m8 51 rfl) rfl
theorem q1809 : (Jvm.Cond.soleField "EelPortModel" "shoneQuayThen") ∈ lw_all := lw_g (lw_at lw_m8 52 rfl) rfl
theorem q1810 : (Jvm.Cond.laysFinal "EelPortModel" "EelPortModel" "shoneHourThen" "[I") ∈ lw_all := lw_g (lw_at lw_m8 53 rfl) rfl
theorem q1811 : (Jvm.Cond.soleField "EelPortModel" "shoneHourThen") ∈ lw_all := lw_g (lw_at lw_m8 54 rfl) rfl
theorem q1812 : (Jvm.Cond.laysFinal "EelPortModel" "EelPortModel" "shoneLightThen" "[I") ∈ lw_all := lw_g (lw_at lw_m8 55 rfl) rfl
theorem q1813 : (Jvm.Cond.soleField "EelPortModel" "shoneLightThen") ∈ lw_all := lw_g (lw_at lw_m8 56 rfl) rfl
theorem q1814 : (Jvm.Cond.laysFinal "EelPortModel" "EelPortModel" "statusThen" "[I") ∈ lw_all := lw_g (lw_at lw_m8 57 rfl) rfl
theorem q1815 : (Jvm.Cond.soleField "EelPortModel" "statusThen") ∈ lw_all := lw_g (lw_at lw_m8 58 rfl) rfl
theorem q1816 : (Jvm.Cond.superclass "EelPortModel" "java/lang/Object") ∈ lw_all := lw_g (lw_at lw_m8 59 rfl) rfl
theorem q1818 : (Jvm.Cond.instanceMethod ({ cls := "EelPortModel", name := "thrown", desc := "()I" } : Jvm.MethodName)) ∈ lw_all := lw_g (lw_at lw_m8 61 rfl) rfl
theorem q1819 : (Jvm.Cond.selects "EelPortModel" ({ cls := "EelPortModel", name := "thrown", desc := "()I" } : Jvm.MethodName) ({ cls := "EelPortModel", name := "thrown", desc := "()I" } : Jvm.MethodName)) ∈ lw_all := lw_g (lw_at lw_m8 62 rfl) rfl
theorem q1820 : (Jvm.Cond.code ({ cls := "EelPortModel", name := "thrown", desc := "()I" } : Jvm.MethodName) prog_23_method_2_code (1 : Nat) (Option.some Jvm.ClassFile.FieldType.int)) ∈ lw_all := lw_g (lw_at lw_m8 63 rfl) rfl
theorem q1822 : (Jvm.Cond.instanceMethod ({ cls := "EelPortModel", name := "feed", desc := "(IIIII)I" } : Jvm.MethodName)) ∈ lw_all := lw_g (lw_at lw_m8 65 rfl) rfl
theorem q1823 : (Jvm.Cond.selects "EelPortModel" ({ cls := "EelPortModel", name := "feed", desc := "(IIIII)I" } : Jvm.MethodName) ({ cls := "EelPortModel", name := "feed", desc := "(IIIII)I" } : Jvm.MethodName)) ∈ lw_all := lw_g (lw_at lw_m8 66 rfl) rfl
theorem q1824 : (Jvm.Cond.code ({ cls := "EelPortModel", name := "feed", desc := "(IIIII)I" } : Jvm.MethodName) prog_23_method_9_code (8 : Nat) (Option.some Jvm.ClassFile.FieldType.int)) ∈ lw_all := lw_g (lw_at lw_m8 67 rfl) rfl
theorem q1826 : (Jvm.Cond.instanceMethod ({ cls := "EelPortModel", name := "port", desc := "(I)I" } : Jvm.MethodName)) ∈ lw_all := lw_g (lw_at lw_m8 69 rfl) rfl
theorem q1827 : (Jvm.Cond.selects "EelPortModel" ({ cls := "EelPortModel", name := "port", desc := "(I)I" } : Jvm.MethodName) ({ cls := "EelPortModel", name := "port", desc := "(I)I" } : Jvm.MethodName)) ∈ lw_all := lw_g (lw_at lw_m8 70 rfl) rfl
theorem q1828 : (Jvm.Cond.code ({ cls := "EelPortModel", name := "port", desc := "(I)I" } : Jvm.MethodName) prog_23_method_31_code (3 : Nat) (Option.some Jvm.ClassFile.FieldType.int)) ∈ lw_all := lw_g (lw_at lw_m8 71 rfl) rfl
theorem q1829 : (Jvm.Cond.methodLink "EelPortModel" (323 : Nat) ({ cls := "EelPortModel", name := "fail", desc := "(I)I" } : Jvm.MethodName)) ∈ lw_all := lw_g (lw_at lw_m8 72 rfl) rfl
theorem q1830 : (Jvm.Cond.privateMethod ({ cls := "EelPortModel", name := "fail", desc := "(I)I" } : Jvm.MethodName)) ∈ lw_tbl := lw_at lw_m8 73 rfl
theorem q1831 : (Jvm.Cond.instanceMethod ({ cls := "EelPortModel", name := "fail", desc := "(I)I" } : Jvm.MethodName)) ∈ lw_all := lw_g (lw_at lw_m8 74 rfl) rfl
theorem q1832 : (Jvm.Cond.code ({ cls := "EelPortModel", name := "fail", desc := "(I)I" } : Jvm.MethodName) prog_23_method_3_code (2 : Nat) (Option.some Jvm.ClassFile.FieldType.int)) ∈ lw_all := lw_g (lw_at lw_m8 75 rfl) rfl
theorem q1833 : (Jvm.Cond.methodLink "EelPortModel" (257 : Nat) ({ cls := "EelPortModel", name := "stepOn", desc := "()V" } : Jvm.MethodName)) ∈ lw_all := lw_g (lw_at lw_m8 76 rfl) rfl
theorem q1834 : (Jvm.Cond.privateMethod ({ cls := "EelPortModel", name := "stepOn", desc := "()V" } : Jvm.MethodName)) ∈ lw_tbl := lw_at lw_m8 77 rfl
theorem q1835 : (Jvm.Cond.instanceMethod ({ cls := "EelPortModel", name := "stepOn", desc := "()V" } : Jvm.MethodName)) ∈ lw_all := lw_g (lw_at lw_m8 78 rfl) rfl
theorem q1836 : (Jvm.Cond.code ({ cls := "EelPortModel", name := "stepOn", desc := "()V" } : Jvm.MethodName) prog_23_method_13_code (2 : Nat) (Option.none : Option Jvm.ClassFile.FieldType)) ∈ lw_all := lw_g (lw_at lw_m8 79 rfl) rfl
theorem q1837 : (Jvm.Cond.methodLink "EelPortModel" (210 : Nat) ({ cls := "EelPortModel", name := "byteAt", desc := "(I)I" } : Jvm.MethodName)) ∈ lw_all := lw_g (lw_at lw_m8 80 rfl) rfl
theorem q1838 : (Jvm.Cond.privateMethod ({ cls := "EelPortModel", name := "byteAt", desc := "(I)I" } : Jvm.MethodName)) ∈ lw_tbl := lw_at lw_m8 81 rfl
theorem q1839 : (Jvm.Cond.instanceMethod ({ cls := "EelPortModel", name := "byteAt", desc := "(I)I" } : Jvm.MethodName)) ∈ lw_all := lw_g (lw_at lw_m8 82 rfl) rfl
theorem q1840 : (Jvm.Cond.code ({ cls := "EelPortModel", name := "byteAt", desc := "(I)I" } : Jvm.MethodName) prog_23_method_10_code (2 : Nat) (Option.some Jvm.ClassFile.FieldType.int)) ∈ lw_all := lw_g (lw_at lw_m8 83 rfl) rfl
theorem q1841 : (Jvm.Cond.methodLink "EelPortModel" (220 : Nat) ({ cls := "EelPortModel", name := "isLetter", desc := "(I)Z" } : Jvm.MethodName)) ∈ lw_all := lw_g (lw_at lw_m8 84 rfl) rfl
theorem q1842 : (Jvm.Cond.static ({ cls := "EelPortModel", name := "isLetter", desc := "(I)Z" } : Jvm.MethodName)) ∈ lw_all := lw_g (lw_at lw_m8 85 rfl) rfl
theorem q1843 : (Jvm.Cond.code ({ cls := "EelPortModel", name := "isLetter", desc := "(I)Z" } : Jvm.MethodName) prog_23_method_11_code (1 : Nat) (Option.some Jvm.ClassFile.FieldType.boolean)) ∈ lw_all := lw_g (lw_at lw_m8 86 rfl) rfl
theorem q1844 : (Jvm.Cond.methodLink "EelPortModel" (224 : Nat) ({ cls := "EelPortModel", name := "isDigit", desc := "(I)Z" } : Jvm.MethodName)) ∈ lw_all := lw_g (lw_at lw_m8 87 rfl) rfl
theorem q1845 : (Jvm.Cond.static ({ cls := "EelPortModel", name := "isDigit", desc := "(I)Z" } : Jvm.MethodName)) ∈ lw_all := lw_g (lw_at lw_m8 88 rfl) rfl
theorem q1846 : (Jvm.Cond.code ({ cls := "EelPortModel", name := "isDigit", desc := "(I)Z" } : Jvm.MethodName) prog_23_method_12_code (1 : Nat) (Option.some Jvm.ClassFile.FieldType.boolean)) ∈ lw_all := lw_g (lw_at lw_m8 89 rfl) rfl
theorem q1847 : (Jvm.Cond.methodLink "EelPortModel" (230 : Nat) ({ cls := "java/lang/Math", name := "min", desc := "(II)I" } : Jvm.MethodName)) ∈ lw_all := lw_g (lw_at lw_m8 90 rfl) rfl
theorem q1848 : (Jvm.Cond.methodLink "EelPortModel" (326 : Nat) ({ cls := "EelPortModel", name := "readLine", desc := "(Z)Z" } : Jvm.MethodName)) ∈ lw_all := lw_g (lw_at lw_m8 91 rfl) rfl
theorem q1849 : (Jvm.Cond.privateMethod ({ cls := "EelPortModel", name := "readLine", desc := "(Z)Z" } : Jvm.MethodName)) ∈ lw_tbl := lw_at lw_m8 92 rfl
theorem q1850 : (Jvm.Cond.instanceMethod ({ cls := "EelPortModel", name := "readLine", desc := "(Z)Z" } : Jvm.MethodName)) ∈ lw_all := lw_g (lw_at lw_m8 93 rfl) rfl
theorem q1851 : (Jvm.Cond.code ({ cls := "EelPortModel", name := "readLine", desc := "(Z)Z" } : Jvm.MethodName) prog_23_method_30_code (6 : Nat) (Option.some Jvm.ClassFile.FieldType.boolean)) ∈ lw_all := lw_g (lw_at lw_m8 94 rfl) rfl
theorem q1852 : (Jvm.Cond.stringRef "EelPortModel" (289 : Nat) "price") ∈ lw_tbl := lw_at lw_m8 95 rfl
theorem q1853 : (Jvm.Cond.methodLink "EelPortModel" (253 : Nat) ({ cls := "EelPortModel", name := "is", desc := "(Ljava/lang/String;)Z" } : Jvm.MethodName)) ∈ lw_all := lw_g (lw_at lw_m8 96 rfl) rfl
theorem q1854 : (Jvm.Cond.privateMethod ({ cls := "EelPortModel", name := "is", desc := "(Ljava/lang/String;)Z" } : Jvm.MethodName)) ∈ lw_tbl := lw_at lw_m8 97 rfl
theorem q1855 : (Jvm.Cond.instanceMethod ({ cls := "EelPortModel", name := "is", desc := "(Ljava/lang/String;)Z" } : Jvm.MethodName)) ∈ lw_all := lw_g (lw_at lw_m8 98 rfl) rfl
theorem q1856 : (Jvm.Cond.code ({ cls := "EelPortModel", name := "is", desc := "(Ljava/lang/String;)Z" } : Jvm.MethodName) prog_23_method_15_code (4 : Nat) (Option.some Jvm.ClassFile.FieldType.boolean)) ∈ lw_all := lw_g (lw_at lw_m8 99 rfl) rfl
theorem q1857 : (Jvm.Cond.methodLink "EelPortModel" (245 : Nat) ({ cls := "java/lang/String", name := "length", desc := "()I" } : Jvm.MethodName)) ∈ lw_all := lw_g (lw_at lw_m8 100 rfl) rfl
theorem q1858 : (Jvm.Cond.methodLink "EelPortModel" (249 : Nat) ({ cls := "java/lang/String", name := "charAt", desc := "(I)C" } : Jvm.MethodName)) ∈ lw_all := lw_g (lw_at lw_m8 101 rfl) rfl
theorem q1873 : (Jvm.Cond.methodLink "EelPortModel" (260 : Nat) ({ cls := "EelPortModel", name := "wrong", desc := "(I)V" } : Jvm.MethodName)) ∈ lw_all := lw_g (lw_at lw_m8 116 rfl) rfl
theorem q1874 : (Jvm.Cond.privateMethod ({ cls := "EelPortModel", name := "wrong", desc := "(I)V" } : Jvm.MethodName)) ∈ lw_tbl := lw_at lw_m8 117 rfl
theorem q1875 : (Jvm.Cond.instanceMethod ({ cls := "EelPortModel", name := "wrong", desc := "(I)V" } : Jvm.MethodName)) ∈ lw_all := lw_g (lw_at lw_m8 118 rfl) rfl
theorem q1876 : (Jvm.Cond.code ({ cls := "EelPortModel", name := "wrong", desc := "(I)V" } : Jvm.MethodName) prog_23_method_14_code (2 : Nat) (Option.none : Option Jvm.ClassFile.FieldType)) ∈ lw_all := lw_g (lw_at lw_m8 119 rfl) rfl
theorem q1877 : (Jvm.Cond.methodLink "EelPortModel" (291 : Nat) ({ cls := "EelPortModel", name := "which", desc := "([Ljava/lang/String;)I" } : Jvm.MethodName)) ∈ lw_all := lw_g (lw_at lw_m8 120 rfl) rfl
theorem q1878 : (Jvm.Cond.privateMethod ({ cls := "EelPortModel", name := "which", desc := "([Ljava/lang/String;)I" } : Jvm.MethodName)) ∈ lw_tbl := lw_at lw_m8 121 rfl
theorem q1879 : (Jvm.Cond.instanceMethod ({ cls := "EelPortModel", name := "which", desc := "([Ljava/lang/String;)I" } : Jvm.MethodName)) ∈ lw_all := lw_g (lw_at lw_m8 122 rfl) rfl
theorem q1880 : (Jvm.Cond.code ({ cls := "EelPortModel", name := "which", desc := "([Ljava/lang/String;)I" } : Jvm.MethodName) prog_23_method_16_code (3 : Nat) (Option.some Jvm.ClassFile.FieldType.int)) ∈ lw_all := lw_g (lw_at lw_m8 123 rfl) rfl
theorem q1881 : (Jvm.Cond.methodLink "EelPortModel" (295 : Nat) ({ cls := "EelPortModel", name := "readQuay", desc := "(I)V" } : Jvm.MethodName)) ∈ lw_all := lw_g (lw_at lw_m8 124 rfl) rfl
theorem q1882 : (Jvm.Cond.privateMethod ({ cls := "EelPortModel", name := "readQuay", desc := "(I)V" } : Jvm.MethodName)) ∈ lw_tbl := lw_at lw_m8 125 rfl
theorem q1883 : (Jvm.Cond.instanceMethod ({ cls := "EelPortModel", name := "readQuay", desc := "(I)V" } : Jvm.MethodName)) ∈ lw_all := lw_g (lw_at lw_m8 126 rfl) rfl
theorem q1884 : (Jvm.Cond.code ({ cls := "EelPortModel", name := "readQuay", desc := "(I)V" } : Jvm.MethodName) prog_23_method_23_code (3 : Nat) (Option.none : Option Jvm.ClassFile.FieldType)) ∈ lw_all := lw_g (lw_at lw_m8 127 rfl) rfl
theorem q1885 : (Jvm.Cond.methodLink "EelPortModel" (270 : Nat) ({ cls := "EelPortModel", name := "open", desc := "(II)Z" } : Jvm.MethodName)) ∈ lw_all := lw_g (lw_at lw_m8 128 rfl) rfl
theorem q1886 : (Jvm.Cond.privateMethod ({ cls := "EelPortModel", name := "open", desc := "(II)Z" } : Jvm.MethodName)) ∈ lw_tbl := lw_at lw_m8 129 rfl
theorem q1887 : (Jvm.Cond.instanceMethod ({ cls := "EelPortModel", name := "open", desc := "(II)Z" } : Jvm.MethodName)) ∈ lw_all := lw_g (lw_at lw_m8 130 rfl) rfl
theorem q1888 : (Jvm.Cond.code ({ cls := "EelPortModel", name := "open", desc := "(II)Z" } : Jvm.MethodName) prog_23_method_22_code (3 : Nat) (Option.some Jvm.ClassFile.FieldType.boolean)) ∈ lw_all := lw_g (lw_at lw_m8 131 rfl) rfl
theorem q1889 : (Jvm.Cond.methodLink "EelPortModel" (273 : Nat) ({ cls := "EelPortModel", name := "readNumber", desc := "(II)I" } : Jvm.MethodName)) ∈ lw_all := lw_g (lw_at lw_m8 132 rfl) rfl
theorem q1890 : (Jvm.Cond.privateMethod ({ cls := "EelPortModel", name := "readNumber", desc := "(II)I" } : Jvm.MethodName)) ∈ lw_tbl := lw_at lw_m8 133 rfl
theorem q1891 : (Jvm.Cond.instanceMethod ({ cls := "EelPortModel", name := "readNumber", desc := "(II)I" } : Jvm.MethodName)) ∈ lw_all := lw_g (lw_at lw_m8 134 rfl) rfl
theorem q1892 : (Jvm.Cond.code ({ cls := "EelPortModel", name := "readNumber", desc := "(II)I" } : Jvm.MethodName) prog_23_method_19_code (4 : Nat) (Option.some Jvm.ClassFile.FieldType.int)) ∈ lw_all := lw_g (lw_at lw_m8 135 rfl) rfl
theorem q1893 : (Jvm.Cond.methodLink "EelPortModel" (264 : Nat) ({ cls := "EelPortModel", name := "numberNow", desc := "(II)I" } : Jvm.MethodName)) ∈ lw_all := lw_g (lw_at lw_m8 136 rfl) rfl
theorem q1894 : (Jvm.Cond.privateMethod ({ cls := "EelPortModel", name := "numberNow", desc := "(II)I" } : Jvm.MethodName)) ∈ lw_tbl := lw_at lw_m8 137 rfl
theorem q1895 : (Jvm.Cond.instanceMethod ({ cls := "EelPortModel", name := "numberNow", desc := "(II)I" } : Jvm.MethodName)) ∈ lw_all := lw_g (lw_at lw_m8 138 rfl) rfl
theorem q1896 : (Jvm.Cond.code ({ cls := "EelPortModel", name := "numberNow", desc := "(II)I" } : Jvm.MethodName) prog_23_method_18_code (3 : Nat) (Option.some Jvm.ClassFile.FieldType.int)) ∈ lw_all := lw_g (lw_at lw_m8 139 rfl) rfl
theorem q1897 : (Jvm.Cond.stringRef "EelPortModel" (276 : Nat) "salt") ∈ lw_tbl := lw_at lw_m8 140 rfl
theorem q1898 : (Jvm.Cond.methodLink "EelPortModel" (277 : Nat) ({ cls := "EelPortModel", name := "passes", desc := "(Ljava/lang/String;)Z" } : Jvm.MethodName)) ∈ lw_all := lw_g (lw_at lw_m8 141 rfl) rfl
theorem q1899 : (Jvm.Cond.privateMethod ({ cls := "EelPortModel", name := "passes", desc := "(Ljava/lang/String;)Z" } : Jvm.MethodName)) ∈ lw_tbl := lw_at lw_m8 142 rfl
theorem q1900 : (Jvm.Cond.instanceMethod ({ cls := "EelPortModel", name := "passes", desc := "(Ljava/lang/String;)Z" } : Jvm.MethodName)) ∈ lw_all := lw_g (lw_at lw_m8 143 rfl) rfl
theorem q1901 : (Jvm.Cond.code ({ cls := "EelPortModel", name := "passes", desc := "(Ljava/lang/String;)Z" } : Jvm.MethodName) prog_23_method_17_code (3 : Nat) (Option.some Jvm.ClassFile.FieldType.boolean)) ∈ lw_all := lw_g (lw_at lw_m8 144 rfl) rfl
theorem q1902 : (Jvm.Cond.methodLink "EelPortModel" (298 : Nat) ({ cls := "EelPortModel", name := "readEel", desc := "(I)V" } : Jvm.MethodName)) ∈ lw_all := lw_g (lw_at lw_m8 145 rfl) rfl
theorem q1903 : (Jvm.Cond.privateMethod ({ cls := "EelPortModel", name := "readEel", desc := "(I)V" } : Jvm.MethodName)) ∈ lw_tbl := lw_at lw_m8 146 rfl
theorem q1904 : (Jvm.Cond.instanceMethod ({ cls := "EelPortModel", name := "readEel", desc := "(I)V" } : Jvm.MethodName)) ∈ lw_all := lw_g (lw_at lw_m8 147 rfl) rfl
theorem q1905 : (Jvm.Cond.code ({ cls := "EelPortModel", name := "readEel", desc := "(I)V" } : Jvm.MethodName) prog_23_method_25_code (3 : Nat) (Option.none : Option Jvm.ClassFile.FieldType)) ∈ lw_all := lw_g (lw_at lw_m8 148 rfl) rfl
theorem q1906 : (Jvm.Cond.methodLink "EelPortModel" (280 : Nat) ({ cls := "EelPortModel", name := "readOne", desc := "(I)I" } : Jvm.MethodName)) ∈ lw_all := lw_g (lw_at lw_m8 149 rfl) rfl
theorem q1907 : (Jvm.Cond.privateMethod ({ cls := "EelPortModel", name := "readOne", desc := "(I)I" } : Jvm.MethodName)) ∈ lw_tbl := lw_at lw_m8 150 rfl
theorem q1908 : (Jvm.Cond.instanceMethod ({ cls := "EelPortModel", name := "readOne", desc := "(I)I" } : Jvm.MethodName)) ∈ lw_all := lw_g (lw_at lw_m8 151 rfl) rfl
theorem q1909 : (Jvm.Cond.code ({ cls := "EelPortModel", name := "readOne", desc := "(I)I" } : Jvm.MethodName) prog_23_method_21_code (3 : Nat) (Option.some Jvm.ClassFile.FieldType.int)) ∈ lw_all := lw_g (lw_at lw_m8 152 rfl) rfl
theorem q1910 : (Jvm.Cond.methodLink "EelPortModel" (267 : Nat) ({ cls := "EelPortModel", name := "oneNow", desc := "(I)I" } : Jvm.MethodName)) ∈ lw_all := lw_g (lw_at lw_m8 153 rfl) rfl
theorem q1911 : (Jvm.Cond.privateMethod ({ cls := "EelPortModel", name := "oneNow", desc := "(I)I" } : Jvm.MethodName)) ∈ lw_tbl := lw_at lw_m8 154 rfl
theorem q1912 : (Jvm.Cond.instanceMethod ({ cls := "EelPortModel", name := "oneNow", desc := "(I)I" } : Jvm.MethodName)) ∈ lw_all := lw_g (lw_at lw_m8 155 rfl) rfl
theorem q1913 : (Jvm.Cond.code ({ cls := "EelPortModel", name := "oneNow", desc := "(I)I" } : Jvm.MethodName) prog_23_method_20_code (3 : Nat) (Option.some Jvm.ClassFile.FieldType.int)) ∈ lw_all := lw_g (lw_at lw_m8 156 rfl) rfl
theorem q1914 : (Jvm.Cond.methodLink "EelPortModel" (301 : Nat) ({ cls := "EelPortModel", name := "readShip", desc := "(I)V" } : Jvm.MethodName)) ∈ lw_all := lw_g (lw_at lw_m8 157 rfl) rfl
theorem q1915 : (Jvm.Cond.privateMethod ({ cls := "EelPortModel", name := "readShip", desc := "(I)V" } : Jvm.MethodName)) ∈ lw_tbl := lw_at lw_m8 158 rfl
theorem q1916 : (Jvm.Cond.instanceMethod ({ cls := "EelPortModel", name := "readShip", desc := "(I)V" } : Jvm.MethodName)) ∈ lw_all := lw_g (lw_at lw_m8 159 rfl) rfl
theorem q1917 : (Jvm.Cond.code ({ cls := "EelPortModel", name := "readShip", desc := "(I)V" } : Jvm.MethodName) prog_23_method_26_code (3 : Nat) (Option.none : Option Jvm.ClassFile.FieldType)) ∈ lw_all := lw_g (lw_at lw_m8 160 rfl) rfl
theorem q1918 : (Jvm.Cond.stringRef "EelPortModel" (304 : Nat) "way") ∈ lw_tbl := lw_at lw_m8 161 rfl
theorem q1919 : (Jvm.Cond.methodLink "EelPortModel" (306 : Nat) ({ cls := "EelPortModel", name := "readWay", desc := "()V" } : Jvm.MethodName)) ∈ lw_all := lw_g (lw_at lw_m8 162 rfl) rfl
theorem q1920 : (Jvm.Cond.privateMethod ({ cls := "EelPortModel", name := "readWay", desc := "()V" } : Jvm.MethodName)) ∈ lw_tbl := lw_at lw_m8 163 rfl
theorem q1921 : (Jvm.Cond.instanceMethod ({ cls := "EelPortModel", name := "readWay", desc := "()V" } : Jvm.MethodName)) ∈ lw_all := lw_g (lw_at lw_m8 164 rfl) rfl
theorem q1922 : (Jvm.Cond.code ({ cls := "EelPortModel", name := "readWay", desc := "()V" } : Jvm.MethodName) prog_23_method_24_code (3 : Nat) (Option.none : Option Jvm.ClassFile.FieldType)) ∈ lw_all := lw_g (lw_at lw_m8 165 rfl) rfl
theorem q1923 : (Jvm.Cond.stringRef "EelPortModel" (309 : Nat) "moon") ∈ lw_tbl := lw_at lw_m8 166 rfl
theorem q1924 : (Jvm.Cond.methodLink "EelPortModel" (310 : Nat) ({ cls := "EelPortModel", name := "readMoon", desc := "()V" } : Jvm.MethodName)) ∈ lw_all := lw_g (lw_at lw_m8 167 rfl) rfl
theorem q1925 : (Jvm.Cond.privateMethod ({ cls := "EelPortModel", name := "readMoon", desc := "()V" } : Jvm.MethodName)) ∈ lw_tbl := lw_at lw_m8 168 rfl
theorem q1926 : (Jvm.Cond.instanceMethod ({ cls := "EelPortModel", name := "readMoon", desc := "()V" } : Jvm.MethodName)) ∈ lw_all := lw_g (lw_at lw_m8 169 rfl) rfl
theorem q1927 : (Jvm.Cond.code ({ cls := "EelPortModel", name := "readMoon", desc := "()V" } : Jvm.MethodName) prog_23_method_28_code (2 : Nat) (Option.none : Option Jvm.ClassFile.FieldType)) ∈ lw_all := lw_g (lw_at lw_m8 170 rfl) rfl
theorem q1928 : (Jvm.Cond.stringRef "EelPortModel" (313 : Nat) "cold") ∈ lw_tbl := lw_at lw_m8 171 rfl
theorem q1929 : (Jvm.Cond.methodLink "EelPortModel" (315 : Nat) ({ cls := "EelPortModel", name := "readCold", desc := "()V" } : Jvm.MethodName)) ∈ lw_all := lw_g (lw_at lw_m8 172 rfl) rfl
theorem q1930 : (Jvm.Cond.privateMethod ({ cls := "EelPortModel", name := "readCold", desc := "()V" } : Jvm.MethodName)) ∈ lw_tbl := lw_at lw_m8 173 rfl
theorem q1931 : (Jvm.Cond.instanceMethod ({ cls := "EelPortModel", name := "readCold", desc := "()V" } : Jvm.MethodName)) ∈ lw_all := lw_g (lw_at lw_m8 174 rfl) rfl
theorem q1932 : (Jvm.Cond.code ({ cls := "EelPortModel", name := "readCold", desc := "()V" } : Jvm.MethodName) prog_23_method_29_code (2 : Nat) (Option.none : Option Jvm.ClassFile.FieldType)) ∈ lw_all := lw_g (lw_at lw_m8 175 rfl) rfl
theorem q1933 : (Jvm.Cond.stringRef "EelPortModel" (318 : Nat) "hood") ∈ lw_tbl := lw_at lw_m8 176 rfl
theorem q1934 : (Jvm.Cond.methodLink "EelPortModel" (320 : Nat) ({ cls := "EelPortModel", name := "readHood", desc := "()V" } : Jvm.MethodName)) ∈ lw_all := lw_g (lw_at lw_m8 177 rfl) rfl
theorem q1935 : (Jvm.Cond.privateMethod ({ cls := "EelPortModel", name := "readHood", desc := "()V" } : Jvm.MethodName)) ∈ lw_tbl := lw_at lw_m8 178 rfl
theorem q1936 : (Jvm.Cond.instanceMethod ({ cls := "EelPortModel", name := "readHood", desc := "()V" } : Jvm.MethodName)) ∈ lw_all := lw_g (lw_at lw_m8 179 rfl) rfl
theorem q1937 : (Jvm.Cond.code ({ cls := "EelPortModel", name := "readHood", desc := "()V" } : Jvm.MethodName) prog_23_method_27_code (2 : Nat) (Option.none : Option Jvm.ClassFile.FieldType)) ∈ lw_all := lw_g (lw_at lw_m8 180 rfl) rfl
theorem q1938 : (Jvm.Cond.methodLink "EelPortModel" (330 : Nat) ({ cls := "EelPortModel", name := "take", desc := "()V" } : Jvm.MethodName)) ∈ lw_all := lw_g (lw_at lw_m8 181 rfl) rfl
theorem q1939 : (Jvm.Cond.privateMethod ({ cls := "EelPortModel", name := "take", desc := "()V" } : Jvm.MethodName)) ∈ lw_tbl := lw_at lw_m8 182 rfl
theorem q1940 : (Jvm.Cond.instanceMethod ({ cls := "EelPortModel", name := "take", desc := "()V" } : Jvm.MethodName)) ∈ lw_all := lw_g (lw_at lw_m8 183 rfl) rfl
theorem q1941 : (Jvm.Cond.code ({ cls := "EelPortModel", name := "take", desc := "()V" } : Jvm.MethodName) prog_23_method_33_code (1 : Nat) (Option.none : Option Jvm.ClassFile.FieldType)) ∈ lw_all := lw_g (lw_at lw_m8 184 rfl) rfl
theorem q1942 : (Jvm.Cond.methodLink "EelPortModel" (333 : Nat) ({ cls := "EelPortModel", name := "takeHalf", desc := "([I)V" } : Jvm.MethodName)) ∈ lw_all := lw_g (lw_at lw_m8 185 rfl) rfl
theorem q1943 : (Jvm.Cond.static ({ cls := "EelPortModel", name := "takeHalf", desc := "([I)V" } : Jvm.MethodName)) ∈ lw_all := lw_g (lw_at lw_m8 186 rfl) rfl
theorem q1944 : (Jvm.Cond.code ({ cls := "EelPortModel", name := "takeHalf", desc := "([I)V" } : Jvm.MethodName) prog_23_method_32_code (2 : Nat) (Option.none : Option Jvm.ClassFile.FieldType)) ∈ lw_all := lw_g (lw_at lw_m8 187 rfl) rfl
theorem q1946 : (Jvm.Cond.instanceMethod ({ cls := "EelPortModel", name := "fault", desc := "()I" } : Jvm.MethodName)) ∈ lw_all := lw_g (lw_at lw_m8 189 rfl) rfl
theorem q1947 : (Jvm.Cond.selects "EelPortModel" ({ cls := "EelPortModel", name := "fault", desc := "()I" } : Jvm.MethodName) ({ cls := "EelPortModel", name := "fault", desc := "()I" } : Jvm.MethodName)) ∈ lw_all := lw_g (lw_at lw_m8 190 rfl) rfl
theorem q1948 : (Jvm.Cond.code ({ cls := "EelPortModel", name := "fault", desc := "()I" } : Jvm.MethodName) prog_23_method_34_code (1 : Nat) (Option.some Jvm.ClassFile.FieldType.int)) ∈ lw_all := lw_g (lw_at lw_m8 191 rfl) rfl
theorem q1950 : (Jvm.Cond.instanceMethod ({ cls := "EelPortModel", name := "count", desc := "(I)I" } : Jvm.MethodName)) ∈ lw_all := lw_g (lw_at lw_m8 193 rfl) rfl
theorem q1951 : (Jvm.Cond.selects "EelPortModel" ({ cls := "EelPortModel", name := "count", desc := "(I)I" } : Jvm.MethodName) ({ cls := "EelPortModel", name := "count", desc := "(I)I" } : Jvm.MethodName)) ∈ lw_all := lw_g (lw_at lw_m8 194 rfl) rfl
theorem q1952 : (Jvm.Cond.code ({ cls := "EelPortModel", name := "count", desc := "(I)I" } : Jvm.MethodName) prog_23_method_44_code (2 : Nat) (Option.some Jvm.ClassFile.FieldType.int)) ∈ lw_all := lw_g (lw_at lw_m8 195 rfl) rfl
theorem q1953 : (Jvm.Cond.methodLink "EelPortModel" (197 : Nat) ({ cls := "EelPortModel", name := "isIn", desc := "(III)Z" } : Jvm.MethodName)) ∈ lw_all := lw_g (lw_at lw_m8 196 rfl) rfl
theorem q1954 : (Jvm.Cond.static ({ cls := "EelPortModel", name := "isIn", desc := "(III)Z" } : Jvm.MethodName)) ∈ lw_all := lw_g (lw_at lw_m8 197 rfl) rfl
theorem q1955 : (Jvm.Cond.code ({ cls := "EelPortModel", name := "isIn", desc := "(III)Z" } : Jvm.MethodName) prog_23_method_4_code (3 : Nat) (Option.some Jvm.ClassFile.FieldType.boolean)) ∈ lw_all := lw_g (lw_at lw_m8 198 rfl) rfl
theorem q1956 : (Jvm.Cond.methodLink "EelPortModel" (373 : Nat) ({ cls := "EelPortModel", name := "priceOf", desc := "(I)I" } : Jvm.MethodName)) ∈ lw_all := lw_g (lw_at lw_m8 199 rfl) rfl
theorem q1957 : (Jvm.Cond.privateMethod ({ cls := "EelPortModel", name := "priceOf", desc := "(I)I" } : Jvm.MethodName)) ∈ lw_tbl := lw_at lw_m8 200 rfl
theorem q1958 : (Jvm.Cond.instanceMethod ({ cls := "EelPortModel", name := "priceOf", desc := "(I)I" } : Jvm.MethodName)) ∈ lw_all := lw_g (lw_at lw_m8 201 rfl) rfl
theorem q1959 : (Jvm.Cond.code ({ cls := "EelPortModel", name := "priceOf", desc := "(I)I" } : Jvm.MethodName) prog_23_method_45_code (4 : Nat) (Option.some Jvm.ClassFile.FieldType.int)) ∈ lw_all := lw_g (lw_at lw_m8 202 rfl) rfl
theorem q1961 : (Jvm.Cond.instanceMethod ({ cls := "EelPortModel", name := "quay", desc := "(II)I" } : Jvm.MethodName)) ∈ lw_all := lw_g (lw_at lw_m8 204 rfl) rfl
theorem q1962 : (Jvm.Cond.selects "EelPortModel" ({ cls := "EelPortModel", name := "quay", desc := "(II)I" } : Jvm.MethodName) ({ cls := "EelPortModel", name := "quay", desc := "(II)I" } : Jvm.MethodName)) ∈ lw_all := lw_g (lw_at lw_m8 205 rfl) rfl
theorem q1963 : (Jvm.Cond.code ({ cls := "EelPortModel", name := "quay", desc := "(II)I" } : Jvm.MethodName) prog_23_method_46_code (5 : Nat) (Option.some Jvm.ClassFile.FieldType.int)) ∈ lw_all := lw_g (lw_at lw_m8 206 rfl) rfl
theorem q1964 : (Jvm.Cond.methodLink "EelPortModel" (376 : Nat) ({ cls := "EelPortModel", name := "isQuay", desc := "(I)Z" } : Jvm.MethodName)) ∈ lw_all := lw_g (lw_at lw_m8 207 rfl) rfl
theorem q1965 : (Jvm.Cond.privateMethod ({ cls := "EelPortModel", name := "isQuay", desc := "(I)Z" } : Jvm.MethodName)) ∈ lw_tbl := lw_at lw_m8 208 rfl
theorem q1966 : (Jvm.Cond.instanceMethod ({ cls := "EelPortModel", name := "isQuay", desc := "(I)Z" } : Jvm.MethodName)) ∈ lw_all := lw_g (lw_at lw_m8 209 rfl) rfl
theorem q1967 : (Jvm.Cond.code ({ cls := "EelPortModel", name := "isQuay", desc := "(I)Z" } : Jvm.MethodName) prog_23_method_5_code (2 : Nat) (Option.some Jvm.ClassFile.FieldType.boolean)) ∈ lw_all := lw_g (lw_at lw_m8 210 rfl) rfl
theorem q1969 : (Jvm.Cond.instanceMethod ({ cls := "EelPortModel", name := "eel", desc := "(II)I" } : Jvm.MethodName)) ∈ lw_all := lw_g (lw_at lw_m8 212 rfl) rfl
theorem q1970 : (Jvm.Cond.selects "EelPortModel" ({ cls := "EelPortModel", name := "eel", desc := "(II)I" } : Jvm.MethodName) ({ cls := "EelPortModel", name := "eel", desc := "(II)I" } : Jvm.MethodName)) ∈ lw_all := lw_g (lw_at lw_m8 213 rfl) rfl
theorem q1971 : (Jvm.Cond.code ({ cls := "EelPortModel", name := "eel", desc := "(II)I" } : Jvm.MethodName) prog_23_method_47_code (3 : Nat) (Option.some Jvm.ClassFile.FieldType.int)) ∈ lw_all := lw_g (lw_at lw_m8 214 rfl) rfl
theorem q1972 : (Jvm.Cond.methodLink "EelPortModel" (379 : Nat) ({ cls := "EelPortModel", name := "isEel", desc := "(I)Z" } : Jvm.MethodName)) ∈ lw_all := lw_g (lw_at lw_m8 215 rfl) rfl
theorem q1973 : (Jvm.Cond.privateMethod ({ cls := "EelPortModel", name := "isEel", desc := "(I)Z" } : Jvm.MethodName)) ∈ lw_tbl := lw_at lw_m8 216 rfl
theorem q1974 : (Jvm.Cond.instanceMethod ({ cls := "EelPortModel", name := "isEel", desc := "(I)Z" } : Jvm.MethodName)) ∈ lw_all := lw_g (lw_at lw_m8 217 rfl) rfl
theorem q1975 : (Jvm.Cond.code ({ cls := "EelPortModel", name := "isEel", desc := "(I)Z" } : Jvm.MethodName) prog_23_method_6_code (2 : Nat) (Option.some Jvm.ClassFile.FieldType.boolean)) ∈ lw_all := lw_g (lw_at lw_m8 218 rfl) rfl
theorem q1977 : (Jvm.Cond.instanceMethod ({ cls := "EelPortModel", name := "ship", desc := "(II)I" } : Jvm.MethodName)) ∈ lw_all := lw_g (lw_at lw_m8 220 rfl) rfl
theorem q1978 : (Jvm.Cond.selects "EelPortModel" ({ cls := "EelPortModel", name := "ship", desc := "(II)I" } : Jvm.MethodName) ({ cls := "EelPortModel", name := "ship", desc := "(II)I" } : Jvm.MethodName)) ∈ lw_all := lw_g (lw_at lw_m8 221 rfl) rfl
theorem q1979 : (Jvm.Cond.code ({ cls := "EelPortModel", name := "ship", desc := "(II)I" } : Jvm.MethodName) prog_23_method_48_code (3 : Nat) (Option.some Jvm.ClassFile.FieldType.int)) ∈ lw_all := lw_g (lw_at lw_m8 222 rfl) rfl
theorem q1980 : (Jvm.Cond.methodLink "EelPortModel" (382 : Nat) ({ cls := "EelPortModel", name := "isShip", desc := "(I)Z" } : Jvm.MethodName)) ∈ lw_all := lw_g (lw_at lw_m8 223 rfl) rfl
theorem q1981 : (Jvm.Cond.privateMethod ({ cls := "EelPortModel", name := "isShip", desc := "(I)Z" } : Jvm.MethodName)) ∈ lw_tbl := lw_at lw_m8 224 rfl
theorem q1982 : (Jvm.Cond.instanceMethod ({ cls := "EelPortModel", name := "isShip", desc := "(I)Z" } : Jvm.MethodName)) ∈ lw_all := lw_g (lw_at lw_m8 225 rfl) rfl
theorem q1983 : (Jvm.Cond.code ({ cls := "EelPortModel", name := "isShip", desc := "(I)Z" } : Jvm.MethodName) prog_23_method_7_code (2 : Nat) (Option.some Jvm.ClassFile.FieldType.boolean)) ∈ lw_all := lw_g (lw_at lw_m8 226 rfl) rfl
theorem q1985 : (Jvm.Cond.instanceMethod ({ cls := "EelPortModel", name := "meal", desc := "(III)I" } : Jvm.MethodName)) ∈ lw_all := lw_g (lw_at lw_m8 228 rfl) rfl
theorem q1986 : (Jvm.Cond.selects "EelPortModel" ({ cls := "EelPortModel", name := "meal", desc := "(III)I" } : Jvm.MethodName) ({ cls := "EelPortModel", name := "meal", desc := "(III)I" } : Jvm.MethodName)) ∈ lw_all := lw_g (lw_at lw_m8 229 rfl) rfl
theorem q1987 : (Jvm.Cond.code ({ cls := "EelPortModel", name := "meal", desc := "(III)I" } : Jvm.MethodName) prog_23_method_49_code (4 : Nat) (Option.some Jvm.ClassFile.FieldType.int)) ∈ lw_all := lw_g (lw_at lw_m8 230 rfl) rfl
theorem q1988 : (Jvm.Cond.methodLink "EelPortModel" (385 : Nat) ({ cls := "EelPortModel", name := "isHour", desc := "(I)Z" } : Jvm.MethodName)) ∈ lw_all := lw_g (lw_at lw_m8 231 rfl) rfl
theorem q1989 : (Jvm.Cond.static ({ cls := "EelPortModel", name := "isHour", desc := "(I)Z" } : Jvm.MethodName)) ∈ lw_all := lw_g (lw_at lw_m8 232 rfl) rfl
theorem q1990 : (Jvm.Cond.code ({ cls := "EelPortModel", name := "isHour", desc := "(I)Z" } : Jvm.MethodName) prog_23_method_8_code (1 : Nat) (Option.some Jvm.ClassFile.FieldType.boolean)) ∈ lw_all := lw_g (lw_at lw_m8 233 rfl) rfl
theorem q1991 : (Jvm.Cond.methodLink "EelPortModel" (388 : Nat) ({ cls := "EelPortModel", name := "give", desc := "(III)V" } : Jvm.MethodName)) ∈ lw_all := lw_g (lw_at lw_m8 234 rfl) rfl
theorem q1992 : (Jvm.Cond.privateMethod ({ cls := "EelPortModel", name := "give", desc := "(III)V" } : Jvm.MethodName)) ∈ lw_tbl := lw_at lw_m8 235 rfl
theorem q1993 : (Jvm.Cond.instanceMethod ({ cls := "EelPortModel", name := "give", desc := "(III)V" } : Jvm.MethodName)) ∈ lw_all := lw_g (lw_at lw_m8 236 rfl) rfl
theorem q1994 : (Jvm.Cond.code ({ cls := "EelPortModel", name := "give", desc := "(III)V" } : Jvm.MethodName) prog_23_method_35_code (4 : Nat) (Option.none : Option Jvm.ClassFile.FieldType)) ∈ lw_all := lw_g (lw_at lw_m8 237 rfl) rfl
theorem q1996 : (Jvm.Cond.instanceMethod ({ cls := "EelPortModel", name := "undo", desc := "()I" } : Jvm.MethodName)) ∈ lw_all := lw_g (lw_at lw_m8 239 rfl) rfl
theorem q1997 : (Jvm.Cond.selects "EelPortModel" ({ cls := "EelPortModel", name := "undo", desc := "()I" } : Jvm.MethodName) ({ cls := "EelPortModel", name := "undo", desc := "()I" } : Jvm.MethodName)) ∈ lw_all := lw_g (lw_at lw_m9 0 rfl) rfl
theorem q1998 : (Jvm.Cond.code ({ cls := "EelPortModel", name := "undo", desc := "()I" } : Jvm.MethodName) prog_23_method_50_code (1 : Nat) (Option.some Jvm.ClassFile.FieldType.int)) ∈ lw_all := lw_g (lw_at lw_m9 1 rfl) rfl
theorem q2000 : (Jvm.Cond.instanceMethod ({ cls := "EelPortModel", name := "cold", desc := "(I)I" } : Jvm.MethodName)) ∈ lw_all := lw_g (lw_at lw_m9 3 rfl) rfl
theorem q2001 : (Jvm.Cond.selects "EelPortModel" ({ cls := "EelPortModel", name := "cold", desc := "(I)I" } : Jvm.MethodName) ({ cls := "EelPortModel", name := "cold", desc := "(I)I" } : Jvm.MethodName)) ∈ lw_all := lw_g (lw_at lw_m9 4 rfl) rfl
theorem q2002 : (Jvm.Cond.code ({ cls := "EelPortModel", name := "cold", desc := "(I)I" } : Jvm.MethodName) prog_23_method_51_code (3 : Nat) (Option.some Jvm.ClassFile.FieldType.int)) ∈ lw_all := lw_g (lw_at lw_m9 5 rfl) rfl
theorem q2004 : (Jvm.Cond.instanceMethod ({ cls := "EelPortModel", name := "hunger", desc := "(II)I" } : Jvm.MethodName)) ∈ lw_all := lw_g (lw_at lw_m9 7 rfl) rfl
theorem q2005 : (Jvm.Cond.selects "EelPortModel" ({ cls := "EelPortModel", name := "hunger", desc := "(II)I" } : Jvm.MethodName) ({ cls := "EelPortModel", name := "hunger", desc := "(II)I" } : Jvm.MethodName)) ∈ lw_all := lw_g (lw_at lw_m9 8 rfl) rfl
theorem q2006 : (Jvm.Cond.code ({ cls := "EelPortModel", name := "hunger", desc := "(II)I" } : Jvm.MethodName) prog_23_method_52_code (3 : Nat) (Option.some Jvm.ClassFile.FieldType.int)) ∈ lw_all := lw_g (lw_at lw_m9 9 rfl) rfl
theorem q2007 : (Jvm.Cond.methodLink "EelPortModel" (392 : Nat) ({ cls := "EelPortModel", name := "tellNight", desc := "()V" } : Jvm.MethodName)) ∈ lw_all := lw_g (lw_at lw_m9 10 rfl) rfl
theorem q2008 : (Jvm.Cond.privateMethod ({ cls := "EelPortModel", name := "tellNight", desc := "()V" } : Jvm.MethodName)) ∈ lw_tbl := lw_at lw_m9 11 rfl
theorem q2009 : (Jvm.Cond.instanceMethod ({ cls := "EelPortModel", name := "tellNight", desc := "()V" } : Jvm.MethodName)) ∈ lw_all := lw_g (lw_at lw_m9 12 rfl) rfl
theorem q2010 : (Jvm.Cond.code ({ cls := "EelPortModel", name := "tellNight", desc := "()V" } : Jvm.MethodName) prog_23_method_43_code (2 : Nat) (Option.none : Option Jvm.ClassFile.FieldType)) ∈ lw_all := lw_g (lw_at lw_m9 13 rfl) rfl
theorem q2011 : (Jvm.Cond.methodLink "EelPortModel" (367 : Nat) ({ cls := "EelPortModel", name := "tellEel", desc := "(I)V" } : Jvm.MethodName)) ∈ lw_all := lw_g (lw_at lw_m9 14 rfl) rfl
theorem q2012 : (Jvm.Cond.privateMethod ({ cls := "EelPortModel", name := "tellEel", desc := "(I)V" } : Jvm.MethodName)) ∈ lw_tbl := lw_at lw_m9 15 rfl
theorem q2013 : (Jvm.Cond.instanceMethod ({ cls := "EelPortModel", name := "tellEel", desc := "(I)V" } : Jvm.MethodName)) ∈ lw_all := lw_g (lw_at lw_m9 16 rfl) rfl
theorem q2014 : (Jvm.Cond.code ({ cls := "EelPortModel", name := "tellEel", desc := "(I)V" } : Jvm.MethodName) prog_23_method_39_code (7 : Nat) (Option.none : Option Jvm.ClassFile.FieldType)) ∈ lw_all := lw_g (lw_at lw_m9 17 rfl) rfl
theorem q2015 : (Jvm.Cond.methodLink "EelPortModel" (355 : Nat) ({ cls := "EelPortModel", name := "tellMeals", desc := "(I)V" } : Jvm.MethodName)) ∈ lw_all := lw_g (lw_at lw_m9 18 rfl) rfl
theorem q2016 : (Jvm.Cond.privateMethod ({ cls := "EelPortModel", name := "tellMeals", desc := "(I)V" } : Jvm.MethodName)) ∈ lw_tbl := lw_at lw_m9 19 rfl
theorem q2017 : (Jvm.Cond.instanceMethod ({ cls := "EelPortModel", name := "tellMeals", desc := "(I)V" } : Jvm.MethodName)) ∈ lw_all := lw_g (lw_at lw_m9 20 rfl) rfl
theorem q2018 : (Jvm.Cond.code ({ cls := "EelPortModel", name := "tellMeals", desc := "(I)V" } : Jvm.MethodName) prog_23_method_38_code (3 : Nat) (Option.none : Option Jvm.ClassFile.FieldType)) ∈ lw_all := lw_g (lw_at lw_m9 21 rfl) rfl
theorem q2019 : (Jvm.Cond.methodLink "EelPortModel" (352 : Nat) ({ cls := "java/lang/Math", name := "max", desc := "(II)I" } : Jvm.MethodName)) ∈ lw_all := lw_g (lw_at lw_m9 22 rfl) rfl
theorem q2020 : (Jvm.Cond.methodLink "EelPortModel" (358 : Nat) ({ cls := "EelPortModel", name := "glowOf", desc := "(II)I" } : Jvm.MethodName)) ∈ lw_all := lw_g (lw_at lw_m9 23 rfl) rfl
theorem q2021 : (Jvm.Cond.privateMethod ({ cls := "EelPortModel", name := "glowOf", desc := "(II)I" } : Jvm.MethodName)) ∈ lw_tbl := lw_at lw_m9 24 rfl
theorem q2022 : (Jvm.Cond.instanceMethod ({ cls := "EelPortModel", name := "glowOf", desc := "(II)I" } : Jvm.MethodName)) ∈ lw_all := lw_g (lw_at lw_m9 25 rfl) rfl
theorem q2023 : (Jvm.Cond.code ({ cls := "EelPortModel", name := "glowOf", desc := "(II)I" } : Jvm.MethodName) prog_23_method_37_code (4 : Nat) (Option.some Jvm.ClassFile.FieldType.int)) ∈ lw_all := lw_g (lw_at lw_m9 26 rfl) rfl
theorem q2024 : (Jvm.Cond.methodLink "EelPortModel" (349 : Nat) ({ cls := "EelPortModel", name := "isHooded", desc := "(II)Z" } : Jvm.MethodName)) ∈ lw_all := lw_g (lw_at lw_m9 27 rfl) rfl
theorem q2025 : (Jvm.Cond.privateMethod ({ cls := "EelPortModel", name := "isHooded", desc := "(II)Z" } : Jvm.MethodName)) ∈ lw_tbl := lw_at lw_m9 28 rfl
theorem q2026 : (Jvm.Cond.instanceMethod ({ cls := "EelPortModel", name := "isHooded", desc := "(II)Z" } : Jvm.MethodName)) ∈ lw_all := lw_g (lw_at lw_m9 29 rfl) rfl
theorem q2027 : (Jvm.Cond.code ({ cls := "EelPortModel", name := "isHooded", desc := "(II)Z" } : Jvm.MethodName) prog_23_method_36_code (4 : Nat) (Option.some Jvm.ClassFile.FieldType.boolean)) ∈ lw_all := lw_g (lw_at lw_m9 30 rfl) rfl
theorem q2028 : (Jvm.Cond.methodLink "EelPortModel" (370 : Nat) ({ cls := "EelPortModel", name := "tellLights", desc := "()V" } : Jvm.MethodName)) ∈ lw_all := lw_g (lw_at lw_m9 31 rfl) rfl
theorem q2029 : (Jvm.Cond.privateMethod ({ cls := "EelPortModel", name := "tellLights", desc := "()V" } : Jvm.MethodName)) ∈ lw_tbl := lw_at lw_m9 32 rfl
theorem q2030 : (Jvm.Cond.instanceMethod ({ cls := "EelPortModel", name := "tellLights", desc := "()V" } : Jvm.MethodName)) ∈ lw_all := lw_g (lw_at lw_m9 33 rfl) rfl
theorem q2031 : (Jvm.Cond.code ({ cls := "EelPortModel", name := "tellLights", desc := "()V" } : Jvm.MethodName) prog_23_method_42_code (3 : Nat) (Option.none : Option Jvm.ClassFile.FieldType)) ∈ lw_all := lw_g (lw_at lw_m9 34 rfl) rfl
theorem q2032 : (Jvm.Cond.methodLink "EelPortModel" (364 : Nat) ({ cls := "EelPortModel", name := "lightOf", desc := "(II)I" } : Jvm.MethodName)) ∈ lw_all := lw_g (lw_at lw_m9 35 rfl) rfl
theorem q2033 : (Jvm.Cond.privateMethod ({ cls := "EelPortModel", name := "lightOf", desc := "(II)I" } : Jvm.MethodName)) ∈ lw_tbl := lw_at lw_m9 36 rfl
theorem q2034 : (Jvm.Cond.instanceMethod ({ cls := "EelPortModel", name := "lightOf", desc := "(II)I" } : Jvm.MethodName)) ∈ lw_all := lw_g (lw_at lw_m9 37 rfl) rfl
theorem q2035 : (Jvm.Cond.code ({ cls := "EelPortModel", name := "lightOf", desc := "(II)I" } : Jvm.MethodName) prog_23_method_41_code (3 : Nat) (Option.some Jvm.ClassFile.FieldType.int)) ∈ lw_all := lw_g (lw_at lw_m9 38 rfl) rfl
theorem q2036 : (Jvm.Cond.methodLink "EelPortModel" (361 : Nat) ({ cls := "EelPortModel", name := "shineAt", desc := "(II)I" } : Jvm.MethodName)) ∈ lw_all := lw_g (lw_at lw_m9 39 rfl) rfl
theorem q2037 : (Jvm.Cond.privateMethod ({ cls := "EelPortModel", name := "shineAt", desc := "(II)I" } : Jvm.MethodName)) ∈ lw_tbl := lw_at lw_m9 40 rfl
theorem q2038 : (Jvm.Cond.instanceMethod ({ cls := "EelPortModel", name := "shineAt", desc := "(II)I" } : Jvm.MethodName)) ∈ lw_all := lw_g (lw_at lw_m9 41 rfl) rfl
theorem q2039 : (Jvm.Cond.code ({ cls := "EelPortModel", name := "shineAt", desc := "(II)I" } : Jvm.MethodName) prog_23_method_40_code (5 : Nat) (Option.some Jvm.ClassFile.FieldType.int)) ∈ lw_all := lw_g (lw_at lw_m9 42 rfl) rfl
theorem q2041 : (Jvm.Cond.instanceMethod ({ cls := "EelPortModel", name := "glow", desc := "(II)I" } : Jvm.MethodName)) ∈ lw_all := lw_g (lw_at lw_m9 44 rfl) rfl
theorem q2042 : (Jvm.Cond.selects "EelPortModel" ({ cls := "EelPortModel", name := "glow", desc := "(II)I" } : Jvm.MethodName) ({ cls := "EelPortModel", name := "glow", desc := "(II)I" } : Jvm.MethodName)) ∈ lw_all := lw_g (lw_at lw_m9 45 rfl) rfl
theorem q2043 : (Jvm.Cond.code ({ cls := "EelPortModel", name := "glow", desc := "(II)I" } : Jvm.MethodName) prog_23_method_53_code (3 : Nat) (Option.some Jvm.ClassFile.FieldType.int)) ∈ lw_all := lw_g (lw_at lw_m9 46 rfl) rfl
theorem q2045 : (Jvm.Cond.instanceMethod ({ cls := "EelPortModel", name := "led", desc := "(II)I" } : Jvm.MethodName)) ∈ lw_all := lw_g (lw_at lw_m9 48 rfl) rfl
theorem q2046 : (Jvm.Cond.selects "EelPortModel" ({ cls := "EelPortModel", name := "led", desc := "(II)I" } : Jvm.MethodName) ({ cls := "EelPortModel", name := "led", desc := "(II)I" } : Jvm.MethodName)) ∈ lw_all := lw_g (lw_at lw_m9 49 rfl) rfl
theorem q2047 : (Jvm.Cond.code ({ cls := "EelPortModel", name := "led", desc := "(II)I" } : Jvm.MethodName) prog_23_method_54_code (3 : Nat) (Option.some Jvm.ClassFile.FieldType.int)) ∈ lw_all := lw_g (lw_at lw_m9 50 rfl) rfl
theorem q2049 : (Jvm.Cond.instanceMethod ({ cls := "EelPortModel", name := "light", desc := "(II)I" } : Jvm.MethodName)) ∈ lw_all := lw_g (lw_at lw_m9 52 rfl) rfl
theorem q2050 : (Jvm.Cond.selects "EelPortModel" ({ cls := "EelPortModel", name := "light", desc := "(II)I" } : Jvm.MethodName) ({ cls := "EelPortModel", name := "light", desc := "(II)I" } : Jvm.MethodName)) ∈ lw_all := lw_g (lw_at lw_m9 53 rfl) rfl
theorem q2051 : (Jvm.Cond.code ({ cls := "EelPortModel", name := "light", desc := "(II)I" } : Jvm.MethodName) prog_23_method_55_code (3 : Nat) (Option.some Jvm.ClassFile.FieldType.int)) ∈ lw_all := lw_g (lw_at lw_m9 54 rfl) rfl
theorem q2053 : (Jvm.Cond.instanceMethod ({ cls := "EelPortModel", name := "at", desc := "(II)I" } : Jvm.MethodName)) ∈ lw_all := lw_g (lw_at lw_m9 56 rfl) rfl
theorem q2054 : (Jvm.Cond.selects "EelPortModel" ({ cls := "EelPortModel", name := "at", desc := "(II)I" } : Jvm.MethodName) ({ cls := "EelPortModel", name := "at", desc := "(II)I" } : Jvm.MethodName)) ∈ lw_all := lw_g (lw_at lw_m9 57 rfl) rfl
theorem q2055 : (Jvm.Cond.code ({ cls := "EelPortModel", name := "at", desc := "(II)I" } : Jvm.MethodName) prog_23_method_62_code (3 : Nat) (Option.some Jvm.ClassFile.FieldType.int)) ∈ lw_all := lw_g (lw_at lw_m9 58 rfl) rfl
theorem q2056 : (Jvm.Cond.methodLink "EelPortModel" (411 : Nat) ({ cls := "EelPortModel", name := "sail", desc := "(I)V" } : Jvm.MethodName)) ∈ lw_all := lw_g (lw_at lw_m9 59 rfl) rfl
theorem q2057 : (Jvm.Cond.privateMethod ({ cls := "EelPortModel", name := "sail", desc := "(I)V" } : Jvm.MethodName)) ∈ lw_tbl := lw_at lw_m9 60 rfl
theorem q2058 : (Jvm.Cond.instanceMethod ({ cls := "EelPortModel", name := "sail", desc := "(I)V" } : Jvm.MethodName)) ∈ lw_all := lw_g (lw_at lw_m9 61 rfl) rfl
theorem q2059 : (Jvm.Cond.code ({ cls := "EelPortModel", name := "sail", desc := "(I)V" } : Jvm.MethodName) prog_23_method_61_code (4 : Nat) (Option.none : Option Jvm.ClassFile.FieldType)) ∈ lw_all := lw_g (lw_at lw_m9 62 rfl) rfl
theorem q2060 : (Jvm.Cond.methodLink "EelPortModel" (408 : Nat) ({ cls := "EelPortModel", name := "nextOf", desc := "(III)I" } : Jvm.MethodName)) ∈ lw_all := lw_g (lw_at lw_m9 63 rfl) rfl
theorem q2061 : (Jvm.Cond.privateMethod ({ cls := "EelPortModel", name := "nextOf", desc := "(III)I" } : Jvm.MethodName)) ∈ lw_tbl := lw_at lw_m9 64 rfl
theorem q2062 : (Jvm.Cond.instanceMethod ({ cls := "EelPortModel", name := "nextOf", desc := "(III)I" } : Jvm.MethodName)) ∈ lw_all := lw_g (lw_at lw_m9 65 rfl) rfl
theorem q2063 : (Jvm.Cond.code ({ cls := "EelPortModel", name := "nextOf", desc := "(III)I" } : Jvm.MethodName) prog_23_method_60_code (8 : Nat) (Option.some Jvm.ClassFile.FieldType.int)) ∈ lw_all := lw_g (lw_at lw_m9 66 rfl) rfl
theorem q2064 : (Jvm.Cond.methodLink "EelPortModel" (401 : Nat) ({ cls := "EelPortModel", name := "stays", desc := "(I)Z" } : Jvm.MethodName)) ∈ lw_all := lw_g (lw_at lw_m9 67 rfl) rfl
theorem q2065 : (Jvm.Cond.privateMethod ({ cls := "EelPortModel", name := "stays", desc := "(I)Z" } : Jvm.MethodName)) ∈ lw_tbl := lw_at lw_m9 68 rfl
theorem q2066 : (Jvm.Cond.instanceMethod ({ cls := "EelPortModel", name := "stays", desc := "(I)Z" } : Jvm.MethodName)) ∈ lw_all := lw_g (lw_at lw_m9 69 rfl) rfl
theorem q2067 : (Jvm.Cond.code ({ cls := "EelPortModel", name := "stays", desc := "(I)Z" } : Jvm.MethodName) prog_23_method_56_code (2 : Nat) (Option.some Jvm.ClassFile.FieldType.boolean)) ∈ lw_all := lw_g (lw_at lw_m9 70 rfl) rfl
theorem q2068 : (Jvm.Cond.methodLink "EelPortModel" (404 : Nat) ({ cls := "EelPortModel", name := "draw", desc := "(III)I" } : Jvm.MethodName)) ∈ lw_all := lw_g (lw_at lw_m9 71 rfl) rfl
theorem q2069 : (Jvm.Cond.privateMethod ({ cls := "EelPortModel", name := "draw", desc := "(III)I" } : Jvm.MethodName)) ∈ lw_tbl := lw_at lw_m9 72 rfl
theorem q2070 : (Jvm.Cond.instanceMethod ({ cls := "EelPortModel", name := "draw", desc := "(III)I" } : Jvm.MethodName)) ∈ lw_all := lw_g (lw_at lw_m9 73 rfl) rfl
theorem q2071 : (Jvm.Cond.code ({ cls := "EelPortModel", name := "draw", desc := "(III)I" } : Jvm.MethodName) prog_23_method_59_code (4 : Nat) (Option.some Jvm.ClassFile.FieldType.int)) ∈ lw_all := lw_g (lw_at lw_m9 74 rfl) rfl
theorem q2072 : (Jvm.Cond.methodLink "EelPortModel" (395 : Nat) ({ cls := "EelPortModel", name := "hungersAt", desc := "(II)I" } : Jvm.MethodName)) ∈ lw_all := lw_g (lw_at lw_m9 75 rfl) rfl
theorem q2073 : (Jvm.Cond.privateMethod ({ cls := "EelPortModel", name := "hungersAt", desc := "(II)I" } : Jvm.MethodName)) ∈ lw_tbl := lw_at lw_m9 76 rfl
theorem q2074 : (Jvm.Cond.instanceMethod ({ cls := "EelPortModel", name := "hungersAt", desc := "(II)I" } : Jvm.MethodName)) ∈ lw_all := lw_g (lw_at lw_m9 77 rfl) rfl
theorem q2075 : (Jvm.Cond.code ({ cls := "EelPortModel", name := "hungersAt", desc := "(II)I" } : Jvm.MethodName) prog_23_method_58_code (5 : Nat) (Option.some Jvm.ClassFile.FieldType.int)) ∈ lw_all := lw_g (lw_at lw_m9 78 rfl) rfl
theorem q2076 : (Jvm.Cond.methodLink "EelPortModel" (398 : Nat) ({ cls := "EelPortModel", name := "isSeen", desc := "(III)Z" } : Jvm.MethodName)) ∈ lw_all := lw_g (lw_at lw_m9 79 rfl) rfl
theorem q2077 : (Jvm.Cond.privateMethod ({ cls := "EelPortModel", name := "isSeen", desc := "(III)Z" } : Jvm.MethodName)) ∈ lw_tbl := lw_at lw_m9 80 rfl
theorem q2078 : (Jvm.Cond.instanceMethod ({ cls := "EelPortModel", name := "isSeen", desc := "(III)Z" } : Jvm.MethodName)) ∈ lw_all := lw_g (lw_at lw_m9 81 rfl) rfl
theorem q2079 : (Jvm.Cond.code ({ cls := "EelPortModel", name := "isSeen", desc := "(III)Z" } : Jvm.MethodName) prog_23_method_57_code (4 : Nat) (Option.some Jvm.ClassFile.FieldType.boolean)) ∈ lw_all := lw_g (lw_at lw_m9 82 rfl) rfl
theorem q2081 : (Jvm.Cond.instanceMethod ({ cls := "EelPortModel", name := "end", desc := "(II)I" } : Jvm.MethodName)) ∈ lw_all := lw_g (lw_at lw_m9 84 rfl) rfl
theorem q2082 : (Jvm.Cond.selects "EelPortModel" ({ cls := "EelPortModel", name := "end", desc := "(II)I" } : Jvm.MethodName) ({ cls := "EelPortModel", name := "end", desc := "(II)I" } : Jvm.MethodName)) ∈ lw_all := lw_g (lw_at lw_m9 85 rfl) rfl
theorem q2083 : (Jvm.Cond.code ({ cls := "EelPortModel", name := "end", desc := "(II)I" } : Jvm.MethodName) prog_23_method_64_code (5 : Nat) (Option.some Jvm.ClassFile.FieldType.int)) ∈ lw_all := lw_g (lw_at lw_m9 86 rfl) rfl
theorem q2084 : (Jvm.Cond.methodLink "EelPortModel" (414 : Nat) ({ cls := "EelPortModel", name := "endOf", desc := "(I)I" } : Jvm.MethodName)) ∈ lw_all := lw_g (lw_at lw_m9 87 rfl) rfl
theorem q2085 : (Jvm.Cond.privateMethod ({ cls := "EelPortModel", name := "endOf", desc := "(I)I" } : Jvm.MethodName)) ∈ lw_tbl := lw_at lw_m9 88 rfl
theorem q2086 : (Jvm.Cond.instanceMethod ({ cls := "EelPortModel", name := "endOf", desc := "(I)I" } : Jvm.MethodName)) ∈ lw_all := lw_g (lw_at lw_m9 89 rfl) rfl
theorem q2087 : (Jvm.Cond.code ({ cls := "EelPortModel", name := "endOf", desc := "(I)I" } : Jvm.MethodName) prog_23_method_63_code (3 : Nat) (Option.some Jvm.ClassFile.FieldType.int)) ∈ lw_all := lw_g (lw_at lw_m9 90 rfl) rfl
theorem q2089 : (Jvm.Cond.instanceMethod ({ cls := "EelPortModel", name := "plan", desc := "(IIII)I" } : Jvm.MethodName)) ∈ lw_all := lw_g (lw_at lw_m9 92 rfl) rfl
theorem q2090 : (Jvm.Cond.selects "EelPortModel" ({ cls := "EelPortModel", name := "plan", desc := "(IIII)I" } : Jvm.MethodName) ({ cls := "EelPortModel", name := "plan", desc := "(IIII)I" } : Jvm.MethodName)) ∈ lw_all := lw_g (lw_at lw_m9 93 rfl) rfl
theorem q2091 : (Jvm.Cond.code ({ cls := "EelPortModel", name := "plan", desc := "(IIII)I" } : Jvm.MethodName) prog_23_method_66_code (6 : Nat) (Option.some Jvm.ClassFile.FieldType.int)) ∈ lw_all := lw_g (lw_at lw_m9 94 rfl) rfl
theorem q2092 : (Jvm.Cond.methodLink "EelPortModel" (427 : Nat) ({ cls := "EelPortModel", name := "planOn", desc := "(IIIII)V" } : Jvm.MethodName)) ∈ lw_all := lw_g (lw_at lw_m9 95 rfl) rfl
theorem q2093 : (Jvm.Cond.privateMethod ({ cls := "EelPortModel", name := "planOn", desc := "(IIIII)V" } : Jvm.MethodName)) ∈ lw_tbl := lw_at lw_m9 96 rfl
theorem q2094 : (Jvm.Cond.instanceMethod ({ cls := "EelPortModel", name := "planOn", desc := "(IIIII)V" } : Jvm.MethodName)) ∈ lw_all := lw_g (lw_at lw_m9 97 rfl) rfl
theorem q2095 : (Jvm.Cond.code ({ cls := "EelPortModel", name := "planOn", desc := "(IIIII)V" } : Jvm.MethodName) prog_23_method_65_code (7 : Nat) (Option.none : Option Jvm.ClassFile.FieldType)) ∈ lw_all := lw_g (lw_at lw_m9 98 rfl) rfl
theorem q2096 : (Jvm.Cond.methodLink "EelPortModel" (423 : Nat) ({ cls := "EelPortModel", name := "be", desc := "([I[I)V" } : Jvm.MethodName)) ∈ lw_all := lw_g (lw_at lw_m9 99 rfl) rfl
theorem q2097 : (Jvm.Cond.static ({ cls := "EelPortModel", name := "be", desc := "([I[I)V" } : Jvm.MethodName)) ∈ lw_all := lw_g (lw_at lw_m9 100 rfl) rfl
theorem q2098 : (Jvm.Cond.code ({ cls := "EelPortModel", name := "be", desc := "([I[I)V" } : Jvm.MethodName) prog_23_method_83_code (3 : Nat) (Option.none : Option Jvm.ClassFile.FieldType)) ∈ lw_all := lw_g (lw_at lw_m9 101 rfl) rfl
theorem q2100 : (Jvm.Cond.instanceMethod ({ cls := "EelPortModel", name := "planned", desc := "(I)I" } : Jvm.MethodName)) ∈ lw_all := lw_g (lw_at lw_m9 103 rfl) rfl
theorem q2101 : (Jvm.Cond.selects "EelPortModel" ({ cls := "EelPortModel", name := "planned", desc := "(I)I" } : Jvm.MethodName) ({ cls := "EelPortModel", name := "planned", desc := "(I)I" } : Jvm.MethodName)) ∈ lw_all := lw_g (lw_at lw_m9 104 rfl) rfl
theorem q2102 : (Jvm.Cond.code ({ cls := "EelPortModel", name := "planned", desc := "(I)I" } : Jvm.MethodName) prog_23_method_67_code (2 : Nat) (Option.some Jvm.ClassFile.FieldType.int)) ∈ lw_all := lw_g (lw_at lw_m9 105 rfl) rfl
theorem q2104 : (Jvm.Cond.instanceMethod ({ cls := "EelPortModel", name := "odds", desc := "(II)I" } : Jvm.MethodName)) ∈ lw_all := lw_g (lw_at lw_m9 107 rfl) rfl
theorem q2105 : (Jvm.Cond.selects "EelPortModel" ({ cls := "EelPortModel", name := "odds", desc := "(II)I" } : Jvm.MethodName) ({ cls := "EelPortModel", name := "odds", desc := "(II)I" } : Jvm.MethodName)) ∈ lw_all := lw_g (lw_at lw_m9 108 rfl) rfl
theorem q2106 : (Jvm.Cond.code ({ cls := "EelPortModel", name := "odds", desc := "(II)I" } : Jvm.MethodName) prog_23_method_69_code (7 : Nat) (Option.some Jvm.ClassFile.FieldType.int)) ∈ lw_all := lw_g (lw_at lw_m9 109 rfl) rfl
theorem q2107 : (Jvm.Cond.methodLink "EelPortModel" (431 : Nat) ({ cls := "EelPortModel", name := "common", desc := "(II)I" } : Jvm.MethodName)) ∈ lw_all := lw_g (lw_at lw_m9 110 rfl) rfl
theorem q2108 : (Jvm.Cond.static ({ cls := "EelPortModel", name := "common", desc := "(II)I" } : Jvm.MethodName)) ∈ lw_all := lw_g (lw_at lw_m9 111 rfl) rfl
theorem q2109 : (Jvm.Cond.code ({ cls := "EelPortModel", name := "common", desc := "(II)I" } : Jvm.MethodName) prog_23_method_68_code (5 : Nat) (Option.some Jvm.ClassFile.FieldType.int)) ∈ lw_all := lw_g (lw_at lw_m9 112 rfl) rfl
theorem q2111 : (Jvm.Cond.instanceMethod ({ cls := "EelPortModel", name := "bright", desc := "(IIIII)I" } : Jvm.MethodName)) ∈ lw_all := lw_g (lw_at lw_m9 114 rfl) rfl
theorem q2112 : (Jvm.Cond.selects "EelPortModel" ({ cls := "EelPortModel", name := "bright", desc := "(IIIII)I" } : Jvm.MethodName) ({ cls := "EelPortModel", name := "bright", desc := "(IIIII)I" } : Jvm.MethodName)) ∈ lw_all := lw_g (lw_at lw_m9 115 rfl) rfl
theorem q2113 : (Jvm.Cond.code ({ cls := "EelPortModel", name := "bright", desc := "(IIIII)I" } : Jvm.MethodName) prog_23_method_72_code (9 : Nat) (Option.some Jvm.ClassFile.FieldType.int)) ∈ lw_all := lw_g (lw_at lw_m9 116 rfl) rfl
theorem q2114 : (Jvm.Cond.methodLink "EelPortModel" (438 : Nat) ({ cls := "EelPortModel", name := "brightOn", desc := "(IIIIII)Z" } : Jvm.MethodName)) ∈ lw_all := lw_g (lw_at lw_m9 117 rfl) rfl
theorem q2115 : (Jvm.Cond.privateMethod ({ cls := "EelPortModel", name := "brightOn", desc := "(IIIIII)Z" } : Jvm.MethodName)) ∈ lw_tbl := lw_at lw_m9 118 rfl
theorem q2116 : (Jvm.Cond.instanceMethod ({ cls := "EelPortModel", name := "brightOn", desc := "(IIIIII)Z" } : Jvm.MethodName)) ∈ lw_all := lw_g (lw_at lw_m9 119 rfl) rfl
theorem q2117 : (Jvm.Cond.code ({ cls := "EelPortModel", name := "brightOn", desc := "(IIIIII)Z" } : Jvm.MethodName) prog_23_method_71_code (9 : Nat) (Option.some Jvm.ClassFile.FieldType.boolean)) ∈ lw_all := lw_g (lw_at lw_m9 120 rfl) rfl
theorem q2118 : (Jvm.Cond.methodLink "EelPortModel" (434 : Nat) ({ cls := "EelPortModel", name := "isBright", desc := "(IIII)Z" } : Jvm.MethodName)) ∈ lw_all := lw_g (lw_at lw_m9 121 rfl) rfl
theorem q2119 : (Jvm.Cond.privateMethod ({ cls := "EelPortModel", name := "isBright", desc := "(IIII)Z" } : Jvm.MethodName)) ∈ lw_tbl := lw_at lw_m9 122 rfl
theorem q2120 : (Jvm.Cond.instanceMethod ({ cls := "EelPortModel", name := "isBright", desc := "(IIII)Z" } : Jvm.MethodName)) ∈ lw_all := lw_g (lw_at lw_m9 123 rfl) rfl
theorem q2121 : (Jvm.Cond.code ({ cls := "EelPortModel", name := "isBright", desc := "(IIII)Z" } : Jvm.MethodName) prog_23_method_70_code (6 : Nat) (Option.some Jvm.ClassFile.FieldType.boolean)) ∈ lw_all := lw_g (lw_at lw_m9 124 rfl) rfl
theorem q2123 : (Jvm.Cond.instanceMethod ({ cls := "EelPortModel", name := "rivals", desc := "(II)I" } : Jvm.MethodName)) ∈ lw_all := lw_g (lw_at lw_m9 126 rfl) rfl
theorem q2124 : (Jvm.Cond.selects "EelPortModel" ({ cls := "EelPortModel", name := "rivals", desc := "(II)I" } : Jvm.MethodName) ({ cls := "EelPortModel", name := "rivals", desc := "(II)I" } : Jvm.MethodName)) ∈ lw_all := lw_g (lw_at lw_m9 127 rfl) rfl
theorem q2125 : (Jvm.Cond.code ({ cls := "EelPortModel", name := "rivals", desc := "(II)I" } : Jvm.MethodName) prog_23_method_76_code (7 : Nat) (Option.some Jvm.ClassFile.FieldType.int)) ∈ lw_all := lw_g (lw_at lw_m9 128 rfl) rfl
theorem q2126 : (Jvm.Cond.methodLink "EelPortModel" (445 : Nat) ({ cls := "EelPortModel", name := "tellGains", desc := "(I)V" } : Jvm.MethodName)) ∈ lw_all := lw_g (lw_at lw_m9 129 rfl) rfl
theorem q2127 : (Jvm.Cond.privateMethod ({ cls := "EelPortModel", name := "tellGains", desc := "(I)V" } : Jvm.MethodName)) ∈ lw_tbl := lw_at lw_m9 130 rfl
theorem q2128 : (Jvm.Cond.instanceMethod ({ cls := "EelPortModel", name := "tellGains", desc := "(I)V" } : Jvm.MethodName)) ∈ lw_all := lw_g (lw_at lw_m9 131 rfl) rfl
theorem q2129 : (Jvm.Cond.code ({ cls := "EelPortModel", name := "tellGains", desc := "(I)V" } : Jvm.MethodName) prog_23_method_74_code (6 : Nat) (Option.none : Option Jvm.ClassFile.FieldType)) ∈ lw_all := lw_g (lw_at lw_m9 132 rfl) rfl
theorem q2130 : (Jvm.Cond.methodLink "EelPortModel" (442 : Nat) ({ cls := "EelPortModel", name := "mayFeed", desc := "(II)Z" } : Jvm.MethodName)) ∈ lw_all := lw_g (lw_at lw_m9 133 rfl) rfl
theorem q2131 : (Jvm.Cond.privateMethod ({ cls := "EelPortModel", name := "mayFeed", desc := "(II)Z" } : Jvm.MethodName)) ∈ lw_tbl := lw_at lw_m9 134 rfl
theorem q2132 : (Jvm.Cond.instanceMethod ({ cls := "EelPortModel", name := "mayFeed", desc := "(II)Z" } : Jvm.MethodName)) ∈ lw_all := lw_g (lw_at lw_m9 135 rfl) rfl
theorem q2133 : (Jvm.Cond.code ({ cls := "EelPortModel", name := "mayFeed", desc := "(II)Z" } : Jvm.MethodName) prog_23_method_73_code (3 : Nat) (Option.some Jvm.ClassFile.FieldType.boolean)) ∈ lw_all := lw_g (lw_at lw_m9 136 rfl) rfl
theorem q2134 : (Jvm.Cond.methodLink "EelPortModel" (448 : Nat) ({ cls := "EelPortModel", name := "restsAt", desc := "(II)Z" } : Jvm.MethodName)) ∈ lw_all := lw_g (lw_at lw_m9 137 rfl) rfl
theorem q2135 : (Jvm.Cond.privateMethod ({ cls := "EelPortModel", name := "restsAt", desc := "(II)Z" } : Jvm.MethodName)) ∈ lw_tbl := lw_at lw_m9 138 rfl
theorem q2136 : (Jvm.Cond.instanceMethod ({ cls := "EelPortModel", name := "restsAt", desc := "(II)Z" } : Jvm.MethodName)) ∈ lw_all := lw_g (lw_at lw_m9 139 rfl) rfl
theorem q2137 : (Jvm.Cond.code ({ cls := "EelPortModel", name := "restsAt", desc := "(II)Z" } : Jvm.MethodName) prog_23_method_75_code (4 : Nat) (Option.some Jvm.ClassFile.FieldType.boolean)) ∈ lw_all := lw_g (lw_at lw_m9 140 rfl) rfl
theorem q2139 : (Jvm.Cond.instanceMethod ({ cls := "EelPortModel", name := "shone", desc := "(III)I" } : Jvm.MethodName)) ∈ lw_all := lw_g (lw_at lw_m9 142 rfl) rfl
theorem q2140 : (Jvm.Cond.selects "EelPortModel" ({ cls := "EelPortModel", name := "shone", desc := "(III)I" } : Jvm.MethodName) ({ cls := "EelPortModel", name := "shone", desc := "(III)I" } : Jvm.MethodName)) ∈ lw_all := lw_g (lw_at lw_m9 143 rfl) rfl
theorem q2141 : (Jvm.Cond.code ({ cls := "EelPortModel", name := "shone", desc := "(III)I" } : Jvm.MethodName) prog_23_method_77_code (4 : Nat) (Option.some Jvm.ClassFile.FieldType.int)) ∈ lw_all := lw_g (lw_at lw_m9 144 rfl) rfl
theorem q2143 : (Jvm.Cond.instanceMethod ({ cls := "EelPortModel", name := "forget", desc := "()I" } : Jvm.MethodName)) ∈ lw_all := lw_g (lw_at lw_m9 146 rfl) rfl
theorem q2144 : (Jvm.Cond.selects "EelPortModel" ({ cls := "EelPortModel", name := "forget", desc := "()I" } : Jvm.MethodName) ({ cls := "EelPortModel", name := "forget", desc := "()I" } : Jvm.MethodName)) ∈ lw_all := lw_g (lw_at lw_m9 147 rfl) rfl
theorem q2145 : (Jvm.Cond.code ({ cls := "EelPortModel", name := "forget", desc := "()I" } : Jvm.MethodName) prog_23_method_78_code (1 : Nat) (Option.some Jvm.ClassFile.FieldType.int)) ∈ lw_all := lw_g (lw_at lw_m9 148 rfl) rfl
theorem q2147 : (Jvm.Cond.instanceMethod ({ cls := "EelPortModel", name := "where", desc := "(I)I" } : Jvm.MethodName)) ∈ lw_all := lw_g (lw_at lw_m9 150 rfl) rfl
theorem q2148 : (Jvm.Cond.selects "EelPortModel" ({ cls := "EelPortModel", name := "where", desc := "(I)I" } : Jvm.MethodName) ({ cls := "EelPortModel", name := "where", desc := "(I)I" } : Jvm.MethodName)) ∈ lw_all := lw_g (lw_at lw_m9 151 rfl) rfl
theorem q2149 : (Jvm.Cond.code ({ cls := "EelPortModel", name := "where", desc := "(I)I" } : Jvm.MethodName) prog_23_method_81_code (3 : Nat) (Option.some Jvm.ClassFile.FieldType.int)) ∈ lw_all := lw_g (lw_at lw_m9 152 rfl) rfl
theorem q2150 : (Jvm.Cond.methodLink "EelPortModel" (457 : Nat) ({ cls := "EelPortModel", name := "isSpent", desc := "()Z" } : Jvm.MethodName)) ∈ lw_all := lw_g (lw_at lw_m9 153 rfl) rfl
theorem q2151 : (Jvm.Cond.privateMethod ({ cls := "EelPortModel", name := "isSpent", desc := "()Z" } : Jvm.MethodName)) ∈ lw_tbl := lw_at lw_m9 154 rfl
theorem q2152 : (Jvm.Cond.instanceMethod ({ cls := "EelPortModel", name := "isSpent", desc := "()Z" } : Jvm.MethodName)) ∈ lw_all := lw_g (lw_at lw_m9 155 rfl) rfl
theorem q2153 : (Jvm.Cond.code ({ cls := "EelPortModel", name := "isSpent", desc := "()Z" } : Jvm.MethodName) prog_23_method_80_code (3 : Nat) (Option.some Jvm.ClassFile.FieldType.boolean)) ∈ lw_all := lw_g (lw_at lw_m9 156 rfl) rfl
theorem q2154 : (Jvm.Cond.methodLink "EelPortModel" (454 : Nat) ({ cls := "EelPortModel", name := "placeOn", desc := "(I)V" } : Jvm.MethodName)) ∈ lw_all := lw_g (lw_at lw_m9 157 rfl) rfl
theorem q2155 : (Jvm.Cond.privateMethod ({ cls := "EelPortModel", name := "placeOn", desc := "(I)V" } : Jvm.MethodName)) ∈ lw_tbl := lw_at lw_m9 158 rfl
theorem q2156 : (Jvm.Cond.instanceMethod ({ cls := "EelPortModel", name := "placeOn", desc := "(I)V" } : Jvm.MethodName)) ∈ lw_all := lw_g (lw_at lw_m9 159 rfl) rfl
theorem q2157 : (Jvm.Cond.code ({ cls := "EelPortModel", name := "placeOn", desc := "(I)V" } : Jvm.MethodName) prog_23_method_79_code (3 : Nat) (Option.none : Option Jvm.ClassFile.FieldType)) ∈ lw_all := lw_g (lw_at lw_m9 160 rfl) rfl
theorem q2159 : (Jvm.Cond.instanceMethod ({ cls := "EelPortModel", name := "nights", desc := "(III)I" } : Jvm.MethodName)) ∈ lw_all := lw_g (lw_at lw_m9 162 rfl) rfl
theorem q2160 : (Jvm.Cond.selects "EelPortModel" ({ cls := "EelPortModel", name := "nights", desc := "(III)I" } : Jvm.MethodName) ({ cls := "EelPortModel", name := "nights", desc := "(III)I" } : Jvm.MethodName)) ∈ lw_all := lw_g (lw_at lw_m9 163 rfl) rfl
theorem q2161 : (Jvm.Cond.code ({ cls := "EelPortModel", name := "nights", desc := "(III)I" } : Jvm.MethodName) prog_23_method_82_code (10 : Nat) (Option.some Jvm.ClassFile.FieldType.int)) ∈ lw_all := lw_g (lw_at lw_m9 164 rfl) rfl
theorem q2162 : (Jvm.Cond.constant "EelPortModel" (461 : Nat) (1103515245 : Int32)) ∈ lw_all := lw_g (lw_at lw_m9 165 rfl) rfl
theorem q2164 : (Jvm.Cond.instanceMethod ({ cls := "EelPortModel", name := "image", desc := "()V" } : Jvm.MethodName)) ∈ lw_all := lw_g (lw_at lw_m9 167 rfl) rfl
theorem q2165 : (Jvm.Cond.selects "EelPortModel" ({ cls := "EelPortModel", name := "image", desc := "()V" } : Jvm.MethodName) ({ cls := "EelPortModel", name := "image", desc := "()V" } : Jvm.MethodName)) ∈ lw_all := lw_g (lw_at lw_m9 168 rfl) rfl
theorem q2166 : (Jvm.Cond.code ({ cls := "EelPortModel", name := "image", desc := "()V" } : Jvm.MethodName) prog_23_method_84_code (1 : Nat) (Option.none : Option Jvm.ClassFile.FieldType)) ∈ lw_all := lw_g (lw_at lw_m9 169 rfl) rfl
theorem q2168 : (Jvm.Cond.instanceMethod ({ cls := "EelPortModel", name := "restore", desc := "()Z" } : Jvm.MethodName)) ∈ lw_all := lw_g (lw_at lw_m9 171 rfl) rfl
theorem q2169 : (Jvm.Cond.selects "EelPortModel" ({ cls := "EelPortModel", name := "restore", desc := "()Z" } : Jvm.MethodName) ({ cls := "EelPortModel", name := "restore", desc := "()Z" } : Jvm.MethodName)) ∈ lw_all := lw_g (lw_at lw_m9 172 rfl) rfl
theorem q2170 : (Jvm.Cond.code ({ cls := "EelPortModel", name := "restore", desc := "()Z" } : Jvm.MethodName) prog_23_method_85_code (1 : Nat) (Option.some Jvm.ClassFile.FieldType.boolean)) ∈ lw_all := lw_g (lw_at lw_m9 173 rfl) rfl
theorem q2204 : (Jvm.Cond.castable "EelPortModel" "java/lang/Object") ∈ lw_tbl := lw_at lw_m9 207 rfl
theorem in_X5 : ∀ w ∈ wsX50, w ∈ lw_all := lw_in wsX50 [1668, 1670, 1672, 1674, 1676, 1678, 1680, 1682, 1684, 1686, 1688, 1690, 1692, 1694, 1696, 1698, 1700, 1702, 1704, 1706, 1708, 1710, 1712, 1714, 1716, 1718, 1720, 1722, 1724, 1726, 1728, 1730, 1732, 1734, 1736, 1738, 1740, 1742, 1744, 1746, 1748, 1750, 1752, 1754, 1756, 1758, 1760, 1762, 1764, 1766, 1768, 1770, 1772, 1774, 1776, 1778, 1780, 1782, 1784, 1786, 1788, 1790, 1792, 1794, 1796, 1798, 1800, 1802, 1804, 1806, 1808, 1810, 1812, 1814] (by decide +kernel) (by decide +kernel)
