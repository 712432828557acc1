/-! EelPort -/
set_option maxRecDepth 100000
def RX1 : String := "EelPort"
def TX1 : u_T := fun k => match k with
  | 0 => ("EelPort", "book", "LEelPort$Book;", true)
  | 1 => ("EelPort", "image", "LEelPort$Book;", true)
  | 2 => ("EelPort", "lit", "LEelPort$Lit;", true)
  | 3 => ("EelPort", "tried", "LEelPort$Lit;", true)
  | 4 => ("EelPort", "hasImage", "Z", false)
  | 5 => ("EelPort", "tape", "[B", true)
  | 6 => ("EelPort", "taped", "I", false)
  | 7 => ("EelPort", "faultPlace", "I", false)
  | 8 => ("EelPort", "row", "[I", true)
  | 9 => ("EelPort", "plan", "[I", true)
  | 10 => ("EelPort", "planLong", "I", false)
  | 11 => ("EelPort", "bestPrice", "I", false)
  | 12 => ("EelPort", "found", "I", false)
  | _ => ("EelPort", "gain", "[I", true)
def tyX1 : Nat → FieldType := fun k => match k with
  | 0 => .object "EelPort$Book"
  | 1 => .object "EelPort$Book"
  | 2 => .object "EelPort$Lit"
  | 3 => .object "EelPort$Lit"
  | 4 => .boolean
  | 5 => .array .byte
  | 6 => .int
  | 7 => .int
  | 8 => .array .int
  | 9 => .array .int
  | 10 => .int
  | 11 => .int
  | 12 => .int
  | _ => .array .int
abbrev wsX10 : List Cond := u_ws RX1 TX1 14
set_option maxRecDepth 100000 in
theorem nmX1 : ∀ a, a < 14 → ∀ b, b < 14 → a ≠ b → (TX1 a).2.1 ≠ (TX1 b).2.1 := by decide +kernel
set_option maxRecDepth 100000 in
theorem tyX1_ok : ∀ k, k < 14 → parseFieldDescriptor (TX1 k).2.2.1 = some (tyX1 k) := by decide +kernel
abbrev cX1_init : ByteArray := prog_1_method_1_code
def yX1_init : MethodName := ⟨RX1, "<init>", "()V"⟩
def dkwX1_init_3 : List UInt8 := [42, 7, 188, 10, 181, 0, 42, 42, 2, 181, 0, 45, 42, 16, 98, 188, 10, 181, 0, 48, 177]
abbrev dktX1_init_3 : List UInt8 := dkwX1_init_3 ++ []
def dkwX1_init_2 : List UInt8 := [181, 0, 27, 42, 17, 2, 188, 188, 8, 181, 0, 30, 42, 2, 181, 0, 34, 42, 7, 188, 10, 181, 0, 38]
abbrev dktX1_init_2 : List UInt8 := dkwX1_init_2 ++ dktX1_init_3
def dkwX1_init_1 : List UInt8 := [181, 0, 16, 42, 42, 180, 0, 10, 180, 0, 19, 181, 0, 23, 42, 187, 0, 24, 89, 183, 0, 26]
abbrev dktX1_init_1 : List UInt8 := dkwX1_init_1 ++ dktX1_init_2
def dkwX1_init_0 : List UInt8 := [42, 183, 0, 1, 42, 187, 0, 7, 89, 183, 0, 9, 181, 0, 10, 42, 187, 0, 7, 89, 183, 0, 9]
abbrev dktX1_init_0 : List UInt8 := dkwX1_init_0 ++ dktX1_init_1
theorem dksX1_init_0 : cX1_init.data.toList.drop 0 = dktX1_init_0 := by decide +kernel
theorem dksX1_init_1 : cX1_init.data.toList.drop 23 = dktX1_init_1 := dk_seg dksX1_init_0 23 rfl rfl
theorem dksX1_init_2 : cX1_init.data.toList.drop 45 = dktX1_init_2 := dk_seg dksX1_init_1 22 rfl rfl
theorem dksX1_init_3 : cX1_init.data.toList.drop 69 = dktX1_init_3 := dk_seg dksX1_init_2 24 rfl rfl
theorem dX1_init_0 : decode cX1_init 0 = .ok (.aload_n 0, 1) := dk_42 (dk_at dksX1_init_0 0 rfl rfl)
theorem dX1_init_1 : decode cX1_init 1 = .ok (.invokespecial 1, 3) := dk_183 0 1 (dk_at dksX1_init_0 1 rfl rfl)
theorem dX1_init_4 : decode cX1_init 4 = .ok (.aload_n 0, 1) := dk_42 (dk_at dksX1_init_0 4 rfl rfl)
theorem dX1_init_5 : decode cX1_init 5 = .ok (.new 7, 3) := dk_187 0 7 (dk_at dksX1_init_0 5 rfl rfl)
theorem dX1_init_8 : decode cX1_init 8 = .ok (.dup, 1) := dk_89 (dk_at dksX1_init_0 8 rfl rfl)
theorem dX1_init_9 : decode cX1_init 9 = .ok (.invokespecial 9, 3) := dk_183 0 9 (dk_at dksX1_init_0 9 rfl rfl)
theorem dX1_init_12 : decode cX1_init 12 = .ok (.putfield 10, 3) := dk_181 0 10 (dk_at dksX1_init_0 12 rfl rfl)
theorem dX1_init_15 : decode cX1_init 15 = .ok (.aload_n 0, 1) := dk_42 (dk_at dksX1_init_0 15 rfl rfl)
theorem dX1_init_16 : decode cX1_init 16 = .ok (.new 7, 3) := dk_187 0 7 (dk_at dksX1_init_0 16 rfl rfl)
theorem dX1_init_19 : decode cX1_init 19 = .ok (.dup, 1) := dk_89 (dk_at dksX1_init_0 19 rfl rfl)
theorem dX1_init_20 : decode cX1_init 20 = .ok (.invokespecial 9, 3) := dk_183 0 9 (dk_at dksX1_init_0 20 rfl rfl)
theorem dX1_init_23 : decode cX1_init 23 = .ok (.putfield 16, 3) := dk_181 0 16 (dk_at dksX1_init_1 0 rfl rfl)
theorem dX1_init_26 : decode cX1_init 26 = .ok (.aload_n 0, 1) := dk_42 (dk_at dksX1_init_1 3 rfl rfl)
theorem dX1_init_27 : decode cX1_init 27 = .ok (.aload_n 0, 1) := dk_42 (dk_at dksX1_init_1 4 rfl rfl)
theorem dX1_init_28 : decode cX1_init 28 = .ok (.getfield 10, 3) := dk_180 0 10 (dk_at dksX1_init_1 5 rfl rfl)
theorem dX1_init_31 : decode cX1_init 31 = .ok (.getfield 19, 3) := dk_180 0 19 (dk_at dksX1_init_1 8 rfl rfl)
theorem dX1_init_34 : decode cX1_init 34 = .ok (.putfield 23, 3) := dk_181 0 23 (dk_at dksX1_init_1 11 rfl rfl)
theorem dX1_init_37 : decode cX1_init 37 = .ok (.aload_n 0, 1) := dk_42 (dk_at dksX1_init_1 14 rfl rfl)
theorem dX1_init_38 : decode cX1_init 38 = .ok (.new 24, 3) := dk_187 0 24 (dk_at dksX1_init_1 15 rfl rfl)
theorem dX1_init_41 : decode cX1_init 41 = .ok (.dup, 1) := dk_89 (dk_at dksX1_init_1 18 rfl rfl)
theorem dX1_init_42 : decode cX1_init 42 = .ok (.invokespecial 26, 3) := dk_183 0 26 (dk_at dksX1_init_1 19 rfl rfl)
theorem dX1_init_45 : decode cX1_init 45 = .ok (.putfield 27, 3) := dk_181 0 27 (dk_at dksX1_init_2 0 rfl rfl)
theorem dX1_init_48 : decode cX1_init 48 = .ok (.aload_n 0, 1) := dk_42 (dk_at dksX1_init_2 3 rfl rfl)
theorem dX1_init_49 : decode cX1_init 49 = .ok (.sipush 700, 3) := dk_17 2 188 (dk_at dksX1_init_2 4 rfl rfl)
theorem dX1_init_52 : decode cX1_init 52 = .ok (.newarray .byte, 2) := dk_188_8 (dk_at dksX1_init_2 7 rfl rfl)
theorem dX1_init_54 : decode cX1_init 54 = .ok (.putfield 30, 3) := dk_181 0 30 (dk_at dksX1_init_2 9 rfl rfl)
theorem dX1_init_57 : decode cX1_init 57 = .ok (.aload_n 0, 1) := dk_42 (dk_at dksX1_init_2 12 rfl rfl)
theorem dX1_init_58 : decode cX1_init 58 = .ok (.iconst (-1), 1) := dk_2 (dk_at dksX1_init_2 13 rfl rfl)
theorem dX1_init_59 : decode cX1_init 59 = .ok (.putfield 34, 3) := dk_181 0 34 (dk_at dksX1_init_2 14 rfl rfl)
theorem dX1_init_62 : decode cX1_init 62 = .ok (.aload_n 0, 1) := dk_42 (dk_at dksX1_init_2 17 rfl rfl)
theorem dX1_init_63 : decode cX1_init 63 = .ok (.iconst 4, 1) := dk_7 (dk_at dksX1_init_2 18 rfl rfl)
theorem dX1_init_64 : decode cX1_init 64 = .ok (.newarray .int, 2) := dk_188_10 (dk_at dksX1_init_2 19 rfl rfl)
theorem dX1_init_66 : decode cX1_init 66 = .ok (.putfield 38, 3) := dk_181 0 38 (dk_at dksX1_init_2 21 rfl rfl)
theorem dX1_init_69 : decode cX1_init 69 = .ok (.aload_n 0, 1) := dk_42 (dk_at dksX1_init_3 0 rfl rfl)
theorem dX1_init_70 : decode cX1_init 70 = .ok (.iconst 4, 1) := dk_7 (dk_at dksX1_init_3 1 rfl rfl)
theorem dX1_init_71 : decode cX1_init 71 = .ok (.newarray .int, 2) := dk_188_10 (dk_at dksX1_init_3 2 rfl rfl)
theorem dX1_init_73 : decode cX1_init 73 = .ok (.putfield 42, 3) := dk_181 0 42 (dk_at dksX1_init_3 4 rfl rfl)
theorem dX1_init_76 : decode cX1_init 76 = .ok (.aload_n 0, 1) := dk_42 (dk_at dksX1_init_3 7 rfl rfl)
theorem dX1_init_77 : decode cX1_init 77 = .ok (.iconst (-1), 1) := dk_2 (dk_at dksX1_init_3 8 rfl rfl)
theorem dX1_init_78 : decode cX1_init 78 = .ok (.putfield 45, 3) := dk_181 0 45 (dk_at dksX1_init_3 9 rfl rfl)
theorem dX1_init_81 : decode cX1_init 81 = .ok (.aload_n 0, 1) := dk_42 (dk_at dksX1_init_3 12 rfl rfl)
theorem dX1_init_82 : decode cX1_init 82 = .ok (.bipush 98, 2) := dk_16 98 (dk_at dksX1_init_3 13 rfl rfl)
theorem dX1_init_84 : decode cX1_init 84 = .ok (.newarray .int, 2) := dk_188_10 (dk_at dksX1_init_3 15 rfl rfl)
theorem dX1_init_86 : decode cX1_init 86 = .ok (.putfield 48, 3) := dk_181 0 48 (dk_at dksX1_init_3 17 rfl rfl)
theorem dX1_init_89 : decode cX1_init 89 = .ok (.return_, 1) := dk_177 (dk_at dksX1_init_3 20 rfl rfl)
abbrev cX1_feed : ByteArray := prog_1_method_9_code
def yX1_feed : MethodName := ⟨RX1, "feed", "(IIIII)I"⟩
def dkwX1_feed_2 : List UInt8 := [172]
abbrev dktX1_feed_2 : List UInt8 := dkwX1_feed_2 ++ []
def dkwX1_feed_1 : List UInt8 := [182, 0, 100, 42, 29, 182, 0, 100, 42, 21, 4, 182, 0, 100, 42, 21, 5, 182, 0, 100, 42, 180, 0, 97]
abbrev dktX1_feed_1 : List UInt8 := dkwX1_feed_1 ++ dktX1_feed_2
def dkwX1_feed_0 : List UInt8 := [42, 180, 0, 97, 16, 20, 96, 17, 2, 188, 164, 0, 5, 2, 172, 42, 27, 182, 0, 100, 42, 28]
abbrev dktX1_feed_0 : List UInt8 := dkwX1_feed_0 ++ dktX1_feed_1
theorem dksX1_feed_0 : cX1_feed.data.toList.drop 0 = dktX1_feed_0 := by decide +kernel
theorem dksX1_feed_1 : cX1_feed.data.toList.drop 22 = dktX1_feed_1 := dk_seg dksX1_feed_0 22 rfl rfl
theorem dksX1_feed_2 : cX1_feed.data.toList.drop 46 = dktX1_feed_2 := dk_seg dksX1_feed_1 24 rfl rfl
theorem dX1_feed_0 : decode cX1_feed 0 = .ok (.aload_n 0, 1) := dk_42 (dk_at dksX1_feed_0 0 rfl rfl)
theorem dX1_feed_1 : decode cX1_feed 1 = .ok (.getfield 97, 3) := dk_180 0 97 (dk_at dksX1_feed_0 1 rfl rfl)
theorem dX1_feed_4 : decode cX1_feed 4 = .ok (.bipush 20, 2) := dk_16 20 (dk_at dksX1_feed_0 4 rfl rfl)
theorem dX1_feed_6 : decode cX1_feed 6 = .ok (.iadd, 1) := dk_96 (dk_at dksX1_feed_0 6 rfl rfl)
theorem dX1_feed_7 : decode cX1_feed 7 = .ok (.sipush 700, 3) := dk_17 2 188 (dk_at dksX1_feed_0 7 rfl rfl)
theorem dX1_feed_10 : decode cX1_feed 10 = .ok (.if_icmp .le 5, 3) := dk_164 0 5 (dk_at dksX1_feed_0 10 rfl rfl)
theorem dX1_feed_13 : decode cX1_feed 13 = .ok (.iconst (-1), 1) := dk_2 (dk_at dksX1_feed_0 13 rfl rfl)
theorem dX1_feed_14 : decode cX1_feed 14 = .ok (.ireturn, 1) := dk_172 (dk_at dksX1_feed_0 14 rfl rfl)
theorem dX1_feed_15 : decode cX1_feed 15 = .ok (.aload_n 0, 1) := dk_42 (dk_at dksX1_feed_0 15 rfl rfl)
theorem dX1_feed_16 : decode cX1_feed 16 = .ok (.iload_n 1, 1) := dk_27 (dk_at dksX1_feed_0 16 rfl rfl)
theorem dX1_feed_17 : decode cX1_feed 17 = .ok (.invokevirtual 100, 3) := dk_182 0 100 (dk_at dksX1_feed_0 17 rfl rfl)
theorem dX1_feed_20 : decode cX1_feed 20 = .ok (.aload_n 0, 1) := dk_42 (dk_at dksX1_feed_0 20 rfl rfl)
theorem dX1_feed_21 : decode cX1_feed 21 = .ok (.iload_n 2, 1) := dk_28 (dk_at dksX1_feed_0 21 rfl rfl)
theorem dX1_feed_22 : decode cX1_feed 22 = .ok (.invokevirtual 100, 3) := dk_182 0 100 (dk_at dksX1_feed_1 0 rfl rfl)
theorem dX1_feed_25 : decode cX1_feed 25 = .ok (.aload_n 0, 1) := dk_42 (dk_at dksX1_feed_1 3 rfl rfl)
theorem dX1_feed_26 : decode cX1_feed 26 = .ok (.iload_n 3, 1) := dk_29 (dk_at dksX1_feed_1 4 rfl rfl)
theorem dX1_feed_27 : decode cX1_feed 27 = .ok (.invokevirtual 100, 3) := dk_182 0 100 (dk_at dksX1_feed_1 5 rfl rfl)
theorem dX1_feed_30 : decode cX1_feed 30 = .ok (.aload_n 0, 1) := dk_42 (dk_at dksX1_feed_1 8 rfl rfl)
theorem dX1_feed_31 : decode cX1_feed 31 = .ok (.iload 4, 2) := dk_21 4 (dk_at dksX1_feed_1 9 rfl rfl)
theorem dX1_feed_33 : decode cX1_feed 33 = .ok (.invokevirtual 100, 3) := dk_182 0 100 (dk_at dksX1_feed_1 11 rfl rfl)
theorem dX1_feed_36 : decode cX1_feed 36 = .ok (.aload_n 0, 1) := dk_42 (dk_at dksX1_feed_1 14 rfl rfl)
theorem dX1_feed_37 : decode cX1_feed 37 = .ok (.iload 5, 2) := dk_21 5 (dk_at dksX1_feed_1 15 rfl rfl)
theorem dX1_feed_39 : decode cX1_feed 39 = .ok (.invokevirtual 100, 3) := dk_182 0 100 (dk_at dksX1_feed_1 17 rfl rfl)
theorem dX1_feed_42 : decode cX1_feed 42 = .ok (.aload_n 0, 1) := dk_42 (dk_at dksX1_feed_1 20 rfl rfl)
theorem dX1_feed_43 : decode cX1_feed 43 = .ok (.getfield 97, 3) := dk_180 0 97 (dk_at dksX1_feed_1 21 rfl rfl)
theorem dX1_feed_46 : decode cX1_feed 46 = .ok (.ireturn, 1) := dk_172 (dk_at dksX1_feed_2 0 rfl rfl)
abbrev cX1_lay : ByteArray := prog_1_method_10_code
def yX1_lay : MethodName := ⟨RX1, "lay", "(I)V"⟩
def dkwX1_lay_1 : List UInt8 := [180, 0, 97, 4, 96, 181, 0, 97, 132, 2, 248, 167, 255, 226, 177]
abbrev dktX1_lay_1 : List UInt8 := dkwX1_lay_1 ++ []
def dkwX1_lay_0 : List UInt8 := [16, 24, 61, 28, 155, 0, 32, 42, 180, 0, 30, 42, 180, 0, 97, 27, 28, 122, 145, 84, 42, 89]
abbrev dktX1_lay_0 : List UInt8 := dkwX1_lay_0 ++ dktX1_lay_1
theorem dksX1_lay_0 : cX1_lay.data.toList.drop 0 = dktX1_lay_0 := by decide +kernel
theorem dksX1_lay_1 : cX1_lay.data.toList.drop 22 = dktX1_lay_1 := dk_seg dksX1_lay_0 22 rfl rfl
theorem dX1_lay_0 : decode cX1_lay 0 = .ok (.bipush 24, 2) := dk_16 24 (dk_at dksX1_lay_0 0 rfl rfl)
theorem dX1_lay_2 : decode cX1_lay 2 = .ok (.istore_n 2, 1) := dk_61 (dk_at dksX1_lay_0 2 rfl rfl)
theorem dX1_lay_3 : decode cX1_lay 3 = .ok (.iload_n 2, 1) := dk_28 (dk_at dksX1_lay_0 3 rfl rfl)
theorem dX1_lay_4 : decode cX1_lay 4 = .ok (.ifCond .lt 32, 3) := dk_155 0 32 (dk_at dksX1_lay_0 4 rfl rfl)
theorem dX1_lay_7 : decode cX1_lay 7 = .ok (.aload_n 0, 1) := dk_42 (dk_at dksX1_lay_0 7 rfl rfl)
theorem dX1_lay_8 : decode cX1_lay 8 = .ok (.getfield 30, 3) := dk_180 0 30 (dk_at dksX1_lay_0 8 rfl rfl)
theorem dX1_lay_11 : decode cX1_lay 11 = .ok (.aload_n 0, 1) := dk_42 (dk_at dksX1_lay_0 11 rfl rfl)
theorem dX1_lay_12 : decode cX1_lay 12 = .ok (.getfield 97, 3) := dk_180 0 97 (dk_at dksX1_lay_0 12 rfl rfl)
theorem dX1_lay_15 : decode cX1_lay 15 = .ok (.iload_n 1, 1) := dk_27 (dk_at dksX1_lay_0 15 rfl rfl)
theorem dX1_lay_16 : decode cX1_lay 16 = .ok (.iload_n 2, 1) := dk_28 (dk_at dksX1_lay_0 16 rfl rfl)
theorem dX1_lay_17 : decode cX1_lay 17 = .ok (.ishr, 1) := dk_122 (dk_at dksX1_lay_0 17 rfl rfl)
theorem dX1_lay_18 : decode cX1_lay 18 = .ok (.i2b, 1) := dk_145 (dk_at dksX1_lay_0 18 rfl rfl)
theorem dX1_lay_19 : decode cX1_lay 19 = .ok (.bastore, 1) := dk_84 (dk_at dksX1_lay_0 19 rfl rfl)
theorem dX1_lay_20 : decode cX1_lay 20 = .ok (.aload_n 0, 1) := dk_42 (dk_at dksX1_lay_0 20 rfl rfl)
theorem dX1_lay_21 : decode cX1_lay 21 = .ok (.dup, 1) := dk_89 (dk_at dksX1_lay_0 21 rfl rfl)
theorem dX1_lay_22 : decode cX1_lay 22 = .ok (.getfield 97, 3) := dk_180 0 97 (dk_at dksX1_lay_1 0 rfl rfl)
theorem dX1_lay_25 : decode cX1_lay 25 = .ok (.iconst 1, 1) := dk_4 (dk_at dksX1_lay_1 3 rfl rfl)
theorem dX1_lay_26 : decode cX1_lay 26 = .ok (.iadd, 1) := dk_96 (dk_at dksX1_lay_1 4 rfl rfl)
theorem dX1_lay_27 : decode cX1_lay 27 = .ok (.putfield 97, 3) := dk_181 0 97 (dk_at dksX1_lay_1 5 rfl rfl)
theorem dX1_lay_30 : decode cX1_lay 30 = .ok (.iinc 2 (-8), 3) := dk_132 2 248 (dk_at dksX1_lay_1 8 rfl rfl)
theorem dX1_lay_33 : decode cX1_lay 33 = .ok (.goto (-30), 3) := dk_167 255 226 (dk_at dksX1_lay_1 11 rfl rfl)
theorem dX1_lay_36 : decode cX1_lay 36 = .ok (.return_, 1) := dk_177 (dk_at dksX1_lay_1 14 rfl rfl)
abbrev cX1_fault : ByteArray := prog_1_method_12_code
def yX1_fault : MethodName := ⟨RX1, "fault", "()I"⟩
theorem dX1_fault_0 : decode cX1_fault 0 = .ok (.aload_n 0, 1) := by decide +kernel
theorem dX1_fault_1 : decode cX1_fault 1 = .ok (.getfield 34, 3) := by decide +kernel
theorem dX1_fault_4 : decode cX1_fault 4 = .ok (.ireturn, 1) := by decide +kernel
abbrev cX1_undo : ByteArray := prog_1_method_19_code
def yX1_undo : MethodName := ⟨RX1, "undo", "()I"⟩
def dkwX1_undo_1 : List UInt8 := [181, 0, 126, 42, 180, 0, 23, 182, 0, 132, 42, 180, 0, 23, 180, 0, 126, 172]
abbrev dktX1_undo_1 : List UInt8 := dkwX1_undo_1 ++ []
def dkwX1_undo_0 : List UInt8 := [42, 180, 0, 23, 180, 0, 126, 154, 0, 5, 2, 172, 42, 180, 0, 23, 89, 180, 0, 126, 4, 100]
abbrev dktX1_undo_0 : List UInt8 := dkwX1_undo_0 ++ dktX1_undo_1
theorem dksX1_undo_0 : cX1_undo.data.toList.drop 0 = dktX1_undo_0 := by decide +kernel
theorem dksX1_undo_1 : cX1_undo.data.toList.drop 22 = dktX1_undo_1 := dk_seg dksX1_undo_0 22 rfl rfl
theorem dX1_undo_0 : decode cX1_undo 0 = .ok (.aload_n 0, 1) := dk_42 (dk_at dksX1_undo_0 0 rfl rfl)
theorem dX1_undo_1 : decode cX1_undo 1 = .ok (.getfield 23, 3) := dk_180 0 23 (dk_at dksX1_undo_0 1 rfl rfl)
theorem dX1_undo_4 : decode cX1_undo 4 = .ok (.getfield 126, 3) := dk_180 0 126 (dk_at dksX1_undo_0 4 rfl rfl)
theorem dX1_undo_7 : decode cX1_undo 7 = .ok (.ifCond .ne 5, 3) := dk_154 0 5 (dk_at dksX1_undo_0 7 rfl rfl)
theorem dX1_undo_10 : decode cX1_undo 10 = .ok (.iconst (-1), 1) := dk_2 (dk_at dksX1_undo_0 10 rfl rfl)
theorem dX1_undo_11 : decode cX1_undo 11 = .ok (.ireturn, 1) := dk_172 (dk_at dksX1_undo_0 11 rfl rfl)
theorem dX1_undo_12 : decode cX1_undo 12 = .ok (.aload_n 0, 1) := dk_42 (dk_at dksX1_undo_0 12 rfl rfl)
theorem dX1_undo_13 : decode cX1_undo 13 = .ok (.getfield 23, 3) := dk_180 0 23 (dk_at dksX1_undo_0 13 rfl rfl)
theorem dX1_undo_16 : decode cX1_undo 16 = .ok (.dup, 1) := dk_89 (dk_at dksX1_undo_0 16 rfl rfl)
theorem dX1_undo_17 : decode cX1_undo 17 = .ok (.getfield 126, 3) := dk_180 0 126 (dk_at dksX1_undo_0 17 rfl rfl)
theorem dX1_undo_20 : decode cX1_undo 20 = .ok (.iconst 1, 1) := dk_4 (dk_at dksX1_undo_0 20 rfl rfl)
theorem dX1_undo_21 : decode cX1_undo 21 = .ok (.isub, 1) := dk_100 (dk_at dksX1_undo_0 21 rfl rfl)
theorem dX1_undo_22 : decode cX1_undo 22 = .ok (.putfield 126, 3) := dk_181 0 126 (dk_at dksX1_undo_1 0 rfl rfl)
theorem dX1_undo_25 : decode cX1_undo 25 = .ok (.aload_n 0, 1) := dk_42 (dk_at dksX1_undo_1 3 rfl rfl)
theorem dX1_undo_26 : decode cX1_undo 26 = .ok (.getfield 23, 3) := dk_180 0 23 (dk_at dksX1_undo_1 4 rfl rfl)
theorem dX1_undo_29 : decode cX1_undo 29 = .ok (.invokevirtual 132, 3) := dk_182 0 132 (dk_at dksX1_undo_1 7 rfl rfl)
theorem dX1_undo_32 : decode cX1_undo 32 = .ok (.aload_n 0, 1) := dk_42 (dk_at dksX1_undo_1 10 rfl rfl)
theorem dX1_undo_33 : decode cX1_undo 33 = .ok (.getfield 23, 3) := dk_180 0 23 (dk_at dksX1_undo_1 11 rfl rfl)
theorem dX1_undo_36 : decode cX1_undo 36 = .ok (.getfield 126, 3) := dk_180 0 126 (dk_at dksX1_undo_1 14 rfl rfl)
theorem dX1_undo_39 : decode cX1_undo 39 = .ok (.ireturn, 1) := dk_172 (dk_at dksX1_undo_1 17 rfl rfl)
abbrev cX1_cold : ByteArray := prog_1_method_20_code
def yX1_cold : MethodName := ⟨RX1, "cold", "(I)I"⟩
def dkwX1_cold_1 : List UInt8 := [27, 181, 0, 129, 42, 180, 0, 23, 182, 0, 132, 28, 172]
abbrev dktX1_cold_1 : List UInt8 := dkwX1_cold_1 ++ []
def dkwX1_cold_0 : List UInt8 := [27, 3, 16, 9, 184, 0, 57, 154, 0, 5, 2, 172, 42, 180, 0, 23, 180, 0, 129, 61, 42, 180, 0, 23]
abbrev dktX1_cold_0 : List UInt8 := dkwX1_cold_0 ++ dktX1_cold_1
theorem dksX1_cold_0 : cX1_cold.data.toList.drop 0 = dktX1_cold_0 := by decide +kernel
theorem dksX1_cold_1 : cX1_cold.data.toList.drop 24 = dktX1_cold_1 := dk_seg dksX1_cold_0 24 rfl rfl
theorem dX1_cold_0 : decode cX1_cold 0 = .ok (.iload_n 1, 1) := dk_27 (dk_at dksX1_cold_0 0 rfl rfl)
theorem dX1_cold_1 : decode cX1_cold 1 = .ok (.iconst 0, 1) := dk_3 (dk_at dksX1_cold_0 1 rfl rfl)
theorem dX1_cold_2 : decode cX1_cold 2 = .ok (.bipush 9, 2) := dk_16 9 (dk_at dksX1_cold_0 2 rfl rfl)
theorem dX1_cold_4 : decode cX1_cold 4 = .ok (.invokestatic 57, 3) := dk_184 0 57 (dk_at dksX1_cold_0 4 rfl rfl)
theorem dX1_cold_7 : decode cX1_cold 7 = .ok (.ifCond .ne 5, 3) := dk_154 0 5 (dk_at dksX1_cold_0 7 rfl rfl)
theorem dX1_cold_10 : decode cX1_cold 10 = .ok (.iconst (-1), 1) := dk_2 (dk_at dksX1_cold_0 10 rfl rfl)
theorem dX1_cold_11 : decode cX1_cold 11 = .ok (.ireturn, 1) := dk_172 (dk_at dksX1_cold_0 11 rfl rfl)
theorem dX1_cold_12 : decode cX1_cold 12 = .ok (.aload_n 0, 1) := dk_42 (dk_at dksX1_cold_0 12 rfl rfl)
theorem dX1_cold_13 : decode cX1_cold 13 = .ok (.getfield 23, 3) := dk_180 0 23 (dk_at dksX1_cold_0 13 rfl rfl)
theorem dX1_cold_16 : decode cX1_cold 16 = .ok (.getfield 129, 3) := dk_180 0 129 (dk_at dksX1_cold_0 16 rfl rfl)
theorem dX1_cold_19 : decode cX1_cold 19 = .ok (.istore_n 2, 1) := dk_61 (dk_at dksX1_cold_0 19 rfl rfl)
theorem dX1_cold_20 : decode cX1_cold 20 = .ok (.aload_n 0, 1) := dk_42 (dk_at dksX1_cold_0 20 rfl rfl)
theorem dX1_cold_21 : decode cX1_cold 21 = .ok (.getfield 23, 3) := dk_180 0 23 (dk_at dksX1_cold_0 21 rfl rfl)
theorem dX1_cold_24 : decode cX1_cold 24 = .ok (.iload_n 1, 1) := dk_27 (dk_at dksX1_cold_1 0 rfl rfl)
theorem dX1_cold_25 : decode cX1_cold 25 = .ok (.putfield 129, 3) := dk_181 0 129 (dk_at dksX1_cold_1 1 rfl rfl)
theorem dX1_cold_28 : decode cX1_cold 28 = .ok (.aload_n 0, 1) := dk_42 (dk_at dksX1_cold_1 4 rfl rfl)
theorem dX1_cold_29 : decode cX1_cold 29 = .ok (.getfield 23, 3) := dk_180 0 23 (dk_at dksX1_cold_1 5 rfl rfl)
theorem dX1_cold_32 : decode cX1_cold 32 = .ok (.invokevirtual 132, 3) := dk_182 0 132 (dk_at dksX1_cold_1 8 rfl rfl)
theorem dX1_cold_35 : decode cX1_cold 35 = .ok (.iload_n 2, 1) := dk_28 (dk_at dksX1_cold_1 11 rfl rfl)
theorem dX1_cold_36 : decode cX1_cold 36 = .ok (.ireturn, 1) := dk_172 (dk_at dksX1_cold_1 12 rfl rfl)
abbrev cX1_within : ByteArray := prog_1_method_4_code
def yX1_within : MethodName := ⟨RX1, "within", "(III)Z"⟩
def dkwX1_within_0 : List UInt8 := [26, 27, 161, 0, 12, 26, 28, 163, 0, 7, 4, 167, 0, 4, 3, 172]
abbrev dktX1_within_0 : List UInt8 := dkwX1_within_0 ++ []
theorem dksX1_within_0 : cX1_within.data.toList.drop 0 = dktX1_within_0 := by decide +kernel
theorem dX1_within_0 : decode cX1_within 0 = .ok (.iload_n 0, 1) := dk_26 (dk_at dksX1_within_0 0 rfl rfl)
theorem dX1_within_1 : decode cX1_within 1 = .ok (.iload_n 1, 1) := dk_27 (dk_at dksX1_within_0 1 rfl rfl)
theorem dX1_within_2 : decode cX1_within 2 = .ok (.if_icmp .lt 12, 3) := dk_161 0 12 (dk_at dksX1_within_0 2 rfl rfl)
theorem dX1_within_5 : decode cX1_within 5 = .ok (.iload_n 0, 1) := dk_26 (dk_at dksX1_within_0 5 rfl rfl)
theorem dX1_within_6 : decode cX1_within 6 = .ok (.iload_n 2, 1) := dk_28 (dk_at dksX1_within_0 6 rfl rfl)
theorem dX1_within_7 : decode cX1_within 7 = .ok (.if_icmp .gt 7, 3) := dk_163 0 7 (dk_at dksX1_within_0 7 rfl rfl)
theorem dX1_within_10 : decode cX1_within 10 = .ok (.iconst 1, 1) := dk_4 (dk_at dksX1_within_0 10 rfl rfl)
theorem dX1_within_11 : decode cX1_within 11 = .ok (.goto 4, 3) := dk_167 0 4 (dk_at dksX1_within_0 11 rfl rfl)
theorem dX1_within_14 : decode cX1_within 14 = .ok (.iconst 0, 1) := dk_3 (dk_at dksX1_within_0 14 rfl rfl)
theorem dX1_within_15 : decode cX1_within 15 = .ok (.ireturn, 1) := dk_172 (dk_at dksX1_within_0 15 rfl rfl)
abbrev cX1_forget : ByteArray := prog_1_method_38_code
def yX1_forget : MethodName := ⟨RX1, "forget", "()I"⟩
def dkwX1_forget_1 : List UInt8 := [181, 0, 135, 42, 180, 0, 10, 180, 0, 135, 172]
abbrev dktX1_forget_1 : List UInt8 := dkwX1_forget_1 ++ []
def dkwX1_forget_0 : List UInt8 := [42, 180, 0, 10, 180, 0, 135, 154, 0, 5, 2, 172, 42, 180, 0, 10, 89, 180, 0, 135, 4, 100]
abbrev dktX1_forget_0 : List UInt8 := dkwX1_forget_0 ++ dktX1_forget_1
theorem dksX1_forget_0 : cX1_forget.data.toList.drop 0 = dktX1_forget_0 := by decide +kernel
theorem dksX1_forget_1 : cX1_forget.data.toList.drop 22 = dktX1_forget_1 := dk_seg dksX1_forget_0 22 rfl rfl
theorem dX1_forget_0 : decode cX1_forget 0 = .ok (.aload_n 0, 1) := dk_42 (dk_at dksX1_forget_0 0 rfl rfl)
theorem dX1_forget_1 : decode cX1_forget 1 = .ok (.getfield 10, 3) := dk_180 0 10 (dk_at dksX1_forget_0 1 rfl rfl)
theorem dX1_forget_4 : decode cX1_forget 4 = .ok (.getfield 135, 3) := dk_180 0 135 (dk_at dksX1_forget_0 4 rfl rfl)
theorem dX1_forget_7 : decode cX1_forget 7 = .ok (.ifCond .ne 5, 3) := dk_154 0 5 (dk_at dksX1_forget_0 7 rfl rfl)
theorem dX1_forget_10 : decode cX1_forget 10 = .ok (.iconst (-1), 1) := dk_2 (dk_at dksX1_forget_0 10 rfl rfl)
theorem dX1_forget_11 : decode cX1_forget 11 = .ok (.ireturn, 1) := dk_172 (dk_at dksX1_forget_0 11 rfl rfl)
theorem dX1_forget_12 : decode cX1_forget 12 = .ok (.aload_n 0, 1) := dk_42 (dk_at dksX1_forget_0 12 rfl rfl)
theorem dX1_forget_13 : decode cX1_forget 13 = .ok (.getfield 10, 3) := dk_180 0 10 (dk_at dksX1_forget_0 13 rfl rfl)
theorem dX1_forget_16 : decode cX1_forget 16 = .ok (.dup, 1) := dk_89 (dk_at dksX1_forget_0 16 rfl rfl)
theorem dX1_forget_17 : decode cX1_forget 17 = .ok (.getfield 135, 3) := dk_180 0 135 (dk_at dksX1_forget_0 17 rfl rfl)
theorem dX1_forget_20 : decode cX1_forget 20 = .ok (.iconst 1, 1) := dk_4 (dk_at dksX1_forget_0 20 rfl rfl)
theorem dX1_forget_21 : decode cX1_forget 21 = .ok (.isub, 1) := dk_100 (dk_at dksX1_forget_0 21 rfl rfl)
theorem dX1_forget_22 : decode cX1_forget 22 = .ok (.putfield 135, 3) := dk_181 0 135 (dk_at dksX1_forget_1 0 rfl rfl)
theorem dX1_forget_25 : decode cX1_forget 25 = .ok (.aload_n 0, 1) := dk_42 (dk_at dksX1_forget_1 3 rfl rfl)
theorem dX1_forget_26 : decode cX1_forget 26 = .ok (.getfield 10, 3) := dk_180 0 10 (dk_at dksX1_forget_1 4 rfl rfl)
theorem dX1_forget_29 : decode cX1_forget 29 = .ok (.getfield 135, 3) := dk_180 0 135 (dk_at dksX1_forget_1 7 rfl rfl)
theorem dX1_forget_32 : decode cX1_forget 32 = .ok (.ireturn, 1) := dk_172 (dk_at dksX1_forget_1 10 rfl rfl)
abbrev cX1_image : ByteArray := prog_1_method_43_code
def yX1_image : MethodName := ⟨RX1, "image", "()V"⟩
def dkwX1_image_0 : List UInt8 := [42, 180, 0, 16, 42, 180, 0, 10, 182, 1, 46, 42, 4, 181, 0, 138, 177]
abbrev dktX1_image_0 : List UInt8 := dkwX1_image_0 ++ []
theorem dksX1_image_0 : cX1_image.data.toList.drop 0 = dktX1_image_0 := by decide +kernel
theorem dX1_image_0 : decode cX1_image 0 = .ok (.aload_n 0, 1) := dk_42 (dk_at dksX1_image_0 0 rfl rfl)
theorem dX1_image_1 : decode cX1_image 1 = .ok (.getfield 16, 3) := dk_180 0 16 (dk_at dksX1_image_0 1 rfl rfl)
theorem dX1_image_4 : decode cX1_image 4 = .ok (.aload_n 0, 1) := dk_42 (dk_at dksX1_image_0 4 rfl rfl)
theorem dX1_image_5 : decode cX1_image 5 = .ok (.getfield 10, 3) := dk_180 0 10 (dk_at dksX1_image_0 5 rfl rfl)
theorem dX1_image_8 : decode cX1_image 8 = .ok (.invokevirtual 302, 3) := dk_182 1 46 (dk_at dksX1_image_0 8 rfl rfl)
theorem dX1_image_11 : decode cX1_image 11 = .ok (.aload_n 0, 1) := dk_42 (dk_at dksX1_image_0 11 rfl rfl)
theorem dX1_image_12 : decode cX1_image 12 = .ok (.iconst 1, 1) := dk_4 (dk_at dksX1_image_0 12 rfl rfl)
theorem dX1_image_13 : decode cX1_image 13 = .ok (.putfield 138, 3) := dk_181 0 138 (dk_at dksX1_image_0 13 rfl rfl)
theorem dX1_image_16 : decode cX1_image 16 = .ok (.return_, 1) := dk_177 (dk_at dksX1_image_0 16 rfl rfl)
abbrev cX1_restore : ByteArray := prog_1_method_44_code
def yX1_restore : MethodName := ⟨RX1, "restore", "()Z"⟩
def dkwX1_restore_1 : List UInt8 := [182, 0, 132, 4, 172]
abbrev dktX1_restore_1 : List UInt8 := dkwX1_restore_1 ++ []
def dkwX1_restore_0 : List UInt8 := [42, 180, 0, 138, 154, 0, 5, 3, 172, 42, 180, 0, 10, 42, 180, 0, 16, 182, 1, 46, 42, 180, 0, 23]
abbrev dktX1_restore_0 : List UInt8 := dkwX1_restore_0 ++ dktX1_restore_1
theorem dksX1_restore_0 : cX1_restore.data.toList.drop 0 = dktX1_restore_0 := by decide +kernel
theorem dksX1_restore_1 : cX1_restore.data.toList.drop 24 = dktX1_restore_1 := dk_seg dksX1_restore_0 24 rfl rfl
theorem dX1_restore_0 : decode cX1_restore 0 = .ok (.aload_n 0, 1) := dk_42 (dk_at dksX1_restore_0 0 rfl rfl)
theorem dX1_restore_1 : decode cX1_restore 1 = .ok (.getfield 138, 3) := dk_180 0 138 (dk_at dksX1_restore_0 1 rfl rfl)
theorem dX1_restore_4 : decode cX1_restore 4 = .ok (.ifCond .ne 5, 3) := dk_154 0 5 (dk_at dksX1_restore_0 4 rfl rfl)
theorem dX1_restore_7 : decode cX1_restore 7 = .ok (.iconst 0, 1) := dk_3 (dk_at dksX1_restore_0 7 rfl rfl)
theorem dX1_restore_8 : decode cX1_restore 8 = .ok (.ireturn, 1) := dk_172 (dk_at dksX1_restore_0 8 rfl rfl)
theorem dX1_restore_9 : decode cX1_restore 9 = .ok (.aload_n 0, 1) := dk_42 (dk_at dksX1_restore_0 9 rfl rfl)
theorem dX1_restore_10 : decode cX1_restore 10 = .ok (.getfield 10, 3) := dk_180 0 10 (dk_at dksX1_restore_0 10 rfl rfl)
theorem dX1_restore_13 : decode cX1_restore 13 = .ok (.aload_n 0, 1) := dk_42 (dk_at dksX1_restore_0 13 rfl rfl)
theorem dX1_restore_14 : decode cX1_restore 14 = .ok (.getfield 16, 3) := dk_180 0 16 (dk_at dksX1_restore_0 14 rfl rfl)
theorem dX1_restore_17 : decode cX1_restore 17 = .ok (.invokevirtual 302, 3) := dk_182 1 46 (dk_at dksX1_restore_0 17 rfl rfl)
theorem dX1_restore_20 : decode cX1_restore 20 = .ok (.aload_n 0, 1) := dk_42 (dk_at dksX1_restore_0 20 rfl rfl)
theorem dX1_restore_21 : decode cX1_restore 21 = .ok (.getfield 23, 3) := dk_180 0 23 (dk_at dksX1_restore_0 21 rfl rfl)
theorem dX1_restore_24 : decode cX1_restore 24 = .ok (.invokevirtual 132, 3) := dk_182 0 132 (dk_at dksX1_restore_1 0 rfl rfl)
theorem dX1_restore_27 : decode cX1_restore 27 = .ok (.iconst 1, 1) := dk_4 (dk_at dksX1_restore_1 3 rfl rfl)
theorem dX1_restore_28 : decode cX1_restore 28 = .ok (.ireturn, 1) := dk_172 (dk_at dksX1_restore_1 4 rfl rfl)
abbrev cX1_port : ByteArray := prog_1_method_11_code
def yX1_port : MethodName := ⟨RX1, "port", "(I)I"⟩
def dkwX1_port_5 : List UInt8 := [181, 0, 45, 42, 3, 181, 0, 138, 3, 172]
abbrev dktX1_port_5 : List UInt8 := dkwX1_port_5 ++ []
def dkwX1_port_4 : List UInt8 := [180, 0, 23, 3, 181, 0, 129, 42, 180, 0, 23, 182, 0, 132, 42, 180, 0, 10, 3, 181, 0, 135, 42, 2]
abbrev dktX1_port_4 : List UInt8 := dkwX1_port_4 ++ dktX1_port_5
def dkwX1_port_3 : List UInt8 := [180, 0, 120, 3, 92, 46, 4, 96, 79, 44, 180, 0, 123, 172, 42, 180, 0, 23, 3, 181, 0, 126, 42]
abbrev dktX1_port_3 : List UInt8 := dkwX1_port_3 ++ dktX1_port_4
def dkwX1_port_2 : List UInt8 := [182, 0, 112, 181, 0, 65, 167, 0, 30, 77, 42, 44, 180, 0, 117, 181, 0, 34, 42, 180, 0, 10]
abbrev dktX1_port_2 : List UInt8 := dkwX1_port_2 ++ dktX1_port_3
def dkwX1_port_1 : List UInt8 := [181, 0, 97, 42, 2, 181, 0, 34, 42, 180, 0, 23, 187, 0, 107, 89, 42, 180, 0, 30, 27, 183, 0, 109]
abbrev dktX1_port_1 : List UInt8 := dkwX1_port_1 ++ dktX1_port_2
def dkwX1_port_0 : List UInt8 := [27, 155, 0, 15, 27, 42, 180, 0, 97, 163, 0, 7, 4, 167, 0, 4, 3, 184, 0, 104, 42, 3]
abbrev dktX1_port_0 : List UInt8 := dkwX1_port_0 ++ dktX1_port_1
theorem dksX1_port_0 : cX1_port.data.toList.drop 0 = dktX1_port_0 := by decide +kernel
theorem dksX1_port_1 : cX1_port.data.toList.drop 22 = dktX1_port_1 := dk_seg dksX1_port_0 22 rfl rfl
theorem dksX1_port_2 : cX1_port.data.toList.drop 46 = dktX1_port_2 := dk_seg dksX1_port_1 24 rfl rfl
theorem dksX1_port_3 : cX1_port.data.toList.drop 68 = dktX1_port_3 := dk_seg dksX1_port_2 22 rfl rfl
theorem dksX1_port_4 : cX1_port.data.toList.drop 91 = dktX1_port_4 := dk_seg dksX1_port_3 23 rfl rfl
theorem dksX1_port_5 : cX1_port.data.toList.drop 115 = dktX1_port_5 := dk_seg dksX1_port_4 24 rfl rfl
theorem dX1_port_0 : decode cX1_port 0 = .ok (.iload_n 1, 1) := dk_27 (dk_at dksX1_port_0 0 rfl rfl)
theorem dX1_port_1 : decode cX1_port 1 = .ok (.ifCond .lt 15, 3) := dk_155 0 15 (dk_at dksX1_port_0 1 rfl rfl)
theorem dX1_port_4 : decode cX1_port 4 = .ok (.iload_n 1, 1) := dk_27 (dk_at dksX1_port_0 4 rfl rfl)
theorem dX1_port_5 : decode cX1_port 5 = .ok (.aload_n 0, 1) := dk_42 (dk_at dksX1_port_0 5 rfl rfl)
theorem dX1_port_6 : decode cX1_port 6 = .ok (.getfield 97, 3) := dk_180 0 97 (dk_at dksX1_port_0 6 rfl rfl)
theorem dX1_port_9 : decode cX1_port 9 = .ok (.if_icmp .gt 7, 3) := dk_163 0 7 (dk_at dksX1_port_0 9 rfl rfl)
theorem dX1_port_12 : decode cX1_port 12 = .ok (.iconst 1, 1) := dk_4 (dk_at dksX1_port_0 12 rfl rfl)
theorem dX1_port_13 : decode cX1_port 13 = .ok (.goto 4, 3) := dk_167 0 4 (dk_at dksX1_port_0 13 rfl rfl)
theorem dX1_port_16 : decode cX1_port 16 = .ok (.iconst 0, 1) := dk_3 (dk_at dksX1_port_0 16 rfl rfl)
theorem dX1_port_17 : decode cX1_port 17 = .ok (.invokestatic 104, 3) := dk_184 0 104 (dk_at dksX1_port_0 17 rfl rfl)
theorem dX1_port_20 : decode cX1_port 20 = .ok (.aload_n 0, 1) := dk_42 (dk_at dksX1_port_0 20 rfl rfl)
theorem dX1_port_21 : decode cX1_port 21 = .ok (.iconst 0, 1) := dk_3 (dk_at dksX1_port_0 21 rfl rfl)
theorem dX1_port_22 : decode cX1_port 22 = .ok (.putfield 97, 3) := dk_181 0 97 (dk_at dksX1_port_1 0 rfl rfl)
theorem dX1_port_25 : decode cX1_port 25 = .ok (.aload_n 0, 1) := dk_42 (dk_at dksX1_port_1 3 rfl rfl)
theorem dX1_port_26 : decode cX1_port 26 = .ok (.iconst (-1), 1) := dk_2 (dk_at dksX1_port_1 4 rfl rfl)
theorem dX1_port_27 : decode cX1_port 27 = .ok (.putfield 34, 3) := dk_181 0 34 (dk_at dksX1_port_1 5 rfl rfl)
theorem dX1_port_30 : decode cX1_port 30 = .ok (.aload_n 0, 1) := dk_42 (dk_at dksX1_port_1 8 rfl rfl)
theorem dX1_port_31 : decode cX1_port 31 = .ok (.getfield 23, 3) := dk_180 0 23 (dk_at dksX1_port_1 9 rfl rfl)
theorem dX1_port_34 : decode cX1_port 34 = .ok (.new 107, 3) := dk_187 0 107 (dk_at dksX1_port_1 12 rfl rfl)
theorem dX1_port_37 : decode cX1_port 37 = .ok (.dup, 1) := dk_89 (dk_at dksX1_port_1 15 rfl rfl)
theorem dX1_port_38 : decode cX1_port 38 = .ok (.aload_n 0, 1) := dk_42 (dk_at dksX1_port_1 16 rfl rfl)
theorem dX1_port_39 : decode cX1_port 39 = .ok (.getfield 30, 3) := dk_180 0 30 (dk_at dksX1_port_1 17 rfl rfl)
theorem dX1_port_42 : decode cX1_port 42 = .ok (.iload_n 1, 1) := dk_27 (dk_at dksX1_port_1 20 rfl rfl)
theorem dX1_port_43 : decode cX1_port 43 = .ok (.invokespecial 109, 3) := dk_183 0 109 (dk_at dksX1_port_1 21 rfl rfl)
theorem dX1_port_46 : decode cX1_port 46 = .ok (.invokevirtual 112, 3) := dk_182 0 112 (dk_at dksX1_port_2 0 rfl rfl)
theorem dX1_port_49 : decode cX1_port 49 = .ok (.putfield 65, 3) := dk_181 0 65 (dk_at dksX1_port_2 3 rfl rfl)
theorem dX1_port_52 : decode cX1_port 52 = .ok (.goto 30, 3) := dk_167 0 30 (dk_at dksX1_port_2 6 rfl rfl)
theorem dX1_port_55 : decode cX1_port 55 = .ok (.astore_n 2, 1) := dk_77 (dk_at dksX1_port_2 9 rfl rfl)
theorem dX1_port_56 : decode cX1_port 56 = .ok (.aload_n 0, 1) := dk_42 (dk_at dksX1_port_2 10 rfl rfl)
theorem dX1_port_57 : decode cX1_port 57 = .ok (.aload_n 2, 1) := dk_44 (dk_at dksX1_port_2 11 rfl rfl)
theorem dX1_port_58 : decode cX1_port 58 = .ok (.getfield 117, 3) := dk_180 0 117 (dk_at dksX1_port_2 12 rfl rfl)
theorem dX1_port_61 : decode cX1_port 61 = .ok (.putfield 34, 3) := dk_181 0 34 (dk_at dksX1_port_2 15 rfl rfl)
theorem dX1_port_64 : decode cX1_port 64 = .ok (.aload_n 0, 1) := dk_42 (dk_at dksX1_port_2 18 rfl rfl)
theorem dX1_port_65 : decode cX1_port 65 = .ok (.getfield 10, 3) := dk_180 0 10 (dk_at dksX1_port_2 19 rfl rfl)
theorem dX1_port_68 : decode cX1_port 68 = .ok (.getfield 120, 3) := dk_180 0 120 (dk_at dksX1_port_3 0 rfl rfl)
theorem dX1_port_71 : decode cX1_port 71 = .ok (.iconst 0, 1) := dk_3 (dk_at dksX1_port_3 3 rfl rfl)
theorem dX1_port_72 : decode cX1_port 72 = .ok (.dup2, 1) := dk_92 (dk_at dksX1_port_3 4 rfl rfl)
theorem dX1_port_73 : decode cX1_port 73 = .ok (.iaload, 1) := dk_46 (dk_at dksX1_port_3 5 rfl rfl)
theorem dX1_port_74 : decode cX1_port 74 = .ok (.iconst 1, 1) := dk_4 (dk_at dksX1_port_3 6 rfl rfl)
theorem dX1_port_75 : decode cX1_port 75 = .ok (.iadd, 1) := dk_96 (dk_at dksX1_port_3 7 rfl rfl)
theorem dX1_port_76 : decode cX1_port 76 = .ok (.iastore, 1) := dk_79 (dk_at dksX1_port_3 8 rfl rfl)
theorem dX1_port_77 : decode cX1_port 77 = .ok (.aload_n 2, 1) := dk_44 (dk_at dksX1_port_3 9 rfl rfl)
theorem dX1_port_78 : decode cX1_port 78 = .ok (.getfield 123, 3) := dk_180 0 123 (dk_at dksX1_port_3 10 rfl rfl)
theorem dX1_port_81 : decode cX1_port 81 = .ok (.ireturn, 1) := dk_172 (dk_at dksX1_port_3 13 rfl rfl)
theorem dX1_port_82 : decode cX1_port 82 = .ok (.aload_n 0, 1) := dk_42 (dk_at dksX1_port_3 14 rfl rfl)
theorem dX1_port_83 : decode cX1_port 83 = .ok (.getfield 23, 3) := dk_180 0 23 (dk_at dksX1_port_3 15 rfl rfl)
theorem dX1_port_86 : decode cX1_port 86 = .ok (.iconst 0, 1) := dk_3 (dk_at dksX1_port_3 18 rfl rfl)
theorem dX1_port_87 : decode cX1_port 87 = .ok (.putfield 126, 3) := dk_181 0 126 (dk_at dksX1_port_3 19 rfl rfl)
theorem dX1_port_90 : decode cX1_port 90 = .ok (.aload_n 0, 1) := dk_42 (dk_at dksX1_port_3 22 rfl rfl)
theorem dX1_port_91 : decode cX1_port 91 = .ok (.getfield 23, 3) := dk_180 0 23 (dk_at dksX1_port_4 0 rfl rfl)
theorem dX1_port_94 : decode cX1_port 94 = .ok (.iconst 0, 1) := dk_3 (dk_at dksX1_port_4 3 rfl rfl)
theorem dX1_port_95 : decode cX1_port 95 = .ok (.putfield 129, 3) := dk_181 0 129 (dk_at dksX1_port_4 4 rfl rfl)
theorem dX1_port_98 : decode cX1_port 98 = .ok (.aload_n 0, 1) := dk_42 (dk_at dksX1_port_4 7 rfl rfl)
theorem dX1_port_99 : decode cX1_port 99 = .ok (.getfield 23, 3) := dk_180 0 23 (dk_at dksX1_port_4 8 rfl rfl)
theorem dX1_port_102 : decode cX1_port 102 = .ok (.invokevirtual 132, 3) := dk_182 0 132 (dk_at dksX1_port_4 11 rfl rfl)
theorem dX1_port_105 : decode cX1_port 105 = .ok (.aload_n 0, 1) := dk_42 (dk_at dksX1_port_4 14 rfl rfl)
theorem dX1_port_106 : decode cX1_port 106 = .ok (.getfield 10, 3) := dk_180 0 10 (dk_at dksX1_port_4 15 rfl rfl)
theorem dX1_port_109 : decode cX1_port 109 = .ok (.iconst 0, 1) := dk_3 (dk_at dksX1_port_4 18 rfl rfl)
theorem dX1_port_110 : decode cX1_port 110 = .ok (.putfield 135, 3) := dk_181 0 135 (dk_at dksX1_port_4 19 rfl rfl)
theorem dX1_port_113 : decode cX1_port 113 = .ok (.aload_n 0, 1) := dk_42 (dk_at dksX1_port_4 22 rfl rfl)
theorem dX1_port_114 : decode cX1_port 114 = .ok (.iconst (-1), 1) := dk_2 (dk_at dksX1_port_4 23 rfl rfl)
theorem dX1_port_115 : decode cX1_port 115 = .ok (.putfield 45, 3) := dk_181 0 45 (dk_at dksX1_port_5 0 rfl rfl)
theorem dX1_port_118 : decode cX1_port 118 = .ok (.aload_n 0, 1) := dk_42 (dk_at dksX1_port_5 3 rfl rfl)
theorem dX1_port_119 : decode cX1_port 119 = .ok (.iconst 0, 1) := dk_3 (dk_at dksX1_port_5 4 rfl rfl)
theorem dX1_port_120 : decode cX1_port 120 = .ok (.putfield 138, 3) := dk_181 0 138 (dk_at dksX1_port_5 5 rfl rfl)
theorem dX1_port_123 : decode cX1_port 123 = .ok (.iconst 0, 1) := dk_3 (dk_at dksX1_port_5 8 rfl rfl)
theorem dX1_port_124 : decode cX1_port 124 = .ok (.ireturn, 1) := dk_172 (dk_at dksX1_port_5 9 rfl rfl)
abbrev cX1_right : ByteArray := prog_1_method_2_code
def yX1_right : MethodName := ⟨RX1, "right", "(Z)V"⟩
def dkwX1_right_0 : List UInt8 := [26, 154, 0, 11, 187, 0, 51, 89, 183, 0, 53, 191, 177]
abbrev dktX1_right_0 : List UInt8 := dkwX1_right_0 ++ []
theorem dksX1_right_0 : cX1_right.data.toList.drop 0 = dktX1_right_0 := by decide +kernel
theorem dX1_right_0 : decode cX1_right 0 = .ok (.iload_n 0, 1) := dk_26 (dk_at dksX1_right_0 0 rfl rfl)
theorem dX1_right_1 : decode cX1_right 1 = .ok (.ifCond .ne 11, 3) := dk_154 0 11 (dk_at dksX1_right_0 1 rfl rfl)
theorem dX1_right_4 : decode cX1_right 4 = .ok (.new 51, 3) := dk_187 0 51 (dk_at dksX1_right_0 4 rfl rfl)
theorem dX1_right_7 : decode cX1_right 7 = .ok (.dup, 1) := dk_89 (dk_at dksX1_right_0 7 rfl rfl)
theorem dX1_right_8 : decode cX1_right 8 = .ok (.invokespecial 53, 3) := dk_183 0 53 (dk_at dksX1_right_0 8 rfl rfl)
theorem dX1_right_11 : decode cX1_right 11 = .ok (.athrow, 1) := dk_191 (dk_at dksX1_right_0 11 rfl rfl)
theorem dX1_right_12 : decode cX1_right 12 = .ok (.return_, 1) := dk_177 (dk_at dksX1_right_0 12 rfl rfl)
abbrev cX1_count : ByteArray := prog_1_method_13_code
def yX1_count : MethodName := ⟨RX1, "count", "(I)I"⟩
def dkwX1_count_11 : List UInt8 := [100, 46, 172]
abbrev dktX1_count_11 : List UInt8 := dkwX1_count_11 ++ []
def dkwX1_count_10 : List UInt8 := [172, 42, 180, 0, 10, 180, 0, 135, 172, 42, 180, 0, 97, 172, 42, 180, 0, 10, 180, 0, 120, 27, 16, 9]
abbrev dktX1_count_10 : List UInt8 := dkwX1_count_10 ++ dktX1_count_11
def dkwX1_count_9 : List UInt8 := [180, 0, 65, 180, 0, 155, 172, 42, 180, 0, 23, 180, 0, 126, 172, 28, 172, 42, 180, 0, 23, 180, 0, 129]
abbrev dktX1_count_9 : List UInt8 := dkwX1_count_9 ++ dktX1_count_10
def dkwX1_count_8 : List UInt8 := [182, 0, 75, 172, 42, 180, 0, 23, 180, 0, 65, 180, 0, 92, 182, 0, 75, 172, 42, 180, 0, 23]
abbrev dktX1_count_8 : List UInt8 := dkwX1_count_8 ++ dktX1_count_9
def dkwX1_count_7 : List UInt8 := [42, 180, 0, 23, 180, 0, 65, 180, 0, 69, 182, 0, 75, 172, 42, 180, 0, 23, 180, 0, 65, 180, 0, 87]
abbrev dktX1_count_7 : List UInt8 := dkwX1_count_7 ++ dktX1_count_8
def dkwX1_count_6 : List UInt8 := [170, 0, 0, 0, 0, 0, 0, 136, 0, 0, 0, 0, 0, 0, 0, 8, 0, 0, 0, 52, 0, 0, 0, 66, 0, 0, 0, 80, 0, 0, 0, 94, 0, 0, 0, 105, 0, 0, 0, 113, 0, 0, 0, 115, 0, 0, 0, 123, 0, 0, 0, 131]
abbrev dktX1_count_6 : List UInt8 := dkwX1_count_6 ++ dktX1_count_7
def dkwX1_count_5 : List UInt8 := [182, 0, 151, 96, 61, 132, 3, 1, 167, 255, 220, 27]
abbrev dktX1_count_5 : List UInt8 := dkwX1_count_5 ++ dktX1_count_6
def dkwX1_count_4 : List UInt8 := [180, 0, 126, 162, 0, 31, 28, 42, 180, 0, 23, 180, 0, 65, 42, 180, 0, 23, 180, 0, 148, 29, 46]
abbrev dktX1_count_4 : List UInt8 := dkwX1_count_4 ++ dktX1_count_5
def dkwX1_count_3 : List UInt8 := [180, 0, 23, 180, 0, 65, 180, 0, 145, 27, 16, 20, 100, 46, 172, 3, 61, 3, 62, 29, 42, 180, 0, 23]
abbrev dktX1_count_3 : List UInt8 := dkwX1_count_3 ++ dktX1_count_4
def dkwX1_count_2 : List UInt8 := [180, 0, 23, 180, 0, 65, 180, 0, 142, 27, 16, 40, 100, 46, 172, 27, 16, 20, 161, 0, 19, 42]
abbrev dktX1_count_2 : List UInt8 := dkwX1_count_2 ++ dktX1_count_3
def dkwX1_count_1 : List UInt8 := [16, 63, 184, 0, 57, 153, 0, 7, 4, 167, 0, 4, 3, 184, 0, 61, 27, 16, 40, 161, 0, 19, 42]
abbrev dktX1_count_1 : List UInt8 := dkwX1_count_1 ++ dktX1_count_2
def dkwX1_count_0 : List UInt8 := [27, 3, 16, 11, 184, 0, 57, 154, 0, 25, 27, 16, 20, 16, 29, 184, 0, 57, 154, 0, 14, 27, 16, 40]
abbrev dktX1_count_0 : List UInt8 := dkwX1_count_0 ++ dktX1_count_1
theorem dksX1_count_0 : cX1_count.data.toList.drop 0 = dktX1_count_0 := by decide +kernel
theorem dksX1_count_1 : cX1_count.data.toList.drop 24 = dktX1_count_1 := dk_seg dksX1_count_0 24 rfl rfl
theorem dksX1_count_2 : cX1_count.data.toList.drop 47 = dktX1_count_2 := dk_seg dksX1_count_1 23 rfl rfl
theorem dksX1_count_3 : cX1_count.data.toList.drop 69 = dktX1_count_3 := dk_seg dksX1_count_2 22 rfl rfl
theorem dksX1_count_4 : cX1_count.data.toList.drop 93 = dktX1_count_4 := dk_seg dksX1_count_3 24 rfl rfl
theorem dksX1_count_5 : cX1_count.data.toList.drop 116 = dktX1_count_5 := dk_seg dksX1_count_4 23 rfl rfl
theorem dksX1_count_6 : cX1_count.data.toList.drop 128 = dktX1_count_6 := dk_seg dksX1_count_5 12 rfl rfl
theorem dksX1_count_7 : cX1_count.data.toList.drop 180 = dktX1_count_7 := dk_seg dksX1_count_6 52 rfl rfl
theorem dksX1_count_8 : cX1_count.data.toList.drop 204 = dktX1_count_8 := dk_seg dksX1_count_7 24 rfl rfl
theorem dksX1_count_9 : cX1_count.data.toList.drop 226 = dktX1_count_9 := dk_seg dksX1_count_8 22 rfl rfl
theorem dksX1_count_10 : cX1_count.data.toList.drop 250 = dktX1_count_10 := dk_seg dksX1_count_9 24 rfl rfl
theorem dksX1_count_11 : cX1_count.data.toList.drop 274 = dktX1_count_11 := dk_seg dksX1_count_10 24 rfl rfl
theorem dX1_count_0 : decode cX1_count 0 = .ok (.iload_n 1, 1) := dk_27 (dk_at dksX1_count_0 0 rfl rfl)
theorem dX1_count_1 : decode cX1_count 1 = .ok (.iconst 0, 1) := dk_3 (dk_at dksX1_count_0 1 rfl rfl)
theorem dX1_count_2 : decode cX1_count 2 = .ok (.bipush 11, 2) := dk_16 11 (dk_at dksX1_count_0 2 rfl rfl)
theorem dX1_count_4 : decode cX1_count 4 = .ok (.invokestatic 57, 3) := dk_184 0 57 (dk_at dksX1_count_0 4 rfl rfl)
theorem dX1_count_7 : decode cX1_count 7 = .ok (.ifCond .ne 25, 3) := dk_154 0 25 (dk_at dksX1_count_0 7 rfl rfl)
theorem dX1_count_10 : decode cX1_count 10 = .ok (.iload_n 1, 1) := dk_27 (dk_at dksX1_count_0 10 rfl rfl)
theorem dX1_count_11 : decode cX1_count 11 = .ok (.bipush 20, 2) := dk_16 20 (dk_at dksX1_count_0 11 rfl rfl)
theorem dX1_count_13 : decode cX1_count 13 = .ok (.bipush 29, 2) := dk_16 29 (dk_at dksX1_count_0 13 rfl rfl)
theorem dX1_count_15 : decode cX1_count 15 = .ok (.invokestatic 57, 3) := dk_184 0 57 (dk_at dksX1_count_0 15 rfl rfl)
theorem dX1_count_18 : decode cX1_count 18 = .ok (.ifCond .ne 14, 3) := dk_154 0 14 (dk_at dksX1_count_0 18 rfl rfl)
theorem dX1_count_21 : decode cX1_count 21 = .ok (.iload_n 1, 1) := dk_27 (dk_at dksX1_count_0 21 rfl rfl)
theorem dX1_count_22 : decode cX1_count 22 = .ok (.bipush 40, 2) := dk_16 40 (dk_at dksX1_count_0 22 rfl rfl)
theorem dX1_count_24 : decode cX1_count 24 = .ok (.bipush 63, 2) := dk_16 63 (dk_at dksX1_count_1 0 rfl rfl)
theorem dX1_count_26 : decode cX1_count 26 = .ok (.invokestatic 57, 3) := dk_184 0 57 (dk_at dksX1_count_1 2 rfl rfl)
theorem dX1_count_29 : decode cX1_count 29 = .ok (.ifCond .eq 7, 3) := dk_153 0 7 (dk_at dksX1_count_1 5 rfl rfl)
theorem dX1_count_32 : decode cX1_count 32 = .ok (.iconst 1, 1) := dk_4 (dk_at dksX1_count_1 8 rfl rfl)
theorem dX1_count_33 : decode cX1_count 33 = .ok (.goto 4, 3) := dk_167 0 4 (dk_at dksX1_count_1 9 rfl rfl)
theorem dX1_count_36 : decode cX1_count 36 = .ok (.iconst 0, 1) := dk_3 (dk_at dksX1_count_1 12 rfl rfl)
theorem dX1_count_37 : decode cX1_count 37 = .ok (.invokestatic 61, 3) := dk_184 0 61 (dk_at dksX1_count_1 13 rfl rfl)
theorem dX1_count_40 : decode cX1_count 40 = .ok (.iload_n 1, 1) := dk_27 (dk_at dksX1_count_1 16 rfl rfl)
theorem dX1_count_41 : decode cX1_count 41 = .ok (.bipush 40, 2) := dk_16 40 (dk_at dksX1_count_1 17 rfl rfl)
theorem dX1_count_43 : decode cX1_count 43 = .ok (.if_icmp .lt 19, 3) := dk_161 0 19 (dk_at dksX1_count_1 19 rfl rfl)
theorem dX1_count_46 : decode cX1_count 46 = .ok (.aload_n 0, 1) := dk_42 (dk_at dksX1_count_1 22 rfl rfl)
theorem dX1_count_47 : decode cX1_count 47 = .ok (.getfield 23, 3) := dk_180 0 23 (dk_at dksX1_count_2 0 rfl rfl)
theorem dX1_count_50 : decode cX1_count 50 = .ok (.getfield 65, 3) := dk_180 0 65 (dk_at dksX1_count_2 3 rfl rfl)
theorem dX1_count_53 : decode cX1_count 53 = .ok (.getfield 142, 3) := dk_180 0 142 (dk_at dksX1_count_2 6 rfl rfl)
theorem dX1_count_56 : decode cX1_count 56 = .ok (.iload_n 1, 1) := dk_27 (dk_at dksX1_count_2 9 rfl rfl)
theorem dX1_count_57 : decode cX1_count 57 = .ok (.bipush 40, 2) := dk_16 40 (dk_at dksX1_count_2 10 rfl rfl)
theorem dX1_count_59 : decode cX1_count 59 = .ok (.isub, 1) := dk_100 (dk_at dksX1_count_2 12 rfl rfl)
theorem dX1_count_60 : decode cX1_count 60 = .ok (.iaload, 1) := dk_46 (dk_at dksX1_count_2 13 rfl rfl)
theorem dX1_count_61 : decode cX1_count 61 = .ok (.ireturn, 1) := dk_172 (dk_at dksX1_count_2 14 rfl rfl)
theorem dX1_count_62 : decode cX1_count 62 = .ok (.iload_n 1, 1) := dk_27 (dk_at dksX1_count_2 15 rfl rfl)
theorem dX1_count_63 : decode cX1_count 63 = .ok (.bipush 20, 2) := dk_16 20 (dk_at dksX1_count_2 16 rfl rfl)
theorem dX1_count_65 : decode cX1_count 65 = .ok (.if_icmp .lt 19, 3) := dk_161 0 19 (dk_at dksX1_count_2 18 rfl rfl)
theorem dX1_count_68 : decode cX1_count 68 = .ok (.aload_n 0, 1) := dk_42 (dk_at dksX1_count_2 21 rfl rfl)
theorem dX1_count_69 : decode cX1_count 69 = .ok (.getfield 23, 3) := dk_180 0 23 (dk_at dksX1_count_3 0 rfl rfl)
theorem dX1_count_72 : decode cX1_count 72 = .ok (.getfield 65, 3) := dk_180 0 65 (dk_at dksX1_count_3 3 rfl rfl)
theorem dX1_count_75 : decode cX1_count 75 = .ok (.getfield 145, 3) := dk_180 0 145 (dk_at dksX1_count_3 6 rfl rfl)
theorem dX1_count_78 : decode cX1_count 78 = .ok (.iload_n 1, 1) := dk_27 (dk_at dksX1_count_3 9 rfl rfl)
theorem dX1_count_79 : decode cX1_count 79 = .ok (.bipush 20, 2) := dk_16 20 (dk_at dksX1_count_3 10 rfl rfl)
theorem dX1_count_81 : decode cX1_count 81 = .ok (.isub, 1) := dk_100 (dk_at dksX1_count_3 12 rfl rfl)
theorem dX1_count_82 : decode cX1_count 82 = .ok (.iaload, 1) := dk_46 (dk_at dksX1_count_3 13 rfl rfl)
theorem dX1_count_83 : decode cX1_count 83 = .ok (.ireturn, 1) := dk_172 (dk_at dksX1_count_3 14 rfl rfl)
theorem dX1_count_84 : decode cX1_count 84 = .ok (.iconst 0, 1) := dk_3 (dk_at dksX1_count_3 15 rfl rfl)
theorem dX1_count_85 : decode cX1_count 85 = .ok (.istore_n 2, 1) := dk_61 (dk_at dksX1_count_3 16 rfl rfl)
theorem dX1_count_86 : decode cX1_count 86 = .ok (.iconst 0, 1) := dk_3 (dk_at dksX1_count_3 17 rfl rfl)
theorem dX1_count_87 : decode cX1_count 87 = .ok (.istore_n 3, 1) := dk_62 (dk_at dksX1_count_3 18 rfl rfl)
theorem dX1_count_88 : decode cX1_count 88 = .ok (.iload_n 3, 1) := dk_29 (dk_at dksX1_count_3 19 rfl rfl)
theorem dX1_count_89 : decode cX1_count 89 = .ok (.aload_n 0, 1) := dk_42 (dk_at dksX1_count_3 20 rfl rfl)
theorem dX1_count_90 : decode cX1_count 90 = .ok (.getfield 23, 3) := dk_180 0 23 (dk_at dksX1_count_3 21 rfl rfl)
theorem dX1_count_93 : decode cX1_count 93 = .ok (.getfield 126, 3) := dk_180 0 126 (dk_at dksX1_count_4 0 rfl rfl)
theorem dX1_count_96 : decode cX1_count 96 = .ok (.if_icmp .ge 31, 3) := dk_162 0 31 (dk_at dksX1_count_4 3 rfl rfl)
theorem dX1_count_99 : decode cX1_count 99 = .ok (.iload_n 2, 1) := dk_28 (dk_at dksX1_count_4 6 rfl rfl)
theorem dX1_count_100 : decode cX1_count 100 = .ok (.aload_n 0, 1) := dk_42 (dk_at dksX1_count_4 7 rfl rfl)
theorem dX1_count_101 : decode cX1_count 101 = .ok (.getfield 23, 3) := dk_180 0 23 (dk_at dksX1_count_4 8 rfl rfl)
theorem dX1_count_104 : decode cX1_count 104 = .ok (.getfield 65, 3) := dk_180 0 65 (dk_at dksX1_count_4 11 rfl rfl)
theorem dX1_count_107 : decode cX1_count 107 = .ok (.aload_n 0, 1) := dk_42 (dk_at dksX1_count_4 14 rfl rfl)
theorem dX1_count_108 : decode cX1_count 108 = .ok (.getfield 23, 3) := dk_180 0 23 (dk_at dksX1_count_4 15 rfl rfl)
theorem dX1_count_111 : decode cX1_count 111 = .ok (.getfield 148, 3) := dk_180 0 148 (dk_at dksX1_count_4 18 rfl rfl)
theorem dX1_count_114 : decode cX1_count 114 = .ok (.iload_n 3, 1) := dk_29 (dk_at dksX1_count_4 21 rfl rfl)
theorem dX1_count_115 : decode cX1_count 115 = .ok (.iaload, 1) := dk_46 (dk_at dksX1_count_4 22 rfl rfl)
theorem dX1_count_116 : decode cX1_count 116 = .ok (.invokevirtual 151, 3) := dk_182 0 151 (dk_at dksX1_count_5 0 rfl rfl)
theorem dX1_count_119 : decode cX1_count 119 = .ok (.iadd, 1) := dk_96 (dk_at dksX1_count_5 3 rfl rfl)
theorem dX1_count_120 : decode cX1_count 120 = .ok (.istore_n 2, 1) := dk_61 (dk_at dksX1_count_5 4 rfl rfl)
theorem dX1_count_121 : decode cX1_count 121 = .ok (.iinc 3 1, 3) := dk_132 3 1 (dk_at dksX1_count_5 5 rfl rfl)
theorem dX1_count_124 : decode cX1_count 124 = .ok (.goto (-36), 3) := dk_167 255 220 (dk_at dksX1_count_5 8 rfl rfl)
theorem dX1_count_127 : decode cX1_count 127 = .ok (.iload_n 1, 1) := dk_27 (dk_at dksX1_count_5 11 rfl rfl)
theorem dX1_count_128 : decode cX1_count 128 = .ok (.tableswitch 136 0 8 #[52, 66, 80, 94, 105, 113, 115, 123, 131], 52) := by decide +kernel
theorem dX1_count_180 : decode cX1_count 180 = .ok (.aload_n 0, 1) := dk_42 (dk_at dksX1_count_7 0 rfl rfl)
theorem dX1_count_181 : decode cX1_count 181 = .ok (.getfield 23, 3) := dk_180 0 23 (dk_at dksX1_count_7 1 rfl rfl)
theorem dX1_count_184 : decode cX1_count 184 = .ok (.getfield 65, 3) := dk_180 0 65 (dk_at dksX1_count_7 4 rfl rfl)
theorem dX1_count_187 : decode cX1_count 187 = .ok (.getfield 69, 3) := dk_180 0 69 (dk_at dksX1_count_7 7 rfl rfl)
theorem dX1_count_190 : decode cX1_count 190 = .ok (.invokevirtual 75, 3) := dk_182 0 75 (dk_at dksX1_count_7 10 rfl rfl)
theorem dX1_count_193 : decode cX1_count 193 = .ok (.ireturn, 1) := dk_172 (dk_at dksX1_count_7 13 rfl rfl)
theorem dX1_count_194 : decode cX1_count 194 = .ok (.aload_n 0, 1) := dk_42 (dk_at dksX1_count_7 14 rfl rfl)
theorem dX1_count_195 : decode cX1_count 195 = .ok (.getfield 23, 3) := dk_180 0 23 (dk_at dksX1_count_7 15 rfl rfl)
theorem dX1_count_198 : decode cX1_count 198 = .ok (.getfield 65, 3) := dk_180 0 65 (dk_at dksX1_count_7 18 rfl rfl)
theorem dX1_count_201 : decode cX1_count 201 = .ok (.getfield 87, 3) := dk_180 0 87 (dk_at dksX1_count_7 21 rfl rfl)
theorem dX1_count_204 : decode cX1_count 204 = .ok (.invokevirtual 75, 3) := dk_182 0 75 (dk_at dksX1_count_8 0 rfl rfl)
theorem dX1_count_207 : decode cX1_count 207 = .ok (.ireturn, 1) := dk_172 (dk_at dksX1_count_8 3 rfl rfl)
theorem dX1_count_208 : decode cX1_count 208 = .ok (.aload_n 0, 1) := dk_42 (dk_at dksX1_count_8 4 rfl rfl)
theorem dX1_count_209 : decode cX1_count 209 = .ok (.getfield 23, 3) := dk_180 0 23 (dk_at dksX1_count_8 5 rfl rfl)
theorem dX1_count_212 : decode cX1_count 212 = .ok (.getfield 65, 3) := dk_180 0 65 (dk_at dksX1_count_8 8 rfl rfl)
theorem dX1_count_215 : decode cX1_count 215 = .ok (.getfield 92, 3) := dk_180 0 92 (dk_at dksX1_count_8 11 rfl rfl)
theorem dX1_count_218 : decode cX1_count 218 = .ok (.invokevirtual 75, 3) := dk_182 0 75 (dk_at dksX1_count_8 14 rfl rfl)
theorem dX1_count_221 : decode cX1_count 221 = .ok (.ireturn, 1) := dk_172 (dk_at dksX1_count_8 17 rfl rfl)
theorem dX1_count_222 : decode cX1_count 222 = .ok (.aload_n 0, 1) := dk_42 (dk_at dksX1_count_8 18 rfl rfl)
theorem dX1_count_223 : decode cX1_count 223 = .ok (.getfield 23, 3) := dk_180 0 23 (dk_at dksX1_count_8 19 rfl rfl)
theorem dX1_count_226 : decode cX1_count 226 = .ok (.getfield 65, 3) := dk_180 0 65 (dk_at dksX1_count_9 0 rfl rfl)
theorem dX1_count_229 : decode cX1_count 229 = .ok (.getfield 155, 3) := dk_180 0 155 (dk_at dksX1_count_9 3 rfl rfl)
theorem dX1_count_232 : decode cX1_count 232 = .ok (.ireturn, 1) := dk_172 (dk_at dksX1_count_9 6 rfl rfl)
theorem dX1_count_233 : decode cX1_count 233 = .ok (.aload_n 0, 1) := dk_42 (dk_at dksX1_count_9 7 rfl rfl)
theorem dX1_count_234 : decode cX1_count 234 = .ok (.getfield 23, 3) := dk_180 0 23 (dk_at dksX1_count_9 8 rfl rfl)
theorem dX1_count_237 : decode cX1_count 237 = .ok (.getfield 126, 3) := dk_180 0 126 (dk_at dksX1_count_9 11 rfl rfl)
theorem dX1_count_240 : decode cX1_count 240 = .ok (.ireturn, 1) := dk_172 (dk_at dksX1_count_9 14 rfl rfl)
theorem dX1_count_241 : decode cX1_count 241 = .ok (.iload_n 2, 1) := dk_28 (dk_at dksX1_count_9 15 rfl rfl)
theorem dX1_count_242 : decode cX1_count 242 = .ok (.ireturn, 1) := dk_172 (dk_at dksX1_count_9 16 rfl rfl)
theorem dX1_count_243 : decode cX1_count 243 = .ok (.aload_n 0, 1) := dk_42 (dk_at dksX1_count_9 17 rfl rfl)
theorem dX1_count_244 : decode cX1_count 244 = .ok (.getfield 23, 3) := dk_180 0 23 (dk_at dksX1_count_9 18 rfl rfl)
theorem dX1_count_247 : decode cX1_count 247 = .ok (.getfield 129, 3) := dk_180 0 129 (dk_at dksX1_count_9 21 rfl rfl)
theorem dX1_count_250 : decode cX1_count 250 = .ok (.ireturn, 1) := dk_172 (dk_at dksX1_count_10 0 rfl rfl)
theorem dX1_count_251 : decode cX1_count 251 = .ok (.aload_n 0, 1) := dk_42 (dk_at dksX1_count_10 1 rfl rfl)
theorem dX1_count_252 : decode cX1_count 252 = .ok (.getfield 10, 3) := dk_180 0 10 (dk_at dksX1_count_10 2 rfl rfl)
theorem dX1_count_255 : decode cX1_count 255 = .ok (.getfield 135, 3) := dk_180 0 135 (dk_at dksX1_count_10 5 rfl rfl)
theorem dX1_count_258 : decode cX1_count 258 = .ok (.ireturn, 1) := dk_172 (dk_at dksX1_count_10 8 rfl rfl)
theorem dX1_count_259 : decode cX1_count 259 = .ok (.aload_n 0, 1) := dk_42 (dk_at dksX1_count_10 9 rfl rfl)
theorem dX1_count_260 : decode cX1_count 260 = .ok (.getfield 97, 3) := dk_180 0 97 (dk_at dksX1_count_10 10 rfl rfl)
theorem dX1_count_263 : decode cX1_count 263 = .ok (.ireturn, 1) := dk_172 (dk_at dksX1_count_10 13 rfl rfl)
theorem dX1_count_264 : decode cX1_count 264 = .ok (.aload_n 0, 1) := dk_42 (dk_at dksX1_count_10 14 rfl rfl)
theorem dX1_count_265 : decode cX1_count 265 = .ok (.getfield 10, 3) := dk_180 0 10 (dk_at dksX1_count_10 15 rfl rfl)
theorem dX1_count_268 : decode cX1_count 268 = .ok (.getfield 120, 3) := dk_180 0 120 (dk_at dksX1_count_10 18 rfl rfl)
theorem dX1_count_271 : decode cX1_count 271 = .ok (.iload_n 1, 1) := dk_27 (dk_at dksX1_count_10 21 rfl rfl)
theorem dX1_count_272 : decode cX1_count 272 = .ok (.bipush 9, 2) := dk_16 9 (dk_at dksX1_count_10 22 rfl rfl)
theorem dX1_count_274 : decode cX1_count 274 = .ok (.isub, 1) := dk_100 (dk_at dksX1_count_11 0 rfl rfl)
theorem dX1_count_275 : decode cX1_count 275 = .ok (.iaload, 1) := dk_46 (dk_at dksX1_count_11 1 rfl rfl)
theorem dX1_count_276 : decode cX1_count 276 = .ok (.ireturn, 1) := dk_172 (dk_at dksX1_count_11 2 rfl rfl)
abbrev cX1_there : ByteArray := prog_1_method_3_code
def yX1_there : MethodName := ⟨RX1, "there", "(Z)V"⟩
def dkwX1_there_0 : List UInt8 := [26, 154, 0, 11, 187, 0, 54, 89, 183, 0, 56, 191, 177]
abbrev dktX1_there_0 : List UInt8 := dkwX1_there_0 ++ []
theorem dksX1_there_0 : cX1_there.data.toList.drop 0 = dktX1_there_0 := by decide +kernel
theorem dX1_there_0 : decode cX1_there 0 = .ok (.iload_n 0, 1) := dk_26 (dk_at dksX1_there_0 0 rfl rfl)
theorem dX1_there_1 : decode cX1_there 1 = .ok (.ifCond .ne 11, 3) := dk_154 0 11 (dk_at dksX1_there_0 1 rfl rfl)
theorem dX1_there_4 : decode cX1_there 4 = .ok (.new 54, 3) := dk_187 0 54 (dk_at dksX1_there_0 4 rfl rfl)
theorem dX1_there_7 : decode cX1_there 7 = .ok (.dup, 1) := dk_89 (dk_at dksX1_there_0 7 rfl rfl)
theorem dX1_there_8 : decode cX1_there 8 = .ok (.invokespecial 56, 3) := dk_183 0 56 (dk_at dksX1_there_0 8 rfl rfl)
theorem dX1_there_11 : decode cX1_there 11 = .ok (.athrow, 1) := dk_191 (dk_at dksX1_there_0 11 rfl rfl)
theorem dX1_there_12 : decode cX1_there 12 = .ok (.return_, 1) := dk_177 (dk_at dksX1_there_0 12 rfl rfl)
abbrev cX1_quay : ByteArray := prog_1_method_14_code
def yX1_quay : MethodName := ⟨RX1, "quay", "(II)I"⟩
def dkwX1_quay_5 : List UInt8 := [160, 0, 10, 45, 180, 0, 173, 167, 0, 5, 21, 4, 172]
abbrev dktX1_quay_5 : List UInt8 := dkwX1_quay_5 ++ []
def dkwX1_quay_4 : List UInt8 := [160, 0, 10, 45, 182, 0, 167, 167, 0, 29, 28, 5, 160, 0, 10, 45, 180, 0, 170, 167, 0, 17, 28, 6]
abbrev dktX1_quay_4 : List UInt8 := dkwX1_quay_4 ++ dktX1_quay_5
def dkwX1_quay_3 : List UInt8 := [128, 54, 4, 132, 5, 1, 167, 255, 201, 28, 154, 0, 10, 45, 182, 0, 165, 167, 0, 41, 28, 4]
abbrev dktX1_quay_3 : List UInt8 := dkwX1_quay_3 ++ dktX1_quay_4
def dkwX1_quay_2 : List UInt8 := [180, 0, 87, 21, 5, 182, 0, 81, 192, 0, 90, 180, 0, 162, 27, 160, 0, 12, 21, 4, 4, 21, 5, 120]
abbrev dktX1_quay_2 : List UInt8 := dkwX1_quay_2 ++ dktX1_quay_3
def dkwX1_quay_1 : List UInt8 := [180, 0, 23, 180, 0, 65, 180, 0, 87, 182, 0, 75, 162, 0, 43, 42, 180, 0, 23, 180, 0, 65]
abbrev dktX1_quay_1 : List UInt8 := dkwX1_quay_1 ++ dktX1_quay_2
def dkwX1_quay_0 : List UInt8 := [42, 27, 182, 0, 158, 78, 28, 3, 7, 184, 0, 57, 184, 0, 61, 3, 54, 4, 3, 54, 5, 21, 5, 42]
abbrev dktX1_quay_0 : List UInt8 := dkwX1_quay_0 ++ dktX1_quay_1
theorem dksX1_quay_0 : cX1_quay.data.toList.drop 0 = dktX1_quay_0 := by decide +kernel
theorem dksX1_quay_1 : cX1_quay.data.toList.drop 24 = dktX1_quay_1 := dk_seg dksX1_quay_0 24 rfl rfl
theorem dksX1_quay_2 : cX1_quay.data.toList.drop 46 = dktX1_quay_2 := dk_seg dksX1_quay_1 22 rfl rfl
theorem dksX1_quay_3 : cX1_quay.data.toList.drop 70 = dktX1_quay_3 := dk_seg dksX1_quay_2 24 rfl rfl
theorem dksX1_quay_4 : cX1_quay.data.toList.drop 92 = dktX1_quay_4 := dk_seg dksX1_quay_3 22 rfl rfl
theorem dksX1_quay_5 : cX1_quay.data.toList.drop 116 = dktX1_quay_5 := dk_seg dksX1_quay_4 24 rfl rfl
theorem dX1_quay_0 : decode cX1_quay 0 = .ok (.aload_n 0, 1) := dk_42 (dk_at dksX1_quay_0 0 rfl rfl)
theorem dX1_quay_1 : decode cX1_quay 1 = .ok (.iload_n 1, 1) := dk_27 (dk_at dksX1_quay_0 1 rfl rfl)
theorem dX1_quay_2 : decode cX1_quay 2 = .ok (.invokevirtual 158, 3) := dk_182 0 158 (dk_at dksX1_quay_0 2 rfl rfl)
theorem dX1_quay_5 : decode cX1_quay 5 = .ok (.astore_n 3, 1) := dk_78 (dk_at dksX1_quay_0 5 rfl rfl)
theorem dX1_quay_6 : decode cX1_quay 6 = .ok (.iload_n 2, 1) := dk_28 (dk_at dksX1_quay_0 6 rfl rfl)
theorem dX1_quay_7 : decode cX1_quay 7 = .ok (.iconst 0, 1) := dk_3 (dk_at dksX1_quay_0 7 rfl rfl)
theorem dX1_quay_8 : decode cX1_quay 8 = .ok (.iconst 4, 1) := dk_7 (dk_at dksX1_quay_0 8 rfl rfl)
theorem dX1_quay_9 : decode cX1_quay 9 = .ok (.invokestatic 57, 3) := dk_184 0 57 (dk_at dksX1_quay_0 9 rfl rfl)
theorem dX1_quay_12 : decode cX1_quay 12 = .ok (.invokestatic 61, 3) := dk_184 0 61 (dk_at dksX1_quay_0 12 rfl rfl)
theorem dX1_quay_15 : decode cX1_quay 15 = .ok (.iconst 0, 1) := dk_3 (dk_at dksX1_quay_0 15 rfl rfl)
theorem dX1_quay_16 : decode cX1_quay 16 = .ok (.istore 4, 2) := dk_54 4 (dk_at dksX1_quay_0 16 rfl rfl)
theorem dX1_quay_18 : decode cX1_quay 18 = .ok (.iconst 0, 1) := dk_3 (dk_at dksX1_quay_0 18 rfl rfl)
theorem dX1_quay_19 : decode cX1_quay 19 = .ok (.istore 5, 2) := dk_54 5 (dk_at dksX1_quay_0 19 rfl rfl)
theorem dX1_quay_21 : decode cX1_quay 21 = .ok (.iload 5, 2) := dk_21 5 (dk_at dksX1_quay_0 21 rfl rfl)
theorem dX1_quay_23 : decode cX1_quay 23 = .ok (.aload_n 0, 1) := dk_42 (dk_at dksX1_quay_0 23 rfl rfl)
theorem dX1_quay_24 : decode cX1_quay 24 = .ok (.getfield 23, 3) := dk_180 0 23 (dk_at dksX1_quay_1 0 rfl rfl)
theorem dX1_quay_27 : decode cX1_quay 27 = .ok (.getfield 65, 3) := dk_180 0 65 (dk_at dksX1_quay_1 3 rfl rfl)
theorem dX1_quay_30 : decode cX1_quay 30 = .ok (.getfield 87, 3) := dk_180 0 87 (dk_at dksX1_quay_1 6 rfl rfl)
theorem dX1_quay_33 : decode cX1_quay 33 = .ok (.invokevirtual 75, 3) := dk_182 0 75 (dk_at dksX1_quay_1 9 rfl rfl)
theorem dX1_quay_36 : decode cX1_quay 36 = .ok (.if_icmp .ge 43, 3) := dk_162 0 43 (dk_at dksX1_quay_1 12 rfl rfl)
theorem dX1_quay_39 : decode cX1_quay 39 = .ok (.aload_n 0, 1) := dk_42 (dk_at dksX1_quay_1 15 rfl rfl)
theorem dX1_quay_40 : decode cX1_quay 40 = .ok (.getfield 23, 3) := dk_180 0 23 (dk_at dksX1_quay_1 16 rfl rfl)
theorem dX1_quay_43 : decode cX1_quay 43 = .ok (.getfield 65, 3) := dk_180 0 65 (dk_at dksX1_quay_1 19 rfl rfl)
theorem dX1_quay_46 : decode cX1_quay 46 = .ok (.getfield 87, 3) := dk_180 0 87 (dk_at dksX1_quay_2 0 rfl rfl)
theorem dX1_quay_49 : decode cX1_quay 49 = .ok (.iload 5, 2) := dk_21 5 (dk_at dksX1_quay_2 3 rfl rfl)
theorem dX1_quay_51 : decode cX1_quay 51 = .ok (.invokevirtual 81, 3) := dk_182 0 81 (dk_at dksX1_quay_2 5 rfl rfl)
theorem dX1_quay_54 : decode cX1_quay 54 = .ok (.checkcast 90, 3) := dk_192 0 90 (dk_at dksX1_quay_2 8 rfl rfl)
theorem dX1_quay_57 : decode cX1_quay 57 = .ok (.getfield 162, 3) := dk_180 0 162 (dk_at dksX1_quay_2 11 rfl rfl)
theorem dX1_quay_60 : decode cX1_quay 60 = .ok (.iload_n 1, 1) := dk_27 (dk_at dksX1_quay_2 14 rfl rfl)
theorem dX1_quay_61 : decode cX1_quay 61 = .ok (.if_icmp .ne 12, 3) := dk_160 0 12 (dk_at dksX1_quay_2 15 rfl rfl)
theorem dX1_quay_64 : decode cX1_quay 64 = .ok (.iload 4, 2) := dk_21 4 (dk_at dksX1_quay_2 18 rfl rfl)
theorem dX1_quay_66 : decode cX1_quay 66 = .ok (.iconst 1, 1) := dk_4 (dk_at dksX1_quay_2 20 rfl rfl)
theorem dX1_quay_67 : decode cX1_quay 67 = .ok (.iload 5, 2) := dk_21 5 (dk_at dksX1_quay_2 21 rfl rfl)
theorem dX1_quay_69 : decode cX1_quay 69 = .ok (.ishl, 1) := dk_120 (dk_at dksX1_quay_2 23 rfl rfl)
theorem dX1_quay_70 : decode cX1_quay 70 = .ok (.ior, 1) := dk_128 (dk_at dksX1_quay_3 0 rfl rfl)
theorem dX1_quay_71 : decode cX1_quay 71 = .ok (.istore 4, 2) := dk_54 4 (dk_at dksX1_quay_3 1 rfl rfl)
theorem dX1_quay_73 : decode cX1_quay 73 = .ok (.iinc 5 1, 3) := dk_132 5 1 (dk_at dksX1_quay_3 3 rfl rfl)
theorem dX1_quay_76 : decode cX1_quay 76 = .ok (.goto (-55), 3) := dk_167 255 201 (dk_at dksX1_quay_3 6 rfl rfl)
theorem dX1_quay_79 : decode cX1_quay 79 = .ok (.iload_n 2, 1) := dk_28 (dk_at dksX1_quay_3 9 rfl rfl)
theorem dX1_quay_80 : decode cX1_quay 80 = .ok (.ifCond .ne 10, 3) := dk_154 0 10 (dk_at dksX1_quay_3 10 rfl rfl)
theorem dX1_quay_83 : decode cX1_quay 83 = .ok (.aload_n 3, 1) := dk_45 (dk_at dksX1_quay_3 13 rfl rfl)
theorem dX1_quay_84 : decode cX1_quay 84 = .ok (.invokevirtual 165, 3) := dk_182 0 165 (dk_at dksX1_quay_3 14 rfl rfl)
theorem dX1_quay_87 : decode cX1_quay 87 = .ok (.goto 41, 3) := dk_167 0 41 (dk_at dksX1_quay_3 17 rfl rfl)
theorem dX1_quay_90 : decode cX1_quay 90 = .ok (.iload_n 2, 1) := dk_28 (dk_at dksX1_quay_3 20 rfl rfl)
theorem dX1_quay_91 : decode cX1_quay 91 = .ok (.iconst 1, 1) := dk_4 (dk_at dksX1_quay_3 21 rfl rfl)
theorem dX1_quay_92 : decode cX1_quay 92 = .ok (.if_icmp .ne 10, 3) := dk_160 0 10 (dk_at dksX1_quay_4 0 rfl rfl)
theorem dX1_quay_95 : decode cX1_quay 95 = .ok (.aload_n 3, 1) := dk_45 (dk_at dksX1_quay_4 3 rfl rfl)
theorem dX1_quay_96 : decode cX1_quay 96 = .ok (.invokevirtual 167, 3) := dk_182 0 167 (dk_at dksX1_quay_4 4 rfl rfl)
theorem dX1_quay_99 : decode cX1_quay 99 = .ok (.goto 29, 3) := dk_167 0 29 (dk_at dksX1_quay_4 7 rfl rfl)
theorem dX1_quay_102 : decode cX1_quay 102 = .ok (.iload_n 2, 1) := dk_28 (dk_at dksX1_quay_4 10 rfl rfl)
theorem dX1_quay_103 : decode cX1_quay 103 = .ok (.iconst 2, 1) := dk_5 (dk_at dksX1_quay_4 11 rfl rfl)
theorem dX1_quay_104 : decode cX1_quay 104 = .ok (.if_icmp .ne 10, 3) := dk_160 0 10 (dk_at dksX1_quay_4 12 rfl rfl)
theorem dX1_quay_107 : decode cX1_quay 107 = .ok (.aload_n 3, 1) := dk_45 (dk_at dksX1_quay_4 15 rfl rfl)
theorem dX1_quay_108 : decode cX1_quay 108 = .ok (.getfield 170, 3) := dk_180 0 170 (dk_at dksX1_quay_4 16 rfl rfl)
theorem dX1_quay_111 : decode cX1_quay 111 = .ok (.goto 17, 3) := dk_167 0 17 (dk_at dksX1_quay_4 19 rfl rfl)
theorem dX1_quay_114 : decode cX1_quay 114 = .ok (.iload_n 2, 1) := dk_28 (dk_at dksX1_quay_4 22 rfl rfl)
theorem dX1_quay_115 : decode cX1_quay 115 = .ok (.iconst 3, 1) := dk_6 (dk_at dksX1_quay_4 23 rfl rfl)
theorem dX1_quay_116 : decode cX1_quay 116 = .ok (.if_icmp .ne 10, 3) := dk_160 0 10 (dk_at dksX1_quay_5 0 rfl rfl)
theorem dX1_quay_119 : decode cX1_quay 119 = .ok (.aload_n 3, 1) := dk_45 (dk_at dksX1_quay_5 3 rfl rfl)
theorem dX1_quay_120 : decode cX1_quay 120 = .ok (.getfield 173, 3) := dk_180 0 173 (dk_at dksX1_quay_5 4 rfl rfl)
theorem dX1_quay_123 : decode cX1_quay 123 = .ok (.goto 5, 3) := dk_167 0 5 (dk_at dksX1_quay_5 7 rfl rfl)
theorem dX1_quay_126 : decode cX1_quay 126 = .ok (.iload 4, 2) := dk_21 4 (dk_at dksX1_quay_5 10 rfl rfl)
theorem dX1_quay_128 : decode cX1_quay 128 = .ok (.ireturn, 1) := dk_172 (dk_at dksX1_quay_5 12 rfl rfl)
abbrev cX1_quayAt : ByteArray := prog_1_method_6_code
def yX1_quayAt : MethodName := ⟨RX1, "quayAt", "(I)LEelPort$Quay;"⟩
def dkwX1_quayAt_2 : List UInt8 := [176]
abbrev dktX1_quayAt_2 : List UInt8 := dkwX1_quayAt_2 ++ []
def dkwX1_quayAt_1 : List UInt8 := [167, 0, 4, 3, 184, 0, 61, 42, 180, 0, 23, 180, 0, 65, 180, 0, 69, 27, 182, 0, 81, 192, 0, 85]
abbrev dktX1_quayAt_1 : List UInt8 := dkwX1_quayAt_1 ++ dktX1_quayAt_2
def dkwX1_quayAt_0 : List UInt8 := [27, 155, 0, 24, 27, 42, 180, 0, 23, 180, 0, 65, 180, 0, 69, 182, 0, 75, 162, 0, 7, 4]
abbrev dktX1_quayAt_0 : List UInt8 := dkwX1_quayAt_0 ++ dktX1_quayAt_1
theorem dksX1_quayAt_0 : cX1_quayAt.data.toList.drop 0 = dktX1_quayAt_0 := by decide +kernel
theorem dksX1_quayAt_1 : cX1_quayAt.data.toList.drop 22 = dktX1_quayAt_1 := dk_seg dksX1_quayAt_0 22 rfl rfl
theorem dksX1_quayAt_2 : cX1_quayAt.data.toList.drop 46 = dktX1_quayAt_2 := dk_seg dksX1_quayAt_1 24 rfl rfl
theorem dX1_quayAt_0 : decode cX1_quayAt 0 = .ok (.iload_n 1, 1) := dk_27 (dk_at dksX1_quayAt_0 0 rfl rfl)
theorem dX1_quayAt_1 : decode cX1_quayAt 1 = .ok (.ifCond .lt 24, 3) := dk_155 0 24 (dk_at dksX1_quayAt_0 1 rfl rfl)
theorem dX1_quayAt_4 : decode cX1_quayAt 4 = .ok (.iload_n 1, 1) := dk_27 (dk_at dksX1_quayAt_0 4 rfl rfl)
theorem dX1_quayAt_5 : decode cX1_quayAt 5 = .ok (.aload_n 0, 1) := dk_42 (dk_at dksX1_quayAt_0 5 rfl rfl)
theorem dX1_quayAt_6 : decode cX1_quayAt 6 = .ok (.getfield 23, 3) := dk_180 0 23 (dk_at dksX1_quayAt_0 6 rfl rfl)
theorem dX1_quayAt_9 : decode cX1_quayAt 9 = .ok (.getfield 65, 3) := dk_180 0 65 (dk_at dksX1_quayAt_0 9 rfl rfl)
theorem dX1_quayAt_12 : decode cX1_quayAt 12 = .ok (.getfield 69, 3) := dk_180 0 69 (dk_at dksX1_quayAt_0 12 rfl rfl)
theorem dX1_quayAt_15 : decode cX1_quayAt 15 = .ok (.invokevirtual 75, 3) := dk_182 0 75 (dk_at dksX1_quayAt_0 15 rfl rfl)
theorem dX1_quayAt_18 : decode cX1_quayAt 18 = .ok (.if_icmp .ge 7, 3) := dk_162 0 7 (dk_at dksX1_quayAt_0 18 rfl rfl)
theorem dX1_quayAt_21 : decode cX1_quayAt 21 = .ok (.iconst 1, 1) := dk_4 (dk_at dksX1_quayAt_0 21 rfl rfl)
theorem dX1_quayAt_22 : decode cX1_quayAt 22 = .ok (.goto 4, 3) := dk_167 0 4 (dk_at dksX1_quayAt_1 0 rfl rfl)
theorem dX1_quayAt_25 : decode cX1_quayAt 25 = .ok (.iconst 0, 1) := dk_3 (dk_at dksX1_quayAt_1 3 rfl rfl)
theorem dX1_quayAt_26 : decode cX1_quayAt 26 = .ok (.invokestatic 61, 3) := dk_184 0 61 (dk_at dksX1_quayAt_1 4 rfl rfl)
theorem dX1_quayAt_29 : decode cX1_quayAt 29 = .ok (.aload_n 0, 1) := dk_42 (dk_at dksX1_quayAt_1 7 rfl rfl)
theorem dX1_quayAt_30 : decode cX1_quayAt 30 = .ok (.getfield 23, 3) := dk_180 0 23 (dk_at dksX1_quayAt_1 8 rfl rfl)
theorem dX1_quayAt_33 : decode cX1_quayAt 33 = .ok (.getfield 65, 3) := dk_180 0 65 (dk_at dksX1_quayAt_1 11 rfl rfl)
theorem dX1_quayAt_36 : decode cX1_quayAt 36 = .ok (.getfield 69, 3) := dk_180 0 69 (dk_at dksX1_quayAt_1 14 rfl rfl)
theorem dX1_quayAt_39 : decode cX1_quayAt 39 = .ok (.iload_n 1, 1) := dk_27 (dk_at dksX1_quayAt_1 17 rfl rfl)
theorem dX1_quayAt_40 : decode cX1_quayAt 40 = .ok (.invokevirtual 81, 3) := dk_182 0 81 (dk_at dksX1_quayAt_1 18 rfl rfl)
theorem dX1_quayAt_43 : decode cX1_quayAt 43 = .ok (.checkcast 85, 3) := dk_192 0 85 (dk_at dksX1_quayAt_1 21 rfl rfl)
theorem dX1_quayAt_46 : decode cX1_quayAt 46 = .ok (.areturn, 1) := dk_176 (dk_at dksX1_quayAt_2 0 rfl rfl)
abbrev cX1_eel : ByteArray := prog_1_method_15_code
def yX1_eel : MethodName := ⟨RX1, "eel", "(II)I"⟩
def dkwX1_eel_2 : List UInt8 := [167, 0, 19, 28, 6, 160, 0, 10, 45, 180, 0, 183, 167, 0, 7, 45, 180, 0, 186, 172]
abbrev dktX1_eel_2 : List UInt8 := dkwX1_eel_2 ++ []
def dkwX1_eel_1 : List UInt8 := [167, 0, 43, 28, 4, 160, 0, 10, 45, 180, 0, 181, 167, 0, 31, 28, 5, 160, 0, 10, 45, 180, 0, 162]
abbrev dktX1_eel_1 : List UInt8 := dkwX1_eel_1 ++ dktX1_eel_2
def dkwX1_eel_0 : List UInt8 := [42, 27, 182, 0, 176, 78, 28, 3, 7, 184, 0, 57, 184, 0, 61, 28, 154, 0, 10, 45, 182, 0, 180]
abbrev dktX1_eel_0 : List UInt8 := dkwX1_eel_0 ++ dktX1_eel_1
theorem dksX1_eel_0 : cX1_eel.data.toList.drop 0 = dktX1_eel_0 := by decide +kernel
theorem dksX1_eel_1 : cX1_eel.data.toList.drop 23 = dktX1_eel_1 := dk_seg dksX1_eel_0 23 rfl rfl
theorem dksX1_eel_2 : cX1_eel.data.toList.drop 47 = dktX1_eel_2 := dk_seg dksX1_eel_1 24 rfl rfl
theorem dX1_eel_0 : decode cX1_eel 0 = .ok (.aload_n 0, 1) := dk_42 (dk_at dksX1_eel_0 0 rfl rfl)
theorem dX1_eel_1 : decode cX1_eel 1 = .ok (.iload_n 1, 1) := dk_27 (dk_at dksX1_eel_0 1 rfl rfl)
theorem dX1_eel_2 : decode cX1_eel 2 = .ok (.invokevirtual 176, 3) := dk_182 0 176 (dk_at dksX1_eel_0 2 rfl rfl)
theorem dX1_eel_5 : decode cX1_eel 5 = .ok (.astore_n 3, 1) := dk_78 (dk_at dksX1_eel_0 5 rfl rfl)
theorem dX1_eel_6 : decode cX1_eel 6 = .ok (.iload_n 2, 1) := dk_28 (dk_at dksX1_eel_0 6 rfl rfl)
theorem dX1_eel_7 : decode cX1_eel 7 = .ok (.iconst 0, 1) := dk_3 (dk_at dksX1_eel_0 7 rfl rfl)
theorem dX1_eel_8 : decode cX1_eel 8 = .ok (.iconst 4, 1) := dk_7 (dk_at dksX1_eel_0 8 rfl rfl)
theorem dX1_eel_9 : decode cX1_eel 9 = .ok (.invokestatic 57, 3) := dk_184 0 57 (dk_at dksX1_eel_0 9 rfl rfl)
theorem dX1_eel_12 : decode cX1_eel 12 = .ok (.invokestatic 61, 3) := dk_184 0 61 (dk_at dksX1_eel_0 12 rfl rfl)
theorem dX1_eel_15 : decode cX1_eel 15 = .ok (.iload_n 2, 1) := dk_28 (dk_at dksX1_eel_0 15 rfl rfl)
theorem dX1_eel_16 : decode cX1_eel 16 = .ok (.ifCond .ne 10, 3) := dk_154 0 10 (dk_at dksX1_eel_0 16 rfl rfl)
theorem dX1_eel_19 : decode cX1_eel 19 = .ok (.aload_n 3, 1) := dk_45 (dk_at dksX1_eel_0 19 rfl rfl)
theorem dX1_eel_20 : decode cX1_eel 20 = .ok (.invokevirtual 180, 3) := dk_182 0 180 (dk_at dksX1_eel_0 20 rfl rfl)
theorem dX1_eel_23 : decode cX1_eel 23 = .ok (.goto 43, 3) := dk_167 0 43 (dk_at dksX1_eel_1 0 rfl rfl)
theorem dX1_eel_26 : decode cX1_eel 26 = .ok (.iload_n 2, 1) := dk_28 (dk_at dksX1_eel_1 3 rfl rfl)
theorem dX1_eel_27 : decode cX1_eel 27 = .ok (.iconst 1, 1) := dk_4 (dk_at dksX1_eel_1 4 rfl rfl)
theorem dX1_eel_28 : decode cX1_eel 28 = .ok (.if_icmp .ne 10, 3) := dk_160 0 10 (dk_at dksX1_eel_1 5 rfl rfl)
theorem dX1_eel_31 : decode cX1_eel 31 = .ok (.aload_n 3, 1) := dk_45 (dk_at dksX1_eel_1 8 rfl rfl)
theorem dX1_eel_32 : decode cX1_eel 32 = .ok (.getfield 181, 3) := dk_180 0 181 (dk_at dksX1_eel_1 9 rfl rfl)
theorem dX1_eel_35 : decode cX1_eel 35 = .ok (.goto 31, 3) := dk_167 0 31 (dk_at dksX1_eel_1 12 rfl rfl)
theorem dX1_eel_38 : decode cX1_eel 38 = .ok (.iload_n 2, 1) := dk_28 (dk_at dksX1_eel_1 15 rfl rfl)
theorem dX1_eel_39 : decode cX1_eel 39 = .ok (.iconst 2, 1) := dk_5 (dk_at dksX1_eel_1 16 rfl rfl)
theorem dX1_eel_40 : decode cX1_eel 40 = .ok (.if_icmp .ne 10, 3) := dk_160 0 10 (dk_at dksX1_eel_1 17 rfl rfl)
theorem dX1_eel_43 : decode cX1_eel 43 = .ok (.aload_n 3, 1) := dk_45 (dk_at dksX1_eel_1 20 rfl rfl)
theorem dX1_eel_44 : decode cX1_eel 44 = .ok (.getfield 162, 3) := dk_180 0 162 (dk_at dksX1_eel_1 21 rfl rfl)
theorem dX1_eel_47 : decode cX1_eel 47 = .ok (.goto 19, 3) := dk_167 0 19 (dk_at dksX1_eel_2 0 rfl rfl)
theorem dX1_eel_50 : decode cX1_eel 50 = .ok (.iload_n 2, 1) := dk_28 (dk_at dksX1_eel_2 3 rfl rfl)
theorem dX1_eel_51 : decode cX1_eel 51 = .ok (.iconst 3, 1) := dk_6 (dk_at dksX1_eel_2 4 rfl rfl)
theorem dX1_eel_52 : decode cX1_eel 52 = .ok (.if_icmp .ne 10, 3) := dk_160 0 10 (dk_at dksX1_eel_2 5 rfl rfl)
theorem dX1_eel_55 : decode cX1_eel 55 = .ok (.aload_n 3, 1) := dk_45 (dk_at dksX1_eel_2 8 rfl rfl)
theorem dX1_eel_56 : decode cX1_eel 56 = .ok (.getfield 183, 3) := dk_180 0 183 (dk_at dksX1_eel_2 9 rfl rfl)
theorem dX1_eel_59 : decode cX1_eel 59 = .ok (.goto 7, 3) := dk_167 0 7 (dk_at dksX1_eel_2 12 rfl rfl)
theorem dX1_eel_62 : decode cX1_eel 62 = .ok (.aload_n 3, 1) := dk_45 (dk_at dksX1_eel_2 15 rfl rfl)
theorem dX1_eel_63 : decode cX1_eel 63 = .ok (.getfield 186, 3) := dk_180 0 186 (dk_at dksX1_eel_2 16 rfl rfl)
theorem dX1_eel_66 : decode cX1_eel 66 = .ok (.ireturn, 1) := dk_172 (dk_at dksX1_eel_2 19 rfl rfl)
abbrev cX1_eelAt : ByteArray := prog_1_method_7_code
def yX1_eelAt : MethodName := ⟨RX1, "eelAt", "(I)LEelPort$Eel;"⟩
def dkwX1_eelAt_2 : List UInt8 := [176]
abbrev dktX1_eelAt_2 : List UInt8 := dkwX1_eelAt_2 ++ []
def dkwX1_eelAt_1 : List UInt8 := [167, 0, 4, 3, 184, 0, 61, 42, 180, 0, 23, 180, 0, 65, 180, 0, 87, 27, 182, 0, 81, 192, 0, 90]
abbrev dktX1_eelAt_1 : List UInt8 := dkwX1_eelAt_1 ++ dktX1_eelAt_2
def dkwX1_eelAt_0 : List UInt8 := [27, 155, 0, 24, 27, 42, 180, 0, 23, 180, 0, 65, 180, 0, 87, 182, 0, 75, 162, 0, 7, 4]
abbrev dktX1_eelAt_0 : List UInt8 := dkwX1_eelAt_0 ++ dktX1_eelAt_1
theorem dksX1_eelAt_0 : cX1_eelAt.data.toList.drop 0 = dktX1_eelAt_0 := by decide +kernel
theorem dksX1_eelAt_1 : cX1_eelAt.data.toList.drop 22 = dktX1_eelAt_1 := dk_seg dksX1_eelAt_0 22 rfl rfl
theorem dksX1_eelAt_2 : cX1_eelAt.data.toList.drop 46 = dktX1_eelAt_2 := dk_seg dksX1_eelAt_1 24 rfl rfl
theorem dX1_eelAt_0 : decode cX1_eelAt 0 = .ok (.iload_n 1, 1) := dk_27 (dk_at dksX1_eelAt_0 0 rfl rfl)
theorem dX1_eelAt_1 : decode cX1_eelAt 1 = .ok (.ifCond .lt 24, 3) := dk_155 0 24 (dk_at dksX1_eelAt_0 1 rfl rfl)
theorem dX1_eelAt_4 : decode cX1_eelAt 4 = .ok (.iload_n 1, 1) := dk_27 (dk_at dksX1_eelAt_0 4 rfl rfl)
theorem dX1_eelAt_5 : decode cX1_eelAt 5 = .ok (.aload_n 0, 1) := dk_42 (dk_at dksX1_eelAt_0 5 rfl rfl)
theorem dX1_eelAt_6 : decode cX1_eelAt 6 = .ok (.getfield 23, 3) := dk_180 0 23 (dk_at dksX1_eelAt_0 6 rfl rfl)
theorem dX1_eelAt_9 : decode cX1_eelAt 9 = .ok (.getfield 65, 3) := dk_180 0 65 (dk_at dksX1_eelAt_0 9 rfl rfl)
theorem dX1_eelAt_12 : decode cX1_eelAt 12 = .ok (.getfield 87, 3) := dk_180 0 87 (dk_at dksX1_eelAt_0 12 rfl rfl)
theorem dX1_eelAt_15 : decode cX1_eelAt 15 = .ok (.invokevirtual 75, 3) := dk_182 0 75 (dk_at dksX1_eelAt_0 15 rfl rfl)
theorem dX1_eelAt_18 : decode cX1_eelAt 18 = .ok (.if_icmp .ge 7, 3) := dk_162 0 7 (dk_at dksX1_eelAt_0 18 rfl rfl)
theorem dX1_eelAt_21 : decode cX1_eelAt 21 = .ok (.iconst 1, 1) := dk_4 (dk_at dksX1_eelAt_0 21 rfl rfl)
theorem dX1_eelAt_22 : decode cX1_eelAt 22 = .ok (.goto 4, 3) := dk_167 0 4 (dk_at dksX1_eelAt_1 0 rfl rfl)
theorem dX1_eelAt_25 : decode cX1_eelAt 25 = .ok (.iconst 0, 1) := dk_3 (dk_at dksX1_eelAt_1 3 rfl rfl)
theorem dX1_eelAt_26 : decode cX1_eelAt 26 = .ok (.invokestatic 61, 3) := dk_184 0 61 (dk_at dksX1_eelAt_1 4 rfl rfl)
theorem dX1_eelAt_29 : decode cX1_eelAt 29 = .ok (.aload_n 0, 1) := dk_42 (dk_at dksX1_eelAt_1 7 rfl rfl)
theorem dX1_eelAt_30 : decode cX1_eelAt 30 = .ok (.getfield 23, 3) := dk_180 0 23 (dk_at dksX1_eelAt_1 8 rfl rfl)
theorem dX1_eelAt_33 : decode cX1_eelAt 33 = .ok (.getfield 65, 3) := dk_180 0 65 (dk_at dksX1_eelAt_1 11 rfl rfl)
theorem dX1_eelAt_36 : decode cX1_eelAt 36 = .ok (.getfield 87, 3) := dk_180 0 87 (dk_at dksX1_eelAt_1 14 rfl rfl)
theorem dX1_eelAt_39 : decode cX1_eelAt 39 = .ok (.iload_n 1, 1) := dk_27 (dk_at dksX1_eelAt_1 17 rfl rfl)
theorem dX1_eelAt_40 : decode cX1_eelAt 40 = .ok (.invokevirtual 81, 3) := dk_182 0 81 (dk_at dksX1_eelAt_1 18 rfl rfl)
theorem dX1_eelAt_43 : decode cX1_eelAt 43 = .ok (.checkcast 90, 3) := dk_192 0 90 (dk_at dksX1_eelAt_1 21 rfl rfl)
theorem dX1_eelAt_46 : decode cX1_eelAt 46 = .ok (.areturn, 1) := dk_176 (dk_at dksX1_eelAt_2 0 rfl rfl)
abbrev cX1_ship : ByteArray := prog_1_method_16_code
def yX1_ship : MethodName := ⟨RX1, "ship", "(II)I"⟩
def dkwX1_ship_2 : List UInt8 := [167, 0, 7, 45, 180, 0, 198, 172]
abbrev dktX1_ship_2 : List UInt8 := dkwX1_ship_2 ++ []
def dkwX1_ship_1 : List UInt8 := [167, 0, 31, 28, 4, 160, 0, 10, 45, 180, 0, 194, 167, 0, 19, 28, 5, 160, 0, 10, 45, 180, 0, 195]
abbrev dktX1_ship_1 : List UInt8 := dkwX1_ship_1 ++ dktX1_ship_2
def dkwX1_ship_0 : List UInt8 := [42, 27, 182, 0, 189, 78, 28, 3, 6, 184, 0, 57, 184, 0, 61, 28, 154, 0, 10, 45, 182, 0, 193]
abbrev dktX1_ship_0 : List UInt8 := dkwX1_ship_0 ++ dktX1_ship_1
theorem dksX1_ship_0 : cX1_ship.data.toList.drop 0 = dktX1_ship_0 := by decide +kernel
theorem dksX1_ship_1 : cX1_ship.data.toList.drop 23 = dktX1_ship_1 := dk_seg dksX1_ship_0 23 rfl rfl
theorem dksX1_ship_2 : cX1_ship.data.toList.drop 47 = dktX1_ship_2 := dk_seg dksX1_ship_1 24 rfl rfl
theorem dX1_ship_0 : decode cX1_ship 0 = .ok (.aload_n 0, 1) := dk_42 (dk_at dksX1_ship_0 0 rfl rfl)
theorem dX1_ship_1 : decode cX1_ship 1 = .ok (.iload_n 1, 1) := dk_27 (dk_at dksX1_ship_0 1 rfl rfl)
theorem dX1_ship_2 : decode cX1_ship 2 = .ok (.invokevirtual 189, 3) := dk_182 0 189 (dk_at dksX1_ship_0 2 rfl rfl)
theorem dX1_ship_5 : decode cX1_ship 5 = .ok (.astore_n 3, 1) := dk_78 (dk_at dksX1_ship_0 5 rfl rfl)
theorem dX1_ship_6 : decode cX1_ship 6 = .ok (.iload_n 2, 1) := dk_28 (dk_at dksX1_ship_0 6 rfl rfl)
theorem dX1_ship_7 : decode cX1_ship 7 = .ok (.iconst 0, 1) := dk_3 (dk_at dksX1_ship_0 7 rfl rfl)
theorem dX1_ship_8 : decode cX1_ship 8 = .ok (.iconst 3, 1) := dk_6 (dk_at dksX1_ship_0 8 rfl rfl)
theorem dX1_ship_9 : decode cX1_ship 9 = .ok (.invokestatic 57, 3) := dk_184 0 57 (dk_at dksX1_ship_0 9 rfl rfl)
theorem dX1_ship_12 : decode cX1_ship 12 = .ok (.invokestatic 61, 3) := dk_184 0 61 (dk_at dksX1_ship_0 12 rfl rfl)
theorem dX1_ship_15 : decode cX1_ship 15 = .ok (.iload_n 2, 1) := dk_28 (dk_at dksX1_ship_0 15 rfl rfl)
theorem dX1_ship_16 : decode cX1_ship 16 = .ok (.ifCond .ne 10, 3) := dk_154 0 10 (dk_at dksX1_ship_0 16 rfl rfl)
theorem dX1_ship_19 : decode cX1_ship 19 = .ok (.aload_n 3, 1) := dk_45 (dk_at dksX1_ship_0 19 rfl rfl)
theorem dX1_ship_20 : decode cX1_ship 20 = .ok (.invokevirtual 193, 3) := dk_182 0 193 (dk_at dksX1_ship_0 20 rfl rfl)
theorem dX1_ship_23 : decode cX1_ship 23 = .ok (.goto 31, 3) := dk_167 0 31 (dk_at dksX1_ship_1 0 rfl rfl)
theorem dX1_ship_26 : decode cX1_ship 26 = .ok (.iload_n 2, 1) := dk_28 (dk_at dksX1_ship_1 3 rfl rfl)
theorem dX1_ship_27 : decode cX1_ship 27 = .ok (.iconst 1, 1) := dk_4 (dk_at dksX1_ship_1 4 rfl rfl)
theorem dX1_ship_28 : decode cX1_ship 28 = .ok (.if_icmp .ne 10, 3) := dk_160 0 10 (dk_at dksX1_ship_1 5 rfl rfl)
theorem dX1_ship_31 : decode cX1_ship 31 = .ok (.aload_n 3, 1) := dk_45 (dk_at dksX1_ship_1 8 rfl rfl)
theorem dX1_ship_32 : decode cX1_ship 32 = .ok (.getfield 194, 3) := dk_180 0 194 (dk_at dksX1_ship_1 9 rfl rfl)
theorem dX1_ship_35 : decode cX1_ship 35 = .ok (.goto 19, 3) := dk_167 0 19 (dk_at dksX1_ship_1 12 rfl rfl)
theorem dX1_ship_38 : decode cX1_ship 38 = .ok (.iload_n 2, 1) := dk_28 (dk_at dksX1_ship_1 15 rfl rfl)
theorem dX1_ship_39 : decode cX1_ship 39 = .ok (.iconst 2, 1) := dk_5 (dk_at dksX1_ship_1 16 rfl rfl)
theorem dX1_ship_40 : decode cX1_ship 40 = .ok (.if_icmp .ne 10, 3) := dk_160 0 10 (dk_at dksX1_ship_1 17 rfl rfl)
theorem dX1_ship_43 : decode cX1_ship 43 = .ok (.aload_n 3, 1) := dk_45 (dk_at dksX1_ship_1 20 rfl rfl)
theorem dX1_ship_44 : decode cX1_ship 44 = .ok (.getfield 195, 3) := dk_180 0 195 (dk_at dksX1_ship_1 21 rfl rfl)
theorem dX1_ship_47 : decode cX1_ship 47 = .ok (.goto 7, 3) := dk_167 0 7 (dk_at dksX1_ship_2 0 rfl rfl)
theorem dX1_ship_50 : decode cX1_ship 50 = .ok (.aload_n 3, 1) := dk_45 (dk_at dksX1_ship_2 3 rfl rfl)
theorem dX1_ship_51 : decode cX1_ship 51 = .ok (.getfield 198, 3) := dk_180 0 198 (dk_at dksX1_ship_2 4 rfl rfl)
theorem dX1_ship_54 : decode cX1_ship 54 = .ok (.ireturn, 1) := dk_172 (dk_at dksX1_ship_2 7 rfl rfl)
abbrev cX1_shipAt : ByteArray := prog_1_method_8_code
def yX1_shipAt : MethodName := ⟨RX1, "shipAt", "(I)LEelPort$Ship;"⟩
def dkwX1_shipAt_2 : List UInt8 := [176]
abbrev dktX1_shipAt_2 : List UInt8 := dkwX1_shipAt_2 ++ []
def dkwX1_shipAt_1 : List UInt8 := [167, 0, 4, 3, 184, 0, 61, 42, 180, 0, 23, 180, 0, 65, 180, 0, 92, 27, 182, 0, 81, 192, 0, 95]
abbrev dktX1_shipAt_1 : List UInt8 := dkwX1_shipAt_1 ++ dktX1_shipAt_2
def dkwX1_shipAt_0 : List UInt8 := [27, 155, 0, 24, 27, 42, 180, 0, 23, 180, 0, 65, 180, 0, 92, 182, 0, 75, 162, 0, 7, 4]
abbrev dktX1_shipAt_0 : List UInt8 := dkwX1_shipAt_0 ++ dktX1_shipAt_1
theorem dksX1_shipAt_0 : cX1_shipAt.data.toList.drop 0 = dktX1_shipAt_0 := by decide +kernel
theorem dksX1_shipAt_1 : cX1_shipAt.data.toList.drop 22 = dktX1_shipAt_1 := dk_seg dksX1_shipAt_0 22 rfl rfl
theorem dksX1_shipAt_2 : cX1_shipAt.data.toList.drop 46 = dktX1_shipAt_2 := dk_seg dksX1_shipAt_1 24 rfl rfl
theorem dX1_shipAt_0 : decode cX1_shipAt 0 = .ok (.iload_n 1, 1) := dk_27 (dk_at dksX1_shipAt_0 0 rfl rfl)
theorem dX1_shipAt_1 : decode cX1_shipAt 1 = .ok (.ifCond .lt 24, 3) := dk_155 0 24 (dk_at dksX1_shipAt_0 1 rfl rfl)
theorem dX1_shipAt_4 : decode cX1_shipAt 4 = .ok (.iload_n 1, 1) := dk_27 (dk_at dksX1_shipAt_0 4 rfl rfl)
theorem dX1_shipAt_5 : decode cX1_shipAt 5 = .ok (.aload_n 0, 1) := dk_42 (dk_at dksX1_shipAt_0 5 rfl rfl)
theorem dX1_shipAt_6 : decode cX1_shipAt 6 = .ok (.getfield 23, 3) := dk_180 0 23 (dk_at dksX1_shipAt_0 6 rfl rfl)
theorem dX1_shipAt_9 : decode cX1_shipAt 9 = .ok (.getfield 65, 3) := dk_180 0 65 (dk_at dksX1_shipAt_0 9 rfl rfl)
theorem dX1_shipAt_12 : decode cX1_shipAt 12 = .ok (.getfield 92, 3) := dk_180 0 92 (dk_at dksX1_shipAt_0 12 rfl rfl)
theorem dX1_shipAt_15 : decode cX1_shipAt 15 = .ok (.invokevirtual 75, 3) := dk_182 0 75 (dk_at dksX1_shipAt_0 15 rfl rfl)
theorem dX1_shipAt_18 : decode cX1_shipAt 18 = .ok (.if_icmp .ge 7, 3) := dk_162 0 7 (dk_at dksX1_shipAt_0 18 rfl rfl)
theorem dX1_shipAt_21 : decode cX1_shipAt 21 = .ok (.iconst 1, 1) := dk_4 (dk_at dksX1_shipAt_0 21 rfl rfl)
theorem dX1_shipAt_22 : decode cX1_shipAt 22 = .ok (.goto 4, 3) := dk_167 0 4 (dk_at dksX1_shipAt_1 0 rfl rfl)
theorem dX1_shipAt_25 : decode cX1_shipAt 25 = .ok (.iconst 0, 1) := dk_3 (dk_at dksX1_shipAt_1 3 rfl rfl)
theorem dX1_shipAt_26 : decode cX1_shipAt 26 = .ok (.invokestatic 61, 3) := dk_184 0 61 (dk_at dksX1_shipAt_1 4 rfl rfl)
theorem dX1_shipAt_29 : decode cX1_shipAt 29 = .ok (.aload_n 0, 1) := dk_42 (dk_at dksX1_shipAt_1 7 rfl rfl)
theorem dX1_shipAt_30 : decode cX1_shipAt 30 = .ok (.getfield 23, 3) := dk_180 0 23 (dk_at dksX1_shipAt_1 8 rfl rfl)
theorem dX1_shipAt_33 : decode cX1_shipAt 33 = .ok (.getfield 65, 3) := dk_180 0 65 (dk_at dksX1_shipAt_1 11 rfl rfl)
theorem dX1_shipAt_36 : decode cX1_shipAt 36 = .ok (.getfield 92, 3) := dk_180 0 92 (dk_at dksX1_shipAt_1 14 rfl rfl)
theorem dX1_shipAt_39 : decode cX1_shipAt 39 = .ok (.iload_n 1, 1) := dk_27 (dk_at dksX1_shipAt_1 17 rfl rfl)
theorem dX1_shipAt_40 : decode cX1_shipAt 40 = .ok (.invokevirtual 81, 3) := dk_182 0 81 (dk_at dksX1_shipAt_1 18 rfl rfl)
theorem dX1_shipAt_43 : decode cX1_shipAt 43 = .ok (.checkcast 95, 3) := dk_192 0 95 (dk_at dksX1_shipAt_1 21 rfl rfl)
theorem dX1_shipAt_46 : decode cX1_shipAt 46 = .ok (.areturn, 1) := dk_176 (dk_at dksX1_shipAt_2 0 rfl rfl)
abbrev cX1_meal : ByteArray := prog_1_method_18_code
def yX1_meal : MethodName := ⟨RX1, "meal", "(III)I"⟩
def dkwX1_meal_2 : List UInt8 := [180, 0, 23, 182, 0, 132, 42, 180, 0, 23, 180, 0, 126, 172]
abbrev dktX1_meal_2 : List UInt8 := dkwX1_meal_2 ++ []
def dkwX1_meal_1 : List UInt8 := [4, 184, 0, 57, 154, 0, 9, 42, 4, 182, 0, 204, 172, 42, 180, 0, 23, 27, 28, 29, 182, 0, 207, 42]
abbrev dktX1_meal_1 : List UInt8 := dkwX1_meal_1 ++ dktX1_meal_2
def dkwX1_meal_0 : List UInt8 := [42, 27, 182, 0, 176, 87, 28, 184, 0, 201, 42, 180, 0, 23, 180, 0, 126, 16, 20, 159, 0, 12, 29, 3]
abbrev dktX1_meal_0 : List UInt8 := dkwX1_meal_0 ++ dktX1_meal_1
theorem dksX1_meal_0 : cX1_meal.data.toList.drop 0 = dktX1_meal_0 := by decide +kernel
theorem dksX1_meal_1 : cX1_meal.data.toList.drop 24 = dktX1_meal_1 := dk_seg dksX1_meal_0 24 rfl rfl
theorem dksX1_meal_2 : cX1_meal.data.toList.drop 48 = dktX1_meal_2 := dk_seg dksX1_meal_1 24 rfl rfl
theorem dX1_meal_0 : decode cX1_meal 0 = .ok (.aload_n 0, 1) := dk_42 (dk_at dksX1_meal_0 0 rfl rfl)
theorem dX1_meal_1 : decode cX1_meal 1 = .ok (.iload_n 1, 1) := dk_27 (dk_at dksX1_meal_0 1 rfl rfl)
theorem dX1_meal_2 : decode cX1_meal 2 = .ok (.invokevirtual 176, 3) := dk_182 0 176 (dk_at dksX1_meal_0 2 rfl rfl)
theorem dX1_meal_5 : decode cX1_meal 5 = .ok (.pop, 1) := dk_87 (dk_at dksX1_meal_0 5 rfl rfl)
theorem dX1_meal_6 : decode cX1_meal 6 = .ok (.iload_n 2, 1) := dk_28 (dk_at dksX1_meal_0 6 rfl rfl)
theorem dX1_meal_7 : decode cX1_meal 7 = .ok (.invokestatic 201, 3) := dk_184 0 201 (dk_at dksX1_meal_0 7 rfl rfl)
theorem dX1_meal_10 : decode cX1_meal 10 = .ok (.aload_n 0, 1) := dk_42 (dk_at dksX1_meal_0 10 rfl rfl)
theorem dX1_meal_11 : decode cX1_meal 11 = .ok (.getfield 23, 3) := dk_180 0 23 (dk_at dksX1_meal_0 11 rfl rfl)
theorem dX1_meal_14 : decode cX1_meal 14 = .ok (.getfield 126, 3) := dk_180 0 126 (dk_at dksX1_meal_0 14 rfl rfl)
theorem dX1_meal_17 : decode cX1_meal 17 = .ok (.bipush 20, 2) := dk_16 20 (dk_at dksX1_meal_0 17 rfl rfl)
theorem dX1_meal_19 : decode cX1_meal 19 = .ok (.if_icmp .eq 12, 3) := dk_159 0 12 (dk_at dksX1_meal_0 19 rfl rfl)
theorem dX1_meal_22 : decode cX1_meal 22 = .ok (.iload_n 3, 1) := dk_29 (dk_at dksX1_meal_0 22 rfl rfl)
theorem dX1_meal_23 : decode cX1_meal 23 = .ok (.iconst 0, 1) := dk_3 (dk_at dksX1_meal_0 23 rfl rfl)
theorem dX1_meal_24 : decode cX1_meal 24 = .ok (.iconst 1, 1) := dk_4 (dk_at dksX1_meal_1 0 rfl rfl)
theorem dX1_meal_25 : decode cX1_meal 25 = .ok (.invokestatic 57, 3) := dk_184 0 57 (dk_at dksX1_meal_1 1 rfl rfl)
theorem dX1_meal_28 : decode cX1_meal 28 = .ok (.ifCond .ne 9, 3) := dk_154 0 9 (dk_at dksX1_meal_1 4 rfl rfl)
theorem dX1_meal_31 : decode cX1_meal 31 = .ok (.aload_n 0, 1) := dk_42 (dk_at dksX1_meal_1 7 rfl rfl)
theorem dX1_meal_32 : decode cX1_meal 32 = .ok (.iconst 1, 1) := dk_4 (dk_at dksX1_meal_1 8 rfl rfl)
theorem dX1_meal_33 : decode cX1_meal 33 = .ok (.invokevirtual 204, 3) := dk_182 0 204 (dk_at dksX1_meal_1 9 rfl rfl)
theorem dX1_meal_36 : decode cX1_meal 36 = .ok (.ireturn, 1) := dk_172 (dk_at dksX1_meal_1 12 rfl rfl)
theorem dX1_meal_37 : decode cX1_meal 37 = .ok (.aload_n 0, 1) := dk_42 (dk_at dksX1_meal_1 13 rfl rfl)
theorem dX1_meal_38 : decode cX1_meal 38 = .ok (.getfield 23, 3) := dk_180 0 23 (dk_at dksX1_meal_1 14 rfl rfl)
theorem dX1_meal_41 : decode cX1_meal 41 = .ok (.iload_n 1, 1) := dk_27 (dk_at dksX1_meal_1 17 rfl rfl)
theorem dX1_meal_42 : decode cX1_meal 42 = .ok (.iload_n 2, 1) := dk_28 (dk_at dksX1_meal_1 18 rfl rfl)
theorem dX1_meal_43 : decode cX1_meal 43 = .ok (.iload_n 3, 1) := dk_29 (dk_at dksX1_meal_1 19 rfl rfl)
theorem dX1_meal_44 : decode cX1_meal 44 = .ok (.invokevirtual 207, 3) := dk_182 0 207 (dk_at dksX1_meal_1 20 rfl rfl)
theorem dX1_meal_47 : decode cX1_meal 47 = .ok (.aload_n 0, 1) := dk_42 (dk_at dksX1_meal_1 23 rfl rfl)
theorem dX1_meal_48 : decode cX1_meal 48 = .ok (.getfield 23, 3) := dk_180 0 23 (dk_at dksX1_meal_2 0 rfl rfl)
theorem dX1_meal_51 : decode cX1_meal 51 = .ok (.invokevirtual 132, 3) := dk_182 0 132 (dk_at dksX1_meal_2 3 rfl rfl)
theorem dX1_meal_54 : decode cX1_meal 54 = .ok (.aload_n 0, 1) := dk_42 (dk_at dksX1_meal_2 6 rfl rfl)
theorem dX1_meal_55 : decode cX1_meal 55 = .ok (.getfield 23, 3) := dk_180 0 23 (dk_at dksX1_meal_2 7 rfl rfl)
theorem dX1_meal_58 : decode cX1_meal 58 = .ok (.getfield 126, 3) := dk_180 0 126 (dk_at dksX1_meal_2 10 rfl rfl)
theorem dX1_meal_61 : decode cX1_meal 61 = .ok (.ireturn, 1) := dk_172 (dk_at dksX1_meal_2 13 rfl rfl)
abbrev cX1_hourAt : ByteArray := prog_1_method_5_code
def yX1_hourAt : MethodName := ⟨RX1, "hourAt", "(I)V"⟩
def dkwX1_hourAt_0 : List UInt8 := [26, 3, 16, 23, 184, 0, 57, 184, 0, 61, 177]
abbrev dktX1_hourAt_0 : List UInt8 := dkwX1_hourAt_0 ++ []
theorem dksX1_hourAt_0 : cX1_hourAt.data.toList.drop 0 = dktX1_hourAt_0 := by decide +kernel
theorem dX1_hourAt_0 : decode cX1_hourAt 0 = .ok (.iload_n 0, 1) := dk_26 (dk_at dksX1_hourAt_0 0 rfl rfl)
theorem dX1_hourAt_1 : decode cX1_hourAt 1 = .ok (.iconst 0, 1) := dk_3 (dk_at dksX1_hourAt_0 1 rfl rfl)
theorem dX1_hourAt_2 : decode cX1_hourAt 2 = .ok (.bipush 23, 2) := dk_16 23 (dk_at dksX1_hourAt_0 2 rfl rfl)
theorem dX1_hourAt_4 : decode cX1_hourAt 4 = .ok (.invokestatic 57, 3) := dk_184 0 57 (dk_at dksX1_hourAt_0 4 rfl rfl)
theorem dX1_hourAt_7 : decode cX1_hourAt 7 = .ok (.invokestatic 61, 3) := dk_184 0 61 (dk_at dksX1_hourAt_0 7 rfl rfl)
theorem dX1_hourAt_10 : decode cX1_hourAt 10 = .ok (.return_, 1) := dk_177 (dk_at dksX1_hourAt_0 10 rfl rfl)
abbrev cX1_refuses : ByteArray := prog_1_method_17_code
def yX1_refuses : MethodName := ⟨RX1, "refuses", "(I)I"⟩
def dkwX1_refuses_0 : List UInt8 := [42, 180, 0, 10, 180, 0, 120, 27, 92, 46, 4, 96, 79, 2, 172]
abbrev dktX1_refuses_0 : List UInt8 := dkwX1_refuses_0 ++ []
theorem dksX1_refuses_0 : cX1_refuses.data.toList.drop 0 = dktX1_refuses_0 := by decide +kernel
theorem dX1_refuses_0 : decode cX1_refuses 0 = .ok (.aload_n 0, 1) := dk_42 (dk_at dksX1_refuses_0 0 rfl rfl)
theorem dX1_refuses_1 : decode cX1_refuses 1 = .ok (.getfield 10, 3) := dk_180 0 10 (dk_at dksX1_refuses_0 1 rfl rfl)
theorem dX1_refuses_4 : decode cX1_refuses 4 = .ok (.getfield 120, 3) := dk_180 0 120 (dk_at dksX1_refuses_0 4 rfl rfl)
theorem dX1_refuses_7 : decode cX1_refuses 7 = .ok (.iload_n 1, 1) := dk_27 (dk_at dksX1_refuses_0 7 rfl rfl)
theorem dX1_refuses_8 : decode cX1_refuses 8 = .ok (.dup2, 1) := dk_92 (dk_at dksX1_refuses_0 8 rfl rfl)
theorem dX1_refuses_9 : decode cX1_refuses 9 = .ok (.iaload, 1) := dk_46 (dk_at dksX1_refuses_0 9 rfl rfl)
theorem dX1_refuses_10 : decode cX1_refuses 10 = .ok (.iconst 1, 1) := dk_4 (dk_at dksX1_refuses_0 10 rfl rfl)
theorem dX1_refuses_11 : decode cX1_refuses 11 = .ok (.iadd, 1) := dk_96 (dk_at dksX1_refuses_0 11 rfl rfl)
theorem dX1_refuses_12 : decode cX1_refuses 12 = .ok (.iastore, 1) := dk_79 (dk_at dksX1_refuses_0 12 rfl rfl)
theorem dX1_refuses_13 : decode cX1_refuses 13 = .ok (.iconst (-1), 1) := dk_2 (dk_at dksX1_refuses_0 13 rfl rfl)
theorem dX1_refuses_14 : decode cX1_refuses 14 = .ok (.ireturn, 1) := dk_172 (dk_at dksX1_refuses_0 14 rfl rfl)
abbrev cX1_hunger : ByteArray := prog_1_method_21_code
def yX1_hunger : MethodName := ⟨RX1, "hunger", "(II)I"⟩
def dkwX1_hunger_1 : List UInt8 := [172]
abbrev dktX1_hunger_1 : List UInt8 := dkwX1_hunger_1 ++ []
def dkwX1_hunger_0 : List UInt8 := [42, 27, 182, 0, 176, 87, 28, 184, 0, 201, 42, 180, 0, 23, 180, 0, 211, 16, 24, 27, 104, 28, 96, 46]
abbrev dktX1_hunger_0 : List UInt8 := dkwX1_hunger_0 ++ dktX1_hunger_1
theorem dksX1_hunger_0 : cX1_hunger.data.toList.drop 0 = dktX1_hunger_0 := by decide +kernel
theorem dksX1_hunger_1 : cX1_hunger.data.toList.drop 24 = dktX1_hunger_1 := dk_seg dksX1_hunger_0 24 rfl rfl
theorem dX1_hunger_0 : decode cX1_hunger 0 = .ok (.aload_n 0, 1) := dk_42 (dk_at dksX1_hunger_0 0 rfl rfl)
theorem dX1_hunger_1 : decode cX1_hunger 1 = .ok (.iload_n 1, 1) := dk_27 (dk_at dksX1_hunger_0 1 rfl rfl)
theorem dX1_hunger_2 : decode cX1_hunger 2 = .ok (.invokevirtual 176, 3) := dk_182 0 176 (dk_at dksX1_hunger_0 2 rfl rfl)
theorem dX1_hunger_5 : decode cX1_hunger 5 = .ok (.pop, 1) := dk_87 (dk_at dksX1_hunger_0 5 rfl rfl)
theorem dX1_hunger_6 : decode cX1_hunger 6 = .ok (.iload_n 2, 1) := dk_28 (dk_at dksX1_hunger_0 6 rfl rfl)
theorem dX1_hunger_7 : decode cX1_hunger 7 = .ok (.invokestatic 201, 3) := dk_184 0 201 (dk_at dksX1_hunger_0 7 rfl rfl)
theorem dX1_hunger_10 : decode cX1_hunger 10 = .ok (.aload_n 0, 1) := dk_42 (dk_at dksX1_hunger_0 10 rfl rfl)
theorem dX1_hunger_11 : decode cX1_hunger 11 = .ok (.getfield 23, 3) := dk_180 0 23 (dk_at dksX1_hunger_0 11 rfl rfl)
theorem dX1_hunger_14 : decode cX1_hunger 14 = .ok (.getfield 211, 3) := dk_180 0 211 (dk_at dksX1_hunger_0 14 rfl rfl)
theorem dX1_hunger_17 : decode cX1_hunger 17 = .ok (.bipush 24, 2) := dk_16 24 (dk_at dksX1_hunger_0 17 rfl rfl)
theorem dX1_hunger_19 : decode cX1_hunger 19 = .ok (.iload_n 1, 1) := dk_27 (dk_at dksX1_hunger_0 19 rfl rfl)
theorem dX1_hunger_20 : decode cX1_hunger 20 = .ok (.imul, 1) := dk_104 (dk_at dksX1_hunger_0 20 rfl rfl)
theorem dX1_hunger_21 : decode cX1_hunger 21 = .ok (.iload_n 2, 1) := dk_28 (dk_at dksX1_hunger_0 21 rfl rfl)
theorem dX1_hunger_22 : decode cX1_hunger 22 = .ok (.iadd, 1) := dk_96 (dk_at dksX1_hunger_0 22 rfl rfl)
theorem dX1_hunger_23 : decode cX1_hunger 23 = .ok (.iaload, 1) := dk_46 (dk_at dksX1_hunger_0 23 rfl rfl)
theorem dX1_hunger_24 : decode cX1_hunger 24 = .ok (.ireturn, 1) := dk_172 (dk_at dksX1_hunger_1 0 rfl rfl)
abbrev cX1_glow : ByteArray := prog_1_method_22_code
def yX1_glow : MethodName := ⟨RX1, "glow", "(II)I"⟩
def dkwX1_glow_1 : List UInt8 := [172]
abbrev dktX1_glow_1 : List UInt8 := dkwX1_glow_1 ++ []
def dkwX1_glow_0 : List UInt8 := [42, 27, 182, 0, 176, 87, 28, 184, 0, 201, 42, 180, 0, 23, 180, 0, 213, 16, 24, 27, 104, 28, 96, 46]
abbrev dktX1_glow_0 : List UInt8 := dkwX1_glow_0 ++ dktX1_glow_1
theorem dksX1_glow_0 : cX1_glow.data.toList.drop 0 = dktX1_glow_0 := by decide +kernel
theorem dksX1_glow_1 : cX1_glow.data.toList.drop 24 = dktX1_glow_1 := dk_seg dksX1_glow_0 24 rfl rfl
theorem dX1_glow_0 : decode cX1_glow 0 = .ok (.aload_n 0, 1) := dk_42 (dk_at dksX1_glow_0 0 rfl rfl)
theorem dX1_glow_1 : decode cX1_glow 1 = .ok (.iload_n 1, 1) := dk_27 (dk_at dksX1_glow_0 1 rfl rfl)
theorem dX1_glow_2 : decode cX1_glow 2 = .ok (.invokevirtual 176, 3) := dk_182 0 176 (dk_at dksX1_glow_0 2 rfl rfl)
theorem dX1_glow_5 : decode cX1_glow 5 = .ok (.pop, 1) := dk_87 (dk_at dksX1_glow_0 5 rfl rfl)
theorem dX1_glow_6 : decode cX1_glow 6 = .ok (.iload_n 2, 1) := dk_28 (dk_at dksX1_glow_0 6 rfl rfl)
theorem dX1_glow_7 : decode cX1_glow 7 = .ok (.invokestatic 201, 3) := dk_184 0 201 (dk_at dksX1_glow_0 7 rfl rfl)
theorem dX1_glow_10 : decode cX1_glow 10 = .ok (.aload_n 0, 1) := dk_42 (dk_at dksX1_glow_0 10 rfl rfl)
theorem dX1_glow_11 : decode cX1_glow 11 = .ok (.getfield 23, 3) := dk_180 0 23 (dk_at dksX1_glow_0 11 rfl rfl)
theorem dX1_glow_14 : decode cX1_glow 14 = .ok (.getfield 213, 3) := dk_180 0 213 (dk_at dksX1_glow_0 14 rfl rfl)
theorem dX1_glow_17 : decode cX1_glow 17 = .ok (.bipush 24, 2) := dk_16 24 (dk_at dksX1_glow_0 17 rfl rfl)
theorem dX1_glow_19 : decode cX1_glow 19 = .ok (.iload_n 1, 1) := dk_27 (dk_at dksX1_glow_0 19 rfl rfl)
theorem dX1_glow_20 : decode cX1_glow 20 = .ok (.imul, 1) := dk_104 (dk_at dksX1_glow_0 20 rfl rfl)
theorem dX1_glow_21 : decode cX1_glow 21 = .ok (.iload_n 2, 1) := dk_28 (dk_at dksX1_glow_0 21 rfl rfl)
theorem dX1_glow_22 : decode cX1_glow 22 = .ok (.iadd, 1) := dk_96 (dk_at dksX1_glow_0 22 rfl rfl)
theorem dX1_glow_23 : decode cX1_glow 23 = .ok (.iaload, 1) := dk_46 (dk_at dksX1_glow_0 23 rfl rfl)
theorem dX1_glow_24 : decode cX1_glow 24 = .ok (.ireturn, 1) := dk_172 (dk_at dksX1_glow_1 0 rfl rfl)
abbrev cX1_led : ByteArray := prog_1_method_23_code
def yX1_led : MethodName := ⟨RX1, "led", "(II)I"⟩
def dkwX1_led_6 : List UInt8 := [16, 30, 21, 5, 45, 182, 0, 227, 96, 184, 0, 230, 54, 5, 132, 6, 1, 167, 255, 138, 21, 4, 172]
abbrev dktX1_led_6 : List UInt8 := dkwX1_led_6 ++ []
def dkwX1_led_5 : List UInt8 := [54, 8, 21, 8, 21, 5, 162, 0, 7, 21, 7, 54, 4, 21, 8, 54, 5, 132, 7, 1, 167, 255, 167]
abbrev dktX1_led_5 : List UInt8 := dkwX1_led_5 ++ dktX1_led_6
def dkwX1_led_4 : List UInt8 := [180, 0, 23, 180, 0, 148, 21, 7, 46, 154, 0, 7, 3, 167, 0, 11, 3, 21, 5, 8, 100, 184, 0, 221]
abbrev dktX1_led_4 : List UInt8 := dkwX1_led_4 ++ dktX1_led_5
def dkwX1_led_3 : List UInt8 := [27, 160, 0, 63, 42, 180, 0, 23, 180, 0, 219, 21, 7, 46, 21, 6, 159, 0, 6, 167, 0, 45, 42]
abbrev dktX1_led_3 : List UInt8 := dkwX1_led_3 ++ dktX1_led_4
def dkwX1_led_2 : List UInt8 := [54, 7, 21, 7, 42, 180, 0, 23, 180, 0, 126, 162, 0, 83, 42, 180, 0, 23, 180, 0, 216, 21, 7, 46]
abbrev dktX1_led_2 : List UInt8 := dkwX1_led_2 ++ dktX1_led_3
def dkwX1_led_1 : List UInt8 := [154, 0, 5, 2, 172, 2, 54, 4, 45, 180, 0, 186, 54, 5, 3, 54, 6, 21, 6, 28, 163, 0, 118, 3]
abbrev dktX1_led_1 : List UInt8 := dkwX1_led_1 ++ dktX1_led_2
def dkwX1_led_0 : List UInt8 := [42, 27, 182, 0, 176, 78, 28, 184, 0, 201, 42, 180, 0, 23, 180, 0, 213, 16, 24, 27, 104, 28, 96, 46]
abbrev dktX1_led_0 : List UInt8 := dkwX1_led_0 ++ dktX1_led_1
theorem dksX1_led_0 : cX1_led.data.toList.drop 0 = dktX1_led_0 := by decide +kernel
theorem dksX1_led_1 : cX1_led.data.toList.drop 24 = dktX1_led_1 := dk_seg dksX1_led_0 24 rfl rfl
theorem dksX1_led_2 : cX1_led.data.toList.drop 48 = dktX1_led_2 := dk_seg dksX1_led_1 24 rfl rfl
theorem dksX1_led_3 : cX1_led.data.toList.drop 72 = dktX1_led_3 := dk_seg dksX1_led_2 24 rfl rfl
theorem dksX1_led_4 : cX1_led.data.toList.drop 95 = dktX1_led_4 := dk_seg dksX1_led_3 23 rfl rfl
theorem dksX1_led_5 : cX1_led.data.toList.drop 119 = dktX1_led_5 := dk_seg dksX1_led_4 24 rfl rfl
theorem dksX1_led_6 : cX1_led.data.toList.drop 142 = dktX1_led_6 := dk_seg dksX1_led_5 23 rfl rfl
theorem dX1_led_0 : decode cX1_led 0 = .ok (.aload_n 0, 1) := dk_42 (dk_at dksX1_led_0 0 rfl rfl)
theorem dX1_led_1 : decode cX1_led 1 = .ok (.iload_n 1, 1) := dk_27 (dk_at dksX1_led_0 1 rfl rfl)
theorem dX1_led_2 : decode cX1_led 2 = .ok (.invokevirtual 176, 3) := dk_182 0 176 (dk_at dksX1_led_0 2 rfl rfl)
theorem dX1_led_5 : decode cX1_led 5 = .ok (.astore_n 3, 1) := dk_78 (dk_at dksX1_led_0 5 rfl rfl)
theorem dX1_led_6 : decode cX1_led 6 = .ok (.iload_n 2, 1) := dk_28 (dk_at dksX1_led_0 6 rfl rfl)
theorem dX1_led_7 : decode cX1_led 7 = .ok (.invokestatic 201, 3) := dk_184 0 201 (dk_at dksX1_led_0 7 rfl rfl)
theorem dX1_led_10 : decode cX1_led 10 = .ok (.aload_n 0, 1) := dk_42 (dk_at dksX1_led_0 10 rfl rfl)
theorem dX1_led_11 : decode cX1_led 11 = .ok (.getfield 23, 3) := dk_180 0 23 (dk_at dksX1_led_0 11 rfl rfl)
theorem dX1_led_14 : decode cX1_led 14 = .ok (.getfield 213, 3) := dk_180 0 213 (dk_at dksX1_led_0 14 rfl rfl)
theorem dX1_led_17 : decode cX1_led 17 = .ok (.bipush 24, 2) := dk_16 24 (dk_at dksX1_led_0 17 rfl rfl)
theorem dX1_led_19 : decode cX1_led 19 = .ok (.iload_n 1, 1) := dk_27 (dk_at dksX1_led_0 19 rfl rfl)
theorem dX1_led_20 : decode cX1_led 20 = .ok (.imul, 1) := dk_104 (dk_at dksX1_led_0 20 rfl rfl)
theorem dX1_led_21 : decode cX1_led 21 = .ok (.iload_n 2, 1) := dk_28 (dk_at dksX1_led_0 21 rfl rfl)
theorem dX1_led_22 : decode cX1_led 22 = .ok (.iadd, 1) := dk_96 (dk_at dksX1_led_0 22 rfl rfl)
theorem dX1_led_23 : decode cX1_led 23 = .ok (.iaload, 1) := dk_46 (dk_at dksX1_led_0 23 rfl rfl)
theorem dX1_led_24 : decode cX1_led 24 = .ok (.ifCond .ne 5, 3) := dk_154 0 5 (dk_at dksX1_led_1 0 rfl rfl)
theorem dX1_led_27 : decode cX1_led 27 = .ok (.iconst (-1), 1) := dk_2 (dk_at dksX1_led_1 3 rfl rfl)
theorem dX1_led_28 : decode cX1_led 28 = .ok (.ireturn, 1) := dk_172 (dk_at dksX1_led_1 4 rfl rfl)
theorem dX1_led_29 : decode cX1_led 29 = .ok (.iconst (-1), 1) := dk_2 (dk_at dksX1_led_1 5 rfl rfl)
theorem dX1_led_30 : decode cX1_led 30 = .ok (.istore 4, 2) := dk_54 4 (dk_at dksX1_led_1 6 rfl rfl)
theorem dX1_led_32 : decode cX1_led 32 = .ok (.aload_n 3, 1) := dk_45 (dk_at dksX1_led_1 8 rfl rfl)
theorem dX1_led_33 : decode cX1_led 33 = .ok (.getfield 186, 3) := dk_180 0 186 (dk_at dksX1_led_1 9 rfl rfl)
theorem dX1_led_36 : decode cX1_led 36 = .ok (.istore 5, 2) := dk_54 5 (dk_at dksX1_led_1 12 rfl rfl)
theorem dX1_led_38 : decode cX1_led 38 = .ok (.iconst 0, 1) := dk_3 (dk_at dksX1_led_1 14 rfl rfl)
theorem dX1_led_39 : decode cX1_led 39 = .ok (.istore 6, 2) := dk_54 6 (dk_at dksX1_led_1 15 rfl rfl)
theorem dX1_led_41 : decode cX1_led 41 = .ok (.iload 6, 2) := dk_21 6 (dk_at dksX1_led_1 17 rfl rfl)
theorem dX1_led_43 : decode cX1_led 43 = .ok (.iload_n 2, 1) := dk_28 (dk_at dksX1_led_1 19 rfl rfl)
theorem dX1_led_44 : decode cX1_led 44 = .ok (.if_icmp .gt 118, 3) := dk_163 0 118 (dk_at dksX1_led_1 20 rfl rfl)
theorem dX1_led_47 : decode cX1_led 47 = .ok (.iconst 0, 1) := dk_3 (dk_at dksX1_led_1 23 rfl rfl)
theorem dX1_led_48 : decode cX1_led 48 = .ok (.istore 7, 2) := dk_54 7 (dk_at dksX1_led_2 0 rfl rfl)
theorem dX1_led_50 : decode cX1_led 50 = .ok (.iload 7, 2) := dk_21 7 (dk_at dksX1_led_2 2 rfl rfl)
theorem dX1_led_52 : decode cX1_led 52 = .ok (.aload_n 0, 1) := dk_42 (dk_at dksX1_led_2 4 rfl rfl)
theorem dX1_led_53 : decode cX1_led 53 = .ok (.getfield 23, 3) := dk_180 0 23 (dk_at dksX1_led_2 5 rfl rfl)
theorem dX1_led_56 : decode cX1_led 56 = .ok (.getfield 126, 3) := dk_180 0 126 (dk_at dksX1_led_2 8 rfl rfl)
theorem dX1_led_59 : decode cX1_led 59 = .ok (.if_icmp .ge 83, 3) := dk_162 0 83 (dk_at dksX1_led_2 11 rfl rfl)
theorem dX1_led_62 : decode cX1_led 62 = .ok (.aload_n 0, 1) := dk_42 (dk_at dksX1_led_2 14 rfl rfl)
theorem dX1_led_63 : decode cX1_led 63 = .ok (.getfield 23, 3) := dk_180 0 23 (dk_at dksX1_led_2 15 rfl rfl)
theorem dX1_led_66 : decode cX1_led 66 = .ok (.getfield 216, 3) := dk_180 0 216 (dk_at dksX1_led_2 18 rfl rfl)
theorem dX1_led_69 : decode cX1_led 69 = .ok (.iload 7, 2) := dk_21 7 (dk_at dksX1_led_2 21 rfl rfl)
theorem dX1_led_71 : decode cX1_led 71 = .ok (.iaload, 1) := dk_46 (dk_at dksX1_led_2 23 rfl rfl)
theorem dX1_led_72 : decode cX1_led 72 = .ok (.iload_n 1, 1) := dk_27 (dk_at dksX1_led_3 0 rfl rfl)
theorem dX1_led_73 : decode cX1_led 73 = .ok (.if_icmp .ne 63, 3) := dk_160 0 63 (dk_at dksX1_led_3 1 rfl rfl)
theorem dX1_led_76 : decode cX1_led 76 = .ok (.aload_n 0, 1) := dk_42 (dk_at dksX1_led_3 4 rfl rfl)
theorem dX1_led_77 : decode cX1_led 77 = .ok (.getfield 23, 3) := dk_180 0 23 (dk_at dksX1_led_3 5 rfl rfl)
theorem dX1_led_80 : decode cX1_led 80 = .ok (.getfield 219, 3) := dk_180 0 219 (dk_at dksX1_led_3 8 rfl rfl)
theorem dX1_led_83 : decode cX1_led 83 = .ok (.iload 7, 2) := dk_21 7 (dk_at dksX1_led_3 11 rfl rfl)
theorem dX1_led_85 : decode cX1_led 85 = .ok (.iaload, 1) := dk_46 (dk_at dksX1_led_3 13 rfl rfl)
theorem dX1_led_86 : decode cX1_led 86 = .ok (.iload 6, 2) := dk_21 6 (dk_at dksX1_led_3 14 rfl rfl)
theorem dX1_led_88 : decode cX1_led 88 = .ok (.if_icmp .eq 6, 3) := dk_159 0 6 (dk_at dksX1_led_3 16 rfl rfl)
theorem dX1_led_91 : decode cX1_led 91 = .ok (.goto 45, 3) := dk_167 0 45 (dk_at dksX1_led_3 19 rfl rfl)
theorem dX1_led_94 : decode cX1_led 94 = .ok (.aload_n 0, 1) := dk_42 (dk_at dksX1_led_3 22 rfl rfl)
theorem dX1_led_95 : decode cX1_led 95 = .ok (.getfield 23, 3) := dk_180 0 23 (dk_at dksX1_led_4 0 rfl rfl)
theorem dX1_led_98 : decode cX1_led 98 = .ok (.getfield 148, 3) := dk_180 0 148 (dk_at dksX1_led_4 3 rfl rfl)
theorem dX1_led_101 : decode cX1_led 101 = .ok (.iload 7, 2) := dk_21 7 (dk_at dksX1_led_4 6 rfl rfl)
theorem dX1_led_103 : decode cX1_led 103 = .ok (.iaload, 1) := dk_46 (dk_at dksX1_led_4 8 rfl rfl)
theorem dX1_led_104 : decode cX1_led 104 = .ok (.ifCond .ne 7, 3) := dk_154 0 7 (dk_at dksX1_led_4 9 rfl rfl)
theorem dX1_led_107 : decode cX1_led 107 = .ok (.iconst 0, 1) := dk_3 (dk_at dksX1_led_4 12 rfl rfl)
theorem dX1_led_108 : decode cX1_led 108 = .ok (.goto 11, 3) := dk_167 0 11 (dk_at dksX1_led_4 13 rfl rfl)
theorem dX1_led_111 : decode cX1_led 111 = .ok (.iconst 0, 1) := dk_3 (dk_at dksX1_led_4 16 rfl rfl)
theorem dX1_led_112 : decode cX1_led 112 = .ok (.iload 5, 2) := dk_21 5 (dk_at dksX1_led_4 17 rfl rfl)
theorem dX1_led_114 : decode cX1_led 114 = .ok (.iconst 5, 1) := dk_8 (dk_at dksX1_led_4 19 rfl rfl)
theorem dX1_led_115 : decode cX1_led 115 = .ok (.isub, 1) := dk_100 (dk_at dksX1_led_4 20 rfl rfl)
theorem dX1_led_116 : decode cX1_led 116 = .ok (.invokestatic 221, 3) := dk_184 0 221 (dk_at dksX1_led_4 21 rfl rfl)
theorem dX1_led_119 : decode cX1_led 119 = .ok (.istore 8, 2) := dk_54 8 (dk_at dksX1_led_5 0 rfl rfl)
theorem dX1_led_121 : decode cX1_led 121 = .ok (.iload 8, 2) := dk_21 8 (dk_at dksX1_led_5 2 rfl rfl)
theorem dX1_led_123 : decode cX1_led 123 = .ok (.iload 5, 2) := dk_21 5 (dk_at dksX1_led_5 4 rfl rfl)
theorem dX1_led_125 : decode cX1_led 125 = .ok (.if_icmp .ge 7, 3) := dk_162 0 7 (dk_at dksX1_led_5 6 rfl rfl)
theorem dX1_led_128 : decode cX1_led 128 = .ok (.iload 7, 2) := dk_21 7 (dk_at dksX1_led_5 9 rfl rfl)
theorem dX1_led_130 : decode cX1_led 130 = .ok (.istore 4, 2) := dk_54 4 (dk_at dksX1_led_5 11 rfl rfl)
theorem dX1_led_132 : decode cX1_led 132 = .ok (.iload 8, 2) := dk_21 8 (dk_at dksX1_led_5 13 rfl rfl)
theorem dX1_led_134 : decode cX1_led 134 = .ok (.istore 5, 2) := dk_54 5 (dk_at dksX1_led_5 15 rfl rfl)
theorem dX1_led_136 : decode cX1_led 136 = .ok (.iinc 7 1, 3) := dk_132 7 1 (dk_at dksX1_led_5 17 rfl rfl)
theorem dX1_led_139 : decode cX1_led 139 = .ok (.goto (-89), 3) := dk_167 255 167 (dk_at dksX1_led_5 20 rfl rfl)
theorem dX1_led_142 : decode cX1_led 142 = .ok (.bipush 30, 2) := dk_16 30 (dk_at dksX1_led_6 0 rfl rfl)
theorem dX1_led_144 : decode cX1_led 144 = .ok (.iload 5, 2) := dk_21 5 (dk_at dksX1_led_6 2 rfl rfl)
theorem dX1_led_146 : decode cX1_led 146 = .ok (.aload_n 3, 1) := dk_45 (dk_at dksX1_led_6 4 rfl rfl)
theorem dX1_led_147 : decode cX1_led 147 = .ok (.invokevirtual 227, 3) := dk_182 0 227 (dk_at dksX1_led_6 5 rfl rfl)
theorem dX1_led_150 : decode cX1_led 150 = .ok (.iadd, 1) := dk_96 (dk_at dksX1_led_6 8 rfl rfl)
theorem dX1_led_151 : decode cX1_led 151 = .ok (.invokestatic 230, 3) := dk_184 0 230 (dk_at dksX1_led_6 9 rfl rfl)
theorem dX1_led_154 : decode cX1_led 154 = .ok (.istore 5, 2) := dk_54 5 (dk_at dksX1_led_6 12 rfl rfl)
theorem dX1_led_156 : decode cX1_led 156 = .ok (.iinc 6 1, 3) := dk_132 6 1 (dk_at dksX1_led_6 14 rfl rfl)
theorem dX1_led_159 : decode cX1_led 159 = .ok (.goto (-118), 3) := dk_167 255 138 (dk_at dksX1_led_6 17 rfl rfl)
theorem dX1_led_162 : decode cX1_led 162 = .ok (.iload 4, 2) := dk_21 4 (dk_at dksX1_led_6 20 rfl rfl)
theorem dX1_led_164 : decode cX1_led 164 = .ok (.ireturn, 1) := dk_172 (dk_at dksX1_led_6 22 rfl rfl)
abbrev cX1_light : ByteArray := prog_1_method_24_code
def yX1_light : MethodName := ⟨RX1, "light", "(II)I"⟩
def dkwX1_light_0 : List UInt8 := [42, 27, 182, 0, 158, 87, 28, 184, 0, 201, 42, 180, 0, 23, 27, 28, 182, 0, 233, 172]
abbrev dktX1_light_0 : List UInt8 := dkwX1_light_0 ++ []
theorem dksX1_light_0 : cX1_light.data.toList.drop 0 = dktX1_light_0 := by decide +kernel
theorem dX1_light_0 : decode cX1_light 0 = .ok (.aload_n 0, 1) := dk_42 (dk_at dksX1_light_0 0 rfl rfl)
theorem dX1_light_1 : decode cX1_light 1 = .ok (.iload_n 1, 1) := dk_27 (dk_at dksX1_light_0 1 rfl rfl)
theorem dX1_light_2 : decode cX1_light 2 = .ok (.invokevirtual 158, 3) := dk_182 0 158 (dk_at dksX1_light_0 2 rfl rfl)
theorem dX1_light_5 : decode cX1_light 5 = .ok (.pop, 1) := dk_87 (dk_at dksX1_light_0 5 rfl rfl)
theorem dX1_light_6 : decode cX1_light 6 = .ok (.iload_n 2, 1) := dk_28 (dk_at dksX1_light_0 6 rfl rfl)
theorem dX1_light_7 : decode cX1_light 7 = .ok (.invokestatic 201, 3) := dk_184 0 201 (dk_at dksX1_light_0 7 rfl rfl)
theorem dX1_light_10 : decode cX1_light 10 = .ok (.aload_n 0, 1) := dk_42 (dk_at dksX1_light_0 10 rfl rfl)
theorem dX1_light_11 : decode cX1_light 11 = .ok (.getfield 23, 3) := dk_180 0 23 (dk_at dksX1_light_0 11 rfl rfl)
theorem dX1_light_14 : decode cX1_light 14 = .ok (.iload_n 1, 1) := dk_27 (dk_at dksX1_light_0 14 rfl rfl)
theorem dX1_light_15 : decode cX1_light 15 = .ok (.iload_n 2, 1) := dk_28 (dk_at dksX1_light_0 15 rfl rfl)
theorem dX1_light_16 : decode cX1_light 16 = .ok (.invokevirtual 233, 3) := dk_182 0 233 (dk_at dksX1_light_0 16 rfl rfl)
theorem dX1_light_19 : decode cX1_light 19 = .ok (.ireturn, 1) := dk_172 (dk_at dksX1_light_0 19 rfl rfl)
abbrev cX1_at : ByteArray := prog_1_method_25_code
def yX1_at : MethodName := ⟨RX1, "at", "(II)I"⟩
def dkwX1_at_1 : List UInt8 := [2, 167, 0, 12, 42, 180, 0, 23, 45, 28, 182, 0, 236, 172]
abbrev dktX1_at_1 : List UInt8 := dkwX1_at_1 ++ []
def dkwX1_at_0 : List UInt8 := [42, 27, 182, 0, 189, 78, 28, 3, 16, 24, 184, 0, 57, 184, 0, 61, 28, 45, 180, 0, 195, 162, 0, 7]
abbrev dktX1_at_0 : List UInt8 := dkwX1_at_0 ++ dktX1_at_1
theorem dksX1_at_0 : cX1_at.data.toList.drop 0 = dktX1_at_0 := by decide +kernel
theorem dksX1_at_1 : cX1_at.data.toList.drop 24 = dktX1_at_1 := dk_seg dksX1_at_0 24 rfl rfl
theorem dX1_at_0 : decode cX1_at 0 = .ok (.aload_n 0, 1) := dk_42 (dk_at dksX1_at_0 0 rfl rfl)
theorem dX1_at_1 : decode cX1_at 1 = .ok (.iload_n 1, 1) := dk_27 (dk_at dksX1_at_0 1 rfl rfl)
theorem dX1_at_2 : decode cX1_at 2 = .ok (.invokevirtual 189, 3) := dk_182 0 189 (dk_at dksX1_at_0 2 rfl rfl)
theorem dX1_at_5 : decode cX1_at 5 = .ok (.astore_n 3, 1) := dk_78 (dk_at dksX1_at_0 5 rfl rfl)
theorem dX1_at_6 : decode cX1_at 6 = .ok (.iload_n 2, 1) := dk_28 (dk_at dksX1_at_0 6 rfl rfl)
theorem dX1_at_7 : decode cX1_at 7 = .ok (.iconst 0, 1) := dk_3 (dk_at dksX1_at_0 7 rfl rfl)
theorem dX1_at_8 : decode cX1_at 8 = .ok (.bipush 24, 2) := dk_16 24 (dk_at dksX1_at_0 8 rfl rfl)
theorem dX1_at_10 : decode cX1_at 10 = .ok (.invokestatic 57, 3) := dk_184 0 57 (dk_at dksX1_at_0 10 rfl rfl)
theorem dX1_at_13 : decode cX1_at 13 = .ok (.invokestatic 61, 3) := dk_184 0 61 (dk_at dksX1_at_0 13 rfl rfl)
theorem dX1_at_16 : decode cX1_at 16 = .ok (.iload_n 2, 1) := dk_28 (dk_at dksX1_at_0 16 rfl rfl)
theorem dX1_at_17 : decode cX1_at 17 = .ok (.aload_n 3, 1) := dk_45 (dk_at dksX1_at_0 17 rfl rfl)
theorem dX1_at_18 : decode cX1_at 18 = .ok (.getfield 195, 3) := dk_180 0 195 (dk_at dksX1_at_0 18 rfl rfl)
theorem dX1_at_21 : decode cX1_at 21 = .ok (.if_icmp .ge 7, 3) := dk_162 0 7 (dk_at dksX1_at_0 21 rfl rfl)
theorem dX1_at_24 : decode cX1_at 24 = .ok (.iconst (-1), 1) := dk_2 (dk_at dksX1_at_1 0 rfl rfl)
theorem dX1_at_25 : decode cX1_at 25 = .ok (.goto 12, 3) := dk_167 0 12 (dk_at dksX1_at_1 1 rfl rfl)
theorem dX1_at_28 : decode cX1_at 28 = .ok (.aload_n 0, 1) := dk_42 (dk_at dksX1_at_1 4 rfl rfl)
theorem dX1_at_29 : decode cX1_at 29 = .ok (.getfield 23, 3) := dk_180 0 23 (dk_at dksX1_at_1 5 rfl rfl)
theorem dX1_at_32 : decode cX1_at 32 = .ok (.aload_n 3, 1) := dk_45 (dk_at dksX1_at_1 8 rfl rfl)
theorem dX1_at_33 : decode cX1_at 33 = .ok (.iload_n 2, 1) := dk_28 (dk_at dksX1_at_1 9 rfl rfl)
theorem dX1_at_34 : decode cX1_at 34 = .ok (.invokevirtual 236, 3) := dk_182 0 236 (dk_at dksX1_at_1 10 rfl rfl)
theorem dX1_at_37 : decode cX1_at 37 = .ok (.ireturn, 1) := dk_172 (dk_at dksX1_at_1 13 rfl rfl)
abbrev cX1_end : ByteArray := prog_1_method_26_code
def yX1_end : MethodName := ⟨RX1, "end", "(II)I"⟩
def dkwX1_end_3 : List UInt8 := [182, 0, 236, 21, 4, 160, 0, 9, 132, 5, 255, 167, 255, 227, 21, 5, 172]
abbrev dktX1_end_3 : List UInt8 := dkwX1_end_3 ++ []
def dkwX1_end_2 : List UInt8 := [16, 24, 54, 5, 21, 5, 45, 180, 0, 195, 164, 0, 26, 42, 180, 0, 23, 45, 21, 5, 4, 100]
abbrev dktX1_end_2 : List UInt8 := dkwX1_end_2 ++ dktX1_end_3
def dkwX1_end_1 : List UInt8 := [154, 0, 12, 42, 180, 0, 23, 45, 182, 0, 240, 172, 42, 180, 0, 23, 45, 16, 24, 182, 0, 236, 54, 4]
abbrev dktX1_end_1 : List UInt8 := dkwX1_end_1 ++ dktX1_end_2
def dkwX1_end_0 : List UInt8 := [42, 27, 182, 0, 189, 78, 28, 153, 0, 8, 28, 4, 160, 0, 7, 4, 167, 0, 4, 3, 184, 0, 61, 28]
abbrev dktX1_end_0 : List UInt8 := dkwX1_end_0 ++ dktX1_end_1
theorem dksX1_end_0 : cX1_end.data.toList.drop 0 = dktX1_end_0 := by decide +kernel
theorem dksX1_end_1 : cX1_end.data.toList.drop 24 = dktX1_end_1 := dk_seg dksX1_end_0 24 rfl rfl
theorem dksX1_end_2 : cX1_end.data.toList.drop 48 = dktX1_end_2 := dk_seg dksX1_end_1 24 rfl rfl
theorem dksX1_end_3 : cX1_end.data.toList.drop 70 = dktX1_end_3 := dk_seg dksX1_end_2 22 rfl rfl
theorem dX1_end_0 : decode cX1_end 0 = .ok (.aload_n 0, 1) := dk_42 (dk_at dksX1_end_0 0 rfl rfl)
theorem dX1_end_1 : decode cX1_end 1 = .ok (.iload_n 1, 1) := dk_27 (dk_at dksX1_end_0 1 rfl rfl)
theorem dX1_end_2 : decode cX1_end 2 = .ok (.invokevirtual 189, 3) := dk_182 0 189 (dk_at dksX1_end_0 2 rfl rfl)
theorem dX1_end_5 : decode cX1_end 5 = .ok (.astore_n 3, 1) := dk_78 (dk_at dksX1_end_0 5 rfl rfl)
theorem dX1_end_6 : decode cX1_end 6 = .ok (.iload_n 2, 1) := dk_28 (dk_at dksX1_end_0 6 rfl rfl)
theorem dX1_end_7 : decode cX1_end 7 = .ok (.ifCond .eq 8, 3) := dk_153 0 8 (dk_at dksX1_end_0 7 rfl rfl)
theorem dX1_end_10 : decode cX1_end 10 = .ok (.iload_n 2, 1) := dk_28 (dk_at dksX1_end_0 10 rfl rfl)
theorem dX1_end_11 : decode cX1_end 11 = .ok (.iconst 1, 1) := dk_4 (dk_at dksX1_end_0 11 rfl rfl)
theorem dX1_end_12 : decode cX1_end 12 = .ok (.if_icmp .ne 7, 3) := dk_160 0 7 (dk_at dksX1_end_0 12 rfl rfl)
theorem dX1_end_15 : decode cX1_end 15 = .ok (.iconst 1, 1) := dk_4 (dk_at dksX1_end_0 15 rfl rfl)
theorem dX1_end_16 : decode cX1_end 16 = .ok (.goto 4, 3) := dk_167 0 4 (dk_at dksX1_end_0 16 rfl rfl)
theorem dX1_end_19 : decode cX1_end 19 = .ok (.iconst 0, 1) := dk_3 (dk_at dksX1_end_0 19 rfl rfl)
theorem dX1_end_20 : decode cX1_end 20 = .ok (.invokestatic 61, 3) := dk_184 0 61 (dk_at dksX1_end_0 20 rfl rfl)
theorem dX1_end_23 : decode cX1_end 23 = .ok (.iload_n 2, 1) := dk_28 (dk_at dksX1_end_0 23 rfl rfl)
theorem dX1_end_24 : decode cX1_end 24 = .ok (.ifCond .ne 12, 3) := dk_154 0 12 (dk_at dksX1_end_1 0 rfl rfl)
theorem dX1_end_27 : decode cX1_end 27 = .ok (.aload_n 0, 1) := dk_42 (dk_at dksX1_end_1 3 rfl rfl)
theorem dX1_end_28 : decode cX1_end 28 = .ok (.getfield 23, 3) := dk_180 0 23 (dk_at dksX1_end_1 4 rfl rfl)
theorem dX1_end_31 : decode cX1_end 31 = .ok (.aload_n 3, 1) := dk_45 (dk_at dksX1_end_1 7 rfl rfl)
theorem dX1_end_32 : decode cX1_end 32 = .ok (.invokevirtual 240, 3) := dk_182 0 240 (dk_at dksX1_end_1 8 rfl rfl)
theorem dX1_end_35 : decode cX1_end 35 = .ok (.ireturn, 1) := dk_172 (dk_at dksX1_end_1 11 rfl rfl)
theorem dX1_end_36 : decode cX1_end 36 = .ok (.aload_n 0, 1) := dk_42 (dk_at dksX1_end_1 12 rfl rfl)
theorem dX1_end_37 : decode cX1_end 37 = .ok (.getfield 23, 3) := dk_180 0 23 (dk_at dksX1_end_1 13 rfl rfl)
theorem dX1_end_40 : decode cX1_end 40 = .ok (.aload_n 3, 1) := dk_45 (dk_at dksX1_end_1 16 rfl rfl)
theorem dX1_end_41 : decode cX1_end 41 = .ok (.bipush 24, 2) := dk_16 24 (dk_at dksX1_end_1 17 rfl rfl)
theorem dX1_end_43 : decode cX1_end 43 = .ok (.invokevirtual 236, 3) := dk_182 0 236 (dk_at dksX1_end_1 19 rfl rfl)
theorem dX1_end_46 : decode cX1_end 46 = .ok (.istore 4, 2) := dk_54 4 (dk_at dksX1_end_1 22 rfl rfl)
theorem dX1_end_48 : decode cX1_end 48 = .ok (.bipush 24, 2) := dk_16 24 (dk_at dksX1_end_2 0 rfl rfl)
theorem dX1_end_50 : decode cX1_end 50 = .ok (.istore 5, 2) := dk_54 5 (dk_at dksX1_end_2 2 rfl rfl)
theorem dX1_end_52 : decode cX1_end 52 = .ok (.iload 5, 2) := dk_21 5 (dk_at dksX1_end_2 4 rfl rfl)
theorem dX1_end_54 : decode cX1_end 54 = .ok (.aload_n 3, 1) := dk_45 (dk_at dksX1_end_2 6 rfl rfl)
theorem dX1_end_55 : decode cX1_end 55 = .ok (.getfield 195, 3) := dk_180 0 195 (dk_at dksX1_end_2 7 rfl rfl)
theorem dX1_end_58 : decode cX1_end 58 = .ok (.if_icmp .le 26, 3) := dk_164 0 26 (dk_at dksX1_end_2 10 rfl rfl)
theorem dX1_end_61 : decode cX1_end 61 = .ok (.aload_n 0, 1) := dk_42 (dk_at dksX1_end_2 13 rfl rfl)
theorem dX1_end_62 : decode cX1_end 62 = .ok (.getfield 23, 3) := dk_180 0 23 (dk_at dksX1_end_2 14 rfl rfl)
theorem dX1_end_65 : decode cX1_end 65 = .ok (.aload_n 3, 1) := dk_45 (dk_at dksX1_end_2 17 rfl rfl)
theorem dX1_end_66 : decode cX1_end 66 = .ok (.iload 5, 2) := dk_21 5 (dk_at dksX1_end_2 18 rfl rfl)
theorem dX1_end_68 : decode cX1_end 68 = .ok (.iconst 1, 1) := dk_4 (dk_at dksX1_end_2 20 rfl rfl)
theorem dX1_end_69 : decode cX1_end 69 = .ok (.isub, 1) := dk_100 (dk_at dksX1_end_2 21 rfl rfl)
theorem dX1_end_70 : decode cX1_end 70 = .ok (.invokevirtual 236, 3) := dk_182 0 236 (dk_at dksX1_end_3 0 rfl rfl)
theorem dX1_end_73 : decode cX1_end 73 = .ok (.iload 4, 2) := dk_21 4 (dk_at dksX1_end_3 3 rfl rfl)
theorem dX1_end_75 : decode cX1_end 75 = .ok (.if_icmp .ne 9, 3) := dk_160 0 9 (dk_at dksX1_end_3 5 rfl rfl)
theorem dX1_end_78 : decode cX1_end 78 = .ok (.iinc 5 (-1), 3) := dk_132 5 255 (dk_at dksX1_end_3 8 rfl rfl)
theorem dX1_end_81 : decode cX1_end 81 = .ok (.goto (-29), 3) := dk_167 255 227 (dk_at dksX1_end_3 11 rfl rfl)
theorem dX1_end_84 : decode cX1_end 84 = .ok (.iload 5, 2) := dk_21 5 (dk_at dksX1_end_3 14 rfl rfl)
theorem dX1_end_86 : decode cX1_end 86 = .ok (.ireturn, 1) := dk_172 (dk_at dksX1_end_3 16 rfl rfl)
abbrev cX1_plan : ByteArray := prog_1_method_28_code
def yX1_plan : MethodName := ⟨RX1, "plan", "(IIII)I"⟩
def dkwX1_plan_3 : List UInt8 := [3, 21, 4, 29, 100, 4, 96, 29, 3, 182, 0, 253, 42, 180, 0, 244, 172]
abbrev dktX1_plan_3 : List UInt8 := dkwX1_plan_3 ++ []
def dkwX1_plan_2 : List UInt8 := [184, 0, 104, 42, 180, 0, 27, 42, 180, 0, 23, 182, 1, 1, 42, 2, 181, 0, 244, 42, 25, 5, 25, 6]
abbrev dktX1_plan_2 : List UInt8 := dkwX1_plan_2 ++ dktX1_plan_3
def dkwX1_plan_1 : List UInt8 := [21, 4, 163, 0, 20, 21, 4, 29, 6, 96, 163, 0, 12, 27, 28, 159, 0, 7, 4, 167, 0, 4, 3]
abbrev dktX1_plan_1 : List UInt8 := dkwX1_plan_1 ++ dktX1_plan_2
def dkwX1_plan_0 : List UInt8 := [42, 27, 182, 0, 189, 58, 5, 42, 28, 182, 0, 189, 58, 6, 29, 184, 0, 201, 21, 4, 184, 0, 201, 29]
abbrev dktX1_plan_0 : List UInt8 := dkwX1_plan_0 ++ dktX1_plan_1
theorem dksX1_plan_0 : cX1_plan.data.toList.drop 0 = dktX1_plan_0 := by decide +kernel
theorem dksX1_plan_1 : cX1_plan.data.toList.drop 24 = dktX1_plan_1 := dk_seg dksX1_plan_0 24 rfl rfl
theorem dksX1_plan_2 : cX1_plan.data.toList.drop 47 = dktX1_plan_2 := dk_seg dksX1_plan_1 23 rfl rfl
theorem dksX1_plan_3 : cX1_plan.data.toList.drop 71 = dktX1_plan_3 := dk_seg dksX1_plan_2 24 rfl rfl
theorem dX1_plan_0 : decode cX1_plan 0 = .ok (.aload_n 0, 1) := dk_42 (dk_at dksX1_plan_0 0 rfl rfl)
theorem dX1_plan_1 : decode cX1_plan 1 = .ok (.iload_n 1, 1) := dk_27 (dk_at dksX1_plan_0 1 rfl rfl)
theorem dX1_plan_2 : decode cX1_plan 2 = .ok (.invokevirtual 189, 3) := dk_182 0 189 (dk_at dksX1_plan_0 2 rfl rfl)
theorem dX1_plan_5 : decode cX1_plan 5 = .ok (.astore 5, 2) := dk_58 5 (dk_at dksX1_plan_0 5 rfl rfl)
theorem dX1_plan_7 : decode cX1_plan 7 = .ok (.aload_n 0, 1) := dk_42 (dk_at dksX1_plan_0 7 rfl rfl)
theorem dX1_plan_8 : decode cX1_plan 8 = .ok (.iload_n 2, 1) := dk_28 (dk_at dksX1_plan_0 8 rfl rfl)
theorem dX1_plan_9 : decode cX1_plan 9 = .ok (.invokevirtual 189, 3) := dk_182 0 189 (dk_at dksX1_plan_0 9 rfl rfl)
theorem dX1_plan_12 : decode cX1_plan 12 = .ok (.astore 6, 2) := dk_58 6 (dk_at dksX1_plan_0 12 rfl rfl)
theorem dX1_plan_14 : decode cX1_plan 14 = .ok (.iload_n 3, 1) := dk_29 (dk_at dksX1_plan_0 14 rfl rfl)
theorem dX1_plan_15 : decode cX1_plan 15 = .ok (.invokestatic 201, 3) := dk_184 0 201 (dk_at dksX1_plan_0 15 rfl rfl)
theorem dX1_plan_18 : decode cX1_plan 18 = .ok (.iload 4, 2) := dk_21 4 (dk_at dksX1_plan_0 18 rfl rfl)
theorem dX1_plan_20 : decode cX1_plan 20 = .ok (.invokestatic 201, 3) := dk_184 0 201 (dk_at dksX1_plan_0 20 rfl rfl)
theorem dX1_plan_23 : decode cX1_plan 23 = .ok (.iload_n 3, 1) := dk_29 (dk_at dksX1_plan_0 23 rfl rfl)
theorem dX1_plan_24 : decode cX1_plan 24 = .ok (.iload 4, 2) := dk_21 4 (dk_at dksX1_plan_1 0 rfl rfl)
theorem dX1_plan_26 : decode cX1_plan 26 = .ok (.if_icmp .gt 20, 3) := dk_163 0 20 (dk_at dksX1_plan_1 2 rfl rfl)
theorem dX1_plan_29 : decode cX1_plan 29 = .ok (.iload 4, 2) := dk_21 4 (dk_at dksX1_plan_1 5 rfl rfl)
theorem dX1_plan_31 : decode cX1_plan 31 = .ok (.iload_n 3, 1) := dk_29 (dk_at dksX1_plan_1 7 rfl rfl)
theorem dX1_plan_32 : decode cX1_plan 32 = .ok (.iconst 3, 1) := dk_6 (dk_at dksX1_plan_1 8 rfl rfl)
theorem dX1_plan_33 : decode cX1_plan 33 = .ok (.iadd, 1) := dk_96 (dk_at dksX1_plan_1 9 rfl rfl)
theorem dX1_plan_34 : decode cX1_plan 34 = .ok (.if_icmp .gt 12, 3) := dk_163 0 12 (dk_at dksX1_plan_1 10 rfl rfl)
theorem dX1_plan_37 : decode cX1_plan 37 = .ok (.iload_n 1, 1) := dk_27 (dk_at dksX1_plan_1 13 rfl rfl)
theorem dX1_plan_38 : decode cX1_plan 38 = .ok (.iload_n 2, 1) := dk_28 (dk_at dksX1_plan_1 14 rfl rfl)
theorem dX1_plan_39 : decode cX1_plan 39 = .ok (.if_icmp .eq 7, 3) := dk_159 0 7 (dk_at dksX1_plan_1 15 rfl rfl)
theorem dX1_plan_42 : decode cX1_plan 42 = .ok (.iconst 1, 1) := dk_4 (dk_at dksX1_plan_1 18 rfl rfl)
theorem dX1_plan_43 : decode cX1_plan 43 = .ok (.goto 4, 3) := dk_167 0 4 (dk_at dksX1_plan_1 19 rfl rfl)
theorem dX1_plan_46 : decode cX1_plan 46 = .ok (.iconst 0, 1) := dk_3 (dk_at dksX1_plan_1 22 rfl rfl)
theorem dX1_plan_47 : decode cX1_plan 47 = .ok (.invokestatic 104, 3) := dk_184 0 104 (dk_at dksX1_plan_2 0 rfl rfl)
theorem dX1_plan_50 : decode cX1_plan 50 = .ok (.aload_n 0, 1) := dk_42 (dk_at dksX1_plan_2 3 rfl rfl)
theorem dX1_plan_51 : decode cX1_plan 51 = .ok (.getfield 27, 3) := dk_180 0 27 (dk_at dksX1_plan_2 4 rfl rfl)
theorem dX1_plan_54 : decode cX1_plan 54 = .ok (.aload_n 0, 1) := dk_42 (dk_at dksX1_plan_2 7 rfl rfl)
theorem dX1_plan_55 : decode cX1_plan 55 = .ok (.getfield 23, 3) := dk_180 0 23 (dk_at dksX1_plan_2 8 rfl rfl)
theorem dX1_plan_58 : decode cX1_plan 58 = .ok (.invokevirtual 257, 3) := dk_182 1 1 (dk_at dksX1_plan_2 11 rfl rfl)
theorem dX1_plan_61 : decode cX1_plan 61 = .ok (.aload_n 0, 1) := dk_42 (dk_at dksX1_plan_2 14 rfl rfl)
theorem dX1_plan_62 : decode cX1_plan 62 = .ok (.iconst (-1), 1) := dk_2 (dk_at dksX1_plan_2 15 rfl rfl)
theorem dX1_plan_63 : decode cX1_plan 63 = .ok (.putfield 244, 3) := dk_181 0 244 (dk_at dksX1_plan_2 16 rfl rfl)
theorem dX1_plan_66 : decode cX1_plan 66 = .ok (.aload_n 0, 1) := dk_42 (dk_at dksX1_plan_2 19 rfl rfl)
theorem dX1_plan_67 : decode cX1_plan 67 = .ok (.aload 5, 2) := dk_25 5 (dk_at dksX1_plan_2 20 rfl rfl)
theorem dX1_plan_69 : decode cX1_plan 69 = .ok (.aload 6, 2) := dk_25 6 (dk_at dksX1_plan_2 22 rfl rfl)
theorem dX1_plan_71 : decode cX1_plan 71 = .ok (.iconst 0, 1) := dk_3 (dk_at dksX1_plan_3 0 rfl rfl)
theorem dX1_plan_72 : decode cX1_plan 72 = .ok (.iload 4, 2) := dk_21 4 (dk_at dksX1_plan_3 1 rfl rfl)
theorem dX1_plan_74 : decode cX1_plan 74 = .ok (.iload_n 3, 1) := dk_29 (dk_at dksX1_plan_3 3 rfl rfl)
theorem dX1_plan_75 : decode cX1_plan 75 = .ok (.isub, 1) := dk_100 (dk_at dksX1_plan_3 4 rfl rfl)
theorem dX1_plan_76 : decode cX1_plan 76 = .ok (.iconst 1, 1) := dk_4 (dk_at dksX1_plan_3 5 rfl rfl)
theorem dX1_plan_77 : decode cX1_plan 77 = .ok (.iadd, 1) := dk_96 (dk_at dksX1_plan_3 6 rfl rfl)
theorem dX1_plan_78 : decode cX1_plan 78 = .ok (.iload_n 3, 1) := dk_29 (dk_at dksX1_plan_3 7 rfl rfl)
theorem dX1_plan_79 : decode cX1_plan 79 = .ok (.iconst 0, 1) := dk_3 (dk_at dksX1_plan_3 8 rfl rfl)
theorem dX1_plan_80 : decode cX1_plan 80 = .ok (.invokevirtual 253, 3) := dk_182 0 253 (dk_at dksX1_plan_3 9 rfl rfl)
theorem dX1_plan_83 : decode cX1_plan 83 = .ok (.aload_n 0, 1) := dk_42 (dk_at dksX1_plan_3 12 rfl rfl)
theorem dX1_plan_84 : decode cX1_plan 84 = .ok (.getfield 244, 3) := dk_180 0 244 (dk_at dksX1_plan_3 13 rfl rfl)
theorem dX1_plan_87 : decode cX1_plan 87 = .ok (.ireturn, 1) := dk_172 (dk_at dksX1_plan_3 16 rfl rfl)
abbrev cX1_plans : ByteArray := prog_1_method_27_code
def yX1_plans : MethodName := ⟨RX1, "plans", "(LEelPort$Ship;LEelPort$Ship;IIII)V"⟩
def dkwX1_plans_9 : List UInt8 := [177]
abbrev dktX1_plans_9 : List UInt8 := dkwX1_plans_9 ++ []
def dkwX1_plans_8 : List UInt8 := [21, 7, 158, 0, 16, 42, 180, 0, 27, 89, 180, 0, 126, 4, 100, 181, 0, 126, 132, 7, 1, 167, 255, 138]
abbrev dktX1_plans_8 : List UInt8 := dkwX1_plans_8 ++ dktX1_plans_9
def dkwX1_plans_7 : List UInt8 := [180, 0, 23, 180, 0, 65, 21, 7, 4, 100, 5, 112, 182, 0, 151, 167, 0, 4, 3, 96, 182, 0, 253]
abbrev dktX1_plans_7 : List UInt8 := dkwX1_plans_7 ++ dktX1_plans_8
def dkwX1_plans_6 : List UInt8 := [112, 182, 0, 207, 42, 43, 44, 29, 4, 96, 21, 4, 21, 5, 21, 6, 21, 7, 158, 0, 22, 42]
abbrev dktX1_plans_6 : List UInt8 := dkwX1_plans_6 ++ dktX1_plans_7
def dkwX1_plans_5 : List UInt8 := [21, 7, 158, 0, 26, 42, 180, 0, 27, 21, 7, 4, 100, 5, 108, 21, 5, 29, 96, 21, 7, 4, 100, 5]
abbrev dktX1_plans_5 : List UInt8 := dkwX1_plans_5 ++ dktX1_plans_6
def dkwX1_plans_4 : List UInt8 := [180, 0, 23, 180, 0, 65, 180, 0, 87, 182, 0, 75, 104, 163, 0, 104, 42, 180, 0, 38, 29, 21, 7, 79]
abbrev dktX1_plans_4 : List UInt8 := dkwX1_plans_4 ++ dktX1_plans_5
def dkwX1_plans_3 : List UInt8 := [3, 42, 180, 0, 42, 3, 42, 180, 0, 42, 190, 184, 0, 247, 177, 3, 54, 7, 21, 7, 5, 42]
abbrev dktX1_plans_3 : List UInt8 := dkwX1_plans_3 ++ dktX1_plans_4
def dkwX1_plans_2 : List UInt8 := [182, 0, 240, 4, 160, 0, 4, 177, 42, 21, 6, 181, 0, 244, 42, 21, 4, 181, 0, 45, 42, 180, 0, 38]
abbrev dktX1_plans_2 : List UInt8 := dkwX1_plans_2 ++ dktX1_plans_3
def dkwX1_plans_1 : List UInt8 := [42, 180, 0, 27, 182, 0, 132, 42, 180, 0, 27, 43, 182, 0, 240, 4, 160, 0, 15, 42, 180, 0, 27, 44]
abbrev dktX1_plans_1 : List UInt8 := dkwX1_plans_1 ++ dktX1_plans_2
def dkwX1_plans_0 : List UInt8 := [42, 180, 0, 244, 2, 159, 0, 13, 21, 6, 42, 180, 0, 244, 161, 0, 4, 177, 29, 21, 4, 160, 0, 66]
abbrev dktX1_plans_0 : List UInt8 := dkwX1_plans_0 ++ dktX1_plans_1
theorem dksX1_plans_0 : cX1_plans.data.toList.drop 0 = dktX1_plans_0 := by decide +kernel
theorem dksX1_plans_1 : cX1_plans.data.toList.drop 24 = dktX1_plans_1 := dk_seg dksX1_plans_0 24 rfl rfl
theorem dksX1_plans_2 : cX1_plans.data.toList.drop 48 = dktX1_plans_2 := dk_seg dksX1_plans_1 24 rfl rfl
theorem dksX1_plans_3 : cX1_plans.data.toList.drop 72 = dktX1_plans_3 := dk_seg dksX1_plans_2 24 rfl rfl
theorem dksX1_plans_4 : cX1_plans.data.toList.drop 94 = dktX1_plans_4 := dk_seg dksX1_plans_3 22 rfl rfl
theorem dksX1_plans_5 : cX1_plans.data.toList.drop 118 = dktX1_plans_5 := dk_seg dksX1_plans_4 24 rfl rfl
theorem dksX1_plans_6 : cX1_plans.data.toList.drop 142 = dktX1_plans_6 := dk_seg dksX1_plans_5 24 rfl rfl
theorem dksX1_plans_7 : cX1_plans.data.toList.drop 164 = dktX1_plans_7 := dk_seg dksX1_plans_6 22 rfl rfl
theorem dksX1_plans_8 : cX1_plans.data.toList.drop 187 = dktX1_plans_8 := dk_seg dksX1_plans_7 23 rfl rfl
theorem dksX1_plans_9 : cX1_plans.data.toList.drop 211 = dktX1_plans_9 := dk_seg dksX1_plans_8 24 rfl rfl
theorem dX1_plans_0 : decode cX1_plans 0 = .ok (.aload_n 0, 1) := dk_42 (dk_at dksX1_plans_0 0 rfl rfl)
theorem dX1_plans_1 : decode cX1_plans 1 = .ok (.getfield 244, 3) := dk_180 0 244 (dk_at dksX1_plans_0 1 rfl rfl)
theorem dX1_plans_4 : decode cX1_plans 4 = .ok (.iconst (-1), 1) := dk_2 (dk_at dksX1_plans_0 4 rfl rfl)
theorem dX1_plans_5 : decode cX1_plans 5 = .ok (.if_icmp .eq 13, 3) := dk_159 0 13 (dk_at dksX1_plans_0 5 rfl rfl)
theorem dX1_plans_8 : decode cX1_plans 8 = .ok (.iload 6, 2) := dk_21 6 (dk_at dksX1_plans_0 8 rfl rfl)
theorem dX1_plans_10 : decode cX1_plans 10 = .ok (.aload_n 0, 1) := dk_42 (dk_at dksX1_plans_0 10 rfl rfl)
theorem dX1_plans_11 : decode cX1_plans 11 = .ok (.getfield 244, 3) := dk_180 0 244 (dk_at dksX1_plans_0 11 rfl rfl)
theorem dX1_plans_14 : decode cX1_plans 14 = .ok (.if_icmp .lt 4, 3) := dk_161 0 4 (dk_at dksX1_plans_0 14 rfl rfl)
theorem dX1_plans_17 : decode cX1_plans 17 = .ok (.return_, 1) := dk_177 (dk_at dksX1_plans_0 17 rfl rfl)
theorem dX1_plans_18 : decode cX1_plans 18 = .ok (.iload_n 3, 1) := dk_29 (dk_at dksX1_plans_0 18 rfl rfl)
theorem dX1_plans_19 : decode cX1_plans 19 = .ok (.iload 4, 2) := dk_21 4 (dk_at dksX1_plans_0 19 rfl rfl)
theorem dX1_plans_21 : decode cX1_plans 21 = .ok (.if_icmp .ne 66, 3) := dk_160 0 66 (dk_at dksX1_plans_0 21 rfl rfl)
theorem dX1_plans_24 : decode cX1_plans 24 = .ok (.aload_n 0, 1) := dk_42 (dk_at dksX1_plans_1 0 rfl rfl)
theorem dX1_plans_25 : decode cX1_plans 25 = .ok (.getfield 27, 3) := dk_180 0 27 (dk_at dksX1_plans_1 1 rfl rfl)
theorem dX1_plans_28 : decode cX1_plans 28 = .ok (.invokevirtual 132, 3) := dk_182 0 132 (dk_at dksX1_plans_1 4 rfl rfl)
theorem dX1_plans_31 : decode cX1_plans 31 = .ok (.aload_n 0, 1) := dk_42 (dk_at dksX1_plans_1 7 rfl rfl)
theorem dX1_plans_32 : decode cX1_plans 32 = .ok (.getfield 27, 3) := dk_180 0 27 (dk_at dksX1_plans_1 8 rfl rfl)
theorem dX1_plans_35 : decode cX1_plans 35 = .ok (.aload_n 1, 1) := dk_43 (dk_at dksX1_plans_1 11 rfl rfl)
theorem dX1_plans_36 : decode cX1_plans 36 = .ok (.invokevirtual 240, 3) := dk_182 0 240 (dk_at dksX1_plans_1 12 rfl rfl)
theorem dX1_plans_39 : decode cX1_plans 39 = .ok (.iconst 1, 1) := dk_4 (dk_at dksX1_plans_1 15 rfl rfl)
theorem dX1_plans_40 : decode cX1_plans 40 = .ok (.if_icmp .ne 15, 3) := dk_160 0 15 (dk_at dksX1_plans_1 16 rfl rfl)
theorem dX1_plans_43 : decode cX1_plans 43 = .ok (.aload_n 0, 1) := dk_42 (dk_at dksX1_plans_1 19 rfl rfl)
theorem dX1_plans_44 : decode cX1_plans 44 = .ok (.getfield 27, 3) := dk_180 0 27 (dk_at dksX1_plans_1 20 rfl rfl)
theorem dX1_plans_47 : decode cX1_plans 47 = .ok (.aload_n 2, 1) := dk_44 (dk_at dksX1_plans_1 23 rfl rfl)
theorem dX1_plans_48 : decode cX1_plans 48 = .ok (.invokevirtual 240, 3) := dk_182 0 240 (dk_at dksX1_plans_2 0 rfl rfl)
theorem dX1_plans_51 : decode cX1_plans 51 = .ok (.iconst 1, 1) := dk_4 (dk_at dksX1_plans_2 3 rfl rfl)
theorem dX1_plans_52 : decode cX1_plans 52 = .ok (.if_icmp .ne 4, 3) := dk_160 0 4 (dk_at dksX1_plans_2 4 rfl rfl)
theorem dX1_plans_55 : decode cX1_plans 55 = .ok (.return_, 1) := dk_177 (dk_at dksX1_plans_2 7 rfl rfl)
theorem dX1_plans_56 : decode cX1_plans 56 = .ok (.aload_n 0, 1) := dk_42 (dk_at dksX1_plans_2 8 rfl rfl)
theorem dX1_plans_57 : decode cX1_plans 57 = .ok (.iload 6, 2) := dk_21 6 (dk_at dksX1_plans_2 9 rfl rfl)
theorem dX1_plans_59 : decode cX1_plans 59 = .ok (.putfield 244, 3) := dk_181 0 244 (dk_at dksX1_plans_2 11 rfl rfl)
theorem dX1_plans_62 : decode cX1_plans 62 = .ok (.aload_n 0, 1) := dk_42 (dk_at dksX1_plans_2 14 rfl rfl)
theorem dX1_plans_63 : decode cX1_plans 63 = .ok (.iload 4, 2) := dk_21 4 (dk_at dksX1_plans_2 15 rfl rfl)
theorem dX1_plans_65 : decode cX1_plans 65 = .ok (.putfield 45, 3) := dk_181 0 45 (dk_at dksX1_plans_2 17 rfl rfl)
theorem dX1_plans_68 : decode cX1_plans 68 = .ok (.aload_n 0, 1) := dk_42 (dk_at dksX1_plans_2 20 rfl rfl)
theorem dX1_plans_69 : decode cX1_plans 69 = .ok (.getfield 38, 3) := dk_180 0 38 (dk_at dksX1_plans_2 21 rfl rfl)
theorem dX1_plans_72 : decode cX1_plans 72 = .ok (.iconst 0, 1) := dk_3 (dk_at dksX1_plans_3 0 rfl rfl)
theorem dX1_plans_73 : decode cX1_plans 73 = .ok (.aload_n 0, 1) := dk_42 (dk_at dksX1_plans_3 1 rfl rfl)
theorem dX1_plans_74 : decode cX1_plans 74 = .ok (.getfield 42, 3) := dk_180 0 42 (dk_at dksX1_plans_3 2 rfl rfl)
theorem dX1_plans_77 : decode cX1_plans 77 = .ok (.iconst 0, 1) := dk_3 (dk_at dksX1_plans_3 5 rfl rfl)
theorem dX1_plans_78 : decode cX1_plans 78 = .ok (.aload_n 0, 1) := dk_42 (dk_at dksX1_plans_3 6 rfl rfl)
theorem dX1_plans_79 : decode cX1_plans 79 = .ok (.getfield 42, 3) := dk_180 0 42 (dk_at dksX1_plans_3 7 rfl rfl)
theorem dX1_plans_82 : decode cX1_plans 82 = .ok (.arraylength, 1) := dk_190 (dk_at dksX1_plans_3 10 rfl rfl)
theorem dX1_plans_83 : decode cX1_plans 83 = .ok (.invokestatic 247, 3) := dk_184 0 247 (dk_at dksX1_plans_3 11 rfl rfl)
theorem dX1_plans_86 : decode cX1_plans 86 = .ok (.return_, 1) := dk_177 (dk_at dksX1_plans_3 14 rfl rfl)
theorem dX1_plans_87 : decode cX1_plans 87 = .ok (.iconst 0, 1) := dk_3 (dk_at dksX1_plans_3 15 rfl rfl)
theorem dX1_plans_88 : decode cX1_plans 88 = .ok (.istore 7, 2) := dk_54 7 (dk_at dksX1_plans_3 16 rfl rfl)
theorem dX1_plans_90 : decode cX1_plans 90 = .ok (.iload 7, 2) := dk_21 7 (dk_at dksX1_plans_3 18 rfl rfl)
theorem dX1_plans_92 : decode cX1_plans 92 = .ok (.iconst 2, 1) := dk_5 (dk_at dksX1_plans_3 20 rfl rfl)
theorem dX1_plans_93 : decode cX1_plans 93 = .ok (.aload_n 0, 1) := dk_42 (dk_at dksX1_plans_3 21 rfl rfl)
theorem dX1_plans_94 : decode cX1_plans 94 = .ok (.getfield 23, 3) := dk_180 0 23 (dk_at dksX1_plans_4 0 rfl rfl)
theorem dX1_plans_97 : decode cX1_plans 97 = .ok (.getfield 65, 3) := dk_180 0 65 (dk_at dksX1_plans_4 3 rfl rfl)
theorem dX1_plans_100 : decode cX1_plans 100 = .ok (.getfield 87, 3) := dk_180 0 87 (dk_at dksX1_plans_4 6 rfl rfl)
theorem dX1_plans_103 : decode cX1_plans 103 = .ok (.invokevirtual 75, 3) := dk_182 0 75 (dk_at dksX1_plans_4 9 rfl rfl)
theorem dX1_plans_106 : decode cX1_plans 106 = .ok (.imul, 1) := dk_104 (dk_at dksX1_plans_4 12 rfl rfl)
theorem dX1_plans_107 : decode cX1_plans 107 = .ok (.if_icmp .gt 104, 3) := dk_163 0 104 (dk_at dksX1_plans_4 13 rfl rfl)
theorem dX1_plans_110 : decode cX1_plans 110 = .ok (.aload_n 0, 1) := dk_42 (dk_at dksX1_plans_4 16 rfl rfl)
theorem dX1_plans_111 : decode cX1_plans 111 = .ok (.getfield 38, 3) := dk_180 0 38 (dk_at dksX1_plans_4 17 rfl rfl)
theorem dX1_plans_114 : decode cX1_plans 114 = .ok (.iload_n 3, 1) := dk_29 (dk_at dksX1_plans_4 20 rfl rfl)
theorem dX1_plans_115 : decode cX1_plans 115 = .ok (.iload 7, 2) := dk_21 7 (dk_at dksX1_plans_4 21 rfl rfl)
theorem dX1_plans_117 : decode cX1_plans 117 = .ok (.iastore, 1) := dk_79 (dk_at dksX1_plans_4 23 rfl rfl)
theorem dX1_plans_118 : decode cX1_plans 118 = .ok (.iload 7, 2) := dk_21 7 (dk_at dksX1_plans_5 0 rfl rfl)
theorem dX1_plans_120 : decode cX1_plans 120 = .ok (.ifCond .le 26, 3) := dk_158 0 26 (dk_at dksX1_plans_5 2 rfl rfl)
theorem dX1_plans_123 : decode cX1_plans 123 = .ok (.aload_n 0, 1) := dk_42 (dk_at dksX1_plans_5 5 rfl rfl)
theorem dX1_plans_124 : decode cX1_plans 124 = .ok (.getfield 27, 3) := dk_180 0 27 (dk_at dksX1_plans_5 6 rfl rfl)
theorem dX1_plans_127 : decode cX1_plans 127 = .ok (.iload 7, 2) := dk_21 7 (dk_at dksX1_plans_5 9 rfl rfl)
theorem dX1_plans_129 : decode cX1_plans 129 = .ok (.iconst 1, 1) := dk_4 (dk_at dksX1_plans_5 11 rfl rfl)
theorem dX1_plans_130 : decode cX1_plans 130 = .ok (.isub, 1) := dk_100 (dk_at dksX1_plans_5 12 rfl rfl)
theorem dX1_plans_131 : decode cX1_plans 131 = .ok (.iconst 2, 1) := dk_5 (dk_at dksX1_plans_5 13 rfl rfl)
theorem dX1_plans_132 : decode cX1_plans 132 = .ok (.idiv, 1) := dk_108 (dk_at dksX1_plans_5 14 rfl rfl)
theorem dX1_plans_133 : decode cX1_plans 133 = .ok (.iload 5, 2) := dk_21 5 (dk_at dksX1_plans_5 15 rfl rfl)
theorem dX1_plans_135 : decode cX1_plans 135 = .ok (.iload_n 3, 1) := dk_29 (dk_at dksX1_plans_5 17 rfl rfl)
theorem dX1_plans_136 : decode cX1_plans 136 = .ok (.iadd, 1) := dk_96 (dk_at dksX1_plans_5 18 rfl rfl)
theorem dX1_plans_137 : decode cX1_plans 137 = .ok (.iload 7, 2) := dk_21 7 (dk_at dksX1_plans_5 19 rfl rfl)
theorem dX1_plans_139 : decode cX1_plans 139 = .ok (.iconst 1, 1) := dk_4 (dk_at dksX1_plans_5 21 rfl rfl)
theorem dX1_plans_140 : decode cX1_plans 140 = .ok (.isub, 1) := dk_100 (dk_at dksX1_plans_5 22 rfl rfl)
theorem dX1_plans_141 : decode cX1_plans 141 = .ok (.iconst 2, 1) := dk_5 (dk_at dksX1_plans_5 23 rfl rfl)
theorem dX1_plans_142 : decode cX1_plans 142 = .ok (.irem, 1) := dk_112 (dk_at dksX1_plans_6 0 rfl rfl)
theorem dX1_plans_143 : decode cX1_plans 143 = .ok (.invokevirtual 207, 3) := dk_182 0 207 (dk_at dksX1_plans_6 1 rfl rfl)
theorem dX1_plans_146 : decode cX1_plans 146 = .ok (.aload_n 0, 1) := dk_42 (dk_at dksX1_plans_6 4 rfl rfl)
theorem dX1_plans_147 : decode cX1_plans 147 = .ok (.aload_n 1, 1) := dk_43 (dk_at dksX1_plans_6 5 rfl rfl)
theorem dX1_plans_148 : decode cX1_plans 148 = .ok (.aload_n 2, 1) := dk_44 (dk_at dksX1_plans_6 6 rfl rfl)
theorem dX1_plans_149 : decode cX1_plans 149 = .ok (.iload_n 3, 1) := dk_29 (dk_at dksX1_plans_6 7 rfl rfl)
theorem dX1_plans_150 : decode cX1_plans 150 = .ok (.iconst 1, 1) := dk_4 (dk_at dksX1_plans_6 8 rfl rfl)
theorem dX1_plans_151 : decode cX1_plans 151 = .ok (.iadd, 1) := dk_96 (dk_at dksX1_plans_6 9 rfl rfl)
theorem dX1_plans_152 : decode cX1_plans 152 = .ok (.iload 4, 2) := dk_21 4 (dk_at dksX1_plans_6 10 rfl rfl)
theorem dX1_plans_154 : decode cX1_plans 154 = .ok (.iload 5, 2) := dk_21 5 (dk_at dksX1_plans_6 12 rfl rfl)
theorem dX1_plans_156 : decode cX1_plans 156 = .ok (.iload 6, 2) := dk_21 6 (dk_at dksX1_plans_6 14 rfl rfl)
theorem dX1_plans_158 : decode cX1_plans 158 = .ok (.iload 7, 2) := dk_21 7 (dk_at dksX1_plans_6 16 rfl rfl)
theorem dX1_plans_160 : decode cX1_plans 160 = .ok (.ifCond .le 22, 3) := dk_158 0 22 (dk_at dksX1_plans_6 18 rfl rfl)
theorem dX1_plans_163 : decode cX1_plans 163 = .ok (.aload_n 0, 1) := dk_42 (dk_at dksX1_plans_6 21 rfl rfl)
theorem dX1_plans_164 : decode cX1_plans 164 = .ok (.getfield 23, 3) := dk_180 0 23 (dk_at dksX1_plans_7 0 rfl rfl)
theorem dX1_plans_167 : decode cX1_plans 167 = .ok (.getfield 65, 3) := dk_180 0 65 (dk_at dksX1_plans_7 3 rfl rfl)
theorem dX1_plans_170 : decode cX1_plans 170 = .ok (.iload 7, 2) := dk_21 7 (dk_at dksX1_plans_7 6 rfl rfl)
theorem dX1_plans_172 : decode cX1_plans 172 = .ok (.iconst 1, 1) := dk_4 (dk_at dksX1_plans_7 8 rfl rfl)
theorem dX1_plans_173 : decode cX1_plans 173 = .ok (.isub, 1) := dk_100 (dk_at dksX1_plans_7 9 rfl rfl)
theorem dX1_plans_174 : decode cX1_plans 174 = .ok (.iconst 2, 1) := dk_5 (dk_at dksX1_plans_7 10 rfl rfl)
theorem dX1_plans_175 : decode cX1_plans 175 = .ok (.irem, 1) := dk_112 (dk_at dksX1_plans_7 11 rfl rfl)
theorem dX1_plans_176 : decode cX1_plans 176 = .ok (.invokevirtual 151, 3) := dk_182 0 151 (dk_at dksX1_plans_7 12 rfl rfl)
theorem dX1_plans_179 : decode cX1_plans 179 = .ok (.goto 4, 3) := dk_167 0 4 (dk_at dksX1_plans_7 15 rfl rfl)
theorem dX1_plans_182 : decode cX1_plans 182 = .ok (.iconst 0, 1) := dk_3 (dk_at dksX1_plans_7 18 rfl rfl)
theorem dX1_plans_183 : decode cX1_plans 183 = .ok (.iadd, 1) := dk_96 (dk_at dksX1_plans_7 19 rfl rfl)
theorem dX1_plans_184 : decode cX1_plans 184 = .ok (.invokevirtual 253, 3) := dk_182 0 253 (dk_at dksX1_plans_7 20 rfl rfl)
theorem dX1_plans_187 : decode cX1_plans 187 = .ok (.iload 7, 2) := dk_21 7 (dk_at dksX1_plans_8 0 rfl rfl)
theorem dX1_plans_189 : decode cX1_plans 189 = .ok (.ifCond .le 16, 3) := dk_158 0 16 (dk_at dksX1_plans_8 2 rfl rfl)
theorem dX1_plans_192 : decode cX1_plans 192 = .ok (.aload_n 0, 1) := dk_42 (dk_at dksX1_plans_8 5 rfl rfl)
theorem dX1_plans_193 : decode cX1_plans 193 = .ok (.getfield 27, 3) := dk_180 0 27 (dk_at dksX1_plans_8 6 rfl rfl)
theorem dX1_plans_196 : decode cX1_plans 196 = .ok (.dup, 1) := dk_89 (dk_at dksX1_plans_8 9 rfl rfl)
theorem dX1_plans_197 : decode cX1_plans 197 = .ok (.getfield 126, 3) := dk_180 0 126 (dk_at dksX1_plans_8 10 rfl rfl)
theorem dX1_plans_200 : decode cX1_plans 200 = .ok (.iconst 1, 1) := dk_4 (dk_at dksX1_plans_8 13 rfl rfl)
theorem dX1_plans_201 : decode cX1_plans 201 = .ok (.isub, 1) := dk_100 (dk_at dksX1_plans_8 14 rfl rfl)
theorem dX1_plans_202 : decode cX1_plans 202 = .ok (.putfield 126, 3) := dk_181 0 126 (dk_at dksX1_plans_8 15 rfl rfl)
theorem dX1_plans_205 : decode cX1_plans 205 = .ok (.iinc 7 1, 3) := dk_132 7 1 (dk_at dksX1_plans_8 18 rfl rfl)
theorem dX1_plans_208 : decode cX1_plans 208 = .ok (.goto (-118), 3) := dk_167 255 138 (dk_at dksX1_plans_8 21 rfl rfl)
theorem dX1_plans_211 : decode cX1_plans 211 = .ok (.return_, 1) := dk_177 (dk_at dksX1_plans_9 0 rfl rfl)
abbrev cX1_planned : ByteArray := prog_1_method_29_code
def yX1_planned : MethodName := ⟨RX1, "planned", "(I)I"⟩
def dkwX1_planned_1 : List UInt8 := [3, 184, 0, 61, 42, 180, 0, 42, 27, 46, 172]
abbrev dktX1_planned_1 : List UInt8 := dkwX1_planned_1 ++ []
def dkwX1_planned_0 : List UInt8 := [42, 180, 0, 45, 2, 159, 0, 19, 27, 155, 0, 15, 27, 42, 180, 0, 45, 162, 0, 7, 4, 167, 0, 4]
abbrev dktX1_planned_0 : List UInt8 := dkwX1_planned_0 ++ dktX1_planned_1
theorem dksX1_planned_0 : cX1_planned.data.toList.drop 0 = dktX1_planned_0 := by decide +kernel
theorem dksX1_planned_1 : cX1_planned.data.toList.drop 24 = dktX1_planned_1 := dk_seg dksX1_planned_0 24 rfl rfl
theorem dX1_planned_0 : decode cX1_planned 0 = .ok (.aload_n 0, 1) := dk_42 (dk_at dksX1_planned_0 0 rfl rfl)
theorem dX1_planned_1 : decode cX1_planned 1 = .ok (.getfield 45, 3) := dk_180 0 45 (dk_at dksX1_planned_0 1 rfl rfl)
theorem dX1_planned_4 : decode cX1_planned 4 = .ok (.iconst (-1), 1) := dk_2 (dk_at dksX1_planned_0 4 rfl rfl)
theorem dX1_planned_5 : decode cX1_planned 5 = .ok (.if_icmp .eq 19, 3) := dk_159 0 19 (dk_at dksX1_planned_0 5 rfl rfl)
theorem dX1_planned_8 : decode cX1_planned 8 = .ok (.iload_n 1, 1) := dk_27 (dk_at dksX1_planned_0 8 rfl rfl)
theorem dX1_planned_9 : decode cX1_planned 9 = .ok (.ifCond .lt 15, 3) := dk_155 0 15 (dk_at dksX1_planned_0 9 rfl rfl)
theorem dX1_planned_12 : decode cX1_planned 12 = .ok (.iload_n 1, 1) := dk_27 (dk_at dksX1_planned_0 12 rfl rfl)
theorem dX1_planned_13 : decode cX1_planned 13 = .ok (.aload_n 0, 1) := dk_42 (dk_at dksX1_planned_0 13 rfl rfl)
theorem dX1_planned_14 : decode cX1_planned 14 = .ok (.getfield 45, 3) := dk_180 0 45 (dk_at dksX1_planned_0 14 rfl rfl)
theorem dX1_planned_17 : decode cX1_planned 17 = .ok (.if_icmp .ge 7, 3) := dk_162 0 7 (dk_at dksX1_planned_0 17 rfl rfl)
theorem dX1_planned_20 : decode cX1_planned 20 = .ok (.iconst 1, 1) := dk_4 (dk_at dksX1_planned_0 20 rfl rfl)
theorem dX1_planned_21 : decode cX1_planned 21 = .ok (.goto 4, 3) := dk_167 0 4 (dk_at dksX1_planned_0 21 rfl rfl)
theorem dX1_planned_24 : decode cX1_planned 24 = .ok (.iconst 0, 1) := dk_3 (dk_at dksX1_planned_1 0 rfl rfl)
theorem dX1_planned_25 : decode cX1_planned 25 = .ok (.invokestatic 61, 3) := dk_184 0 61 (dk_at dksX1_planned_1 1 rfl rfl)
theorem dX1_planned_28 : decode cX1_planned 28 = .ok (.aload_n 0, 1) := dk_42 (dk_at dksX1_planned_1 4 rfl rfl)
theorem dX1_planned_29 : decode cX1_planned 29 = .ok (.getfield 42, 3) := dk_180 0 42 (dk_at dksX1_planned_1 5 rfl rfl)
theorem dX1_planned_32 : decode cX1_planned 32 = .ok (.iload_n 1, 1) := dk_27 (dk_at dksX1_planned_1 8 rfl rfl)
theorem dX1_planned_33 : decode cX1_planned 33 = .ok (.iaload, 1) := dk_46 (dk_at dksX1_planned_1 9 rfl rfl)
theorem dX1_planned_34 : decode cX1_planned 34 = .ok (.ireturn, 1) := dk_172 (dk_at dksX1_planned_1 10 rfl rfl)
abbrev cX1_odds : ByteArray := prog_1_method_31_code
def yX1_odds : MethodName := ⟨RX1, "odds", "(II)I"⟩
def dkwX1_odds_5 : List UInt8 := [28, 154, 0, 8, 21, 5, 167, 0, 5, 21, 4, 21, 4, 21, 5, 184, 1, 8, 108, 172]
abbrev dktX1_odds_5 : List UInt8 := dkwX1_odds_5 ++ []
def dkwX1_odds_4 : List UInt8 := [21, 5, 42, 180, 0, 23, 180, 0, 65, 180, 0, 145, 21, 6, 46, 96, 54, 5, 132, 6, 1, 167, 255, 200]
abbrev dktX1_odds_4 : List UInt8 := dkwX1_odds_4 ++ dktX1_odds_5
def dkwX1_odds_3 : List UInt8 := [21, 6, 181, 0, 129, 42, 180, 0, 27, 182, 0, 132, 42, 180, 0, 27, 45, 182, 0, 240, 5, 160, 0, 21]
abbrev dktX1_odds_3 : List UInt8 := dkwX1_odds_3 ++ dktX1_odds_4
def dkwX1_odds_2 : List UInt8 := [180, 0, 23, 182, 1, 1, 3, 54, 5, 3, 54, 6, 21, 6, 16, 10, 162, 0, 55, 42, 180, 0, 27]
abbrev dktX1_odds_2 : List UInt8 := dkwX1_odds_2 ++ dktX1_odds_3
def dkwX1_odds_1 : List UInt8 := [180, 0, 23, 180, 0, 65, 182, 1, 5, 54, 4, 21, 4, 154, 0, 5, 28, 172, 42, 180, 0, 27, 42]
abbrev dktX1_odds_1 : List UInt8 := dkwX1_odds_1 ++ dktX1_odds_2
def dkwX1_odds_0 : List UInt8 := [42, 27, 182, 0, 189, 78, 28, 153, 0, 8, 28, 4, 160, 0, 7, 4, 167, 0, 4, 3, 184, 0, 61, 42]
abbrev dktX1_odds_0 : List UInt8 := dkwX1_odds_0 ++ dktX1_odds_1
theorem dksX1_odds_0 : cX1_odds.data.toList.drop 0 = dktX1_odds_0 := by decide +kernel
theorem dksX1_odds_1 : cX1_odds.data.toList.drop 24 = dktX1_odds_1 := dk_seg dksX1_odds_0 24 rfl rfl
theorem dksX1_odds_2 : cX1_odds.data.toList.drop 47 = dktX1_odds_2 := dk_seg dksX1_odds_1 23 rfl rfl
theorem dksX1_odds_3 : cX1_odds.data.toList.drop 70 = dktX1_odds_3 := dk_seg dksX1_odds_2 23 rfl rfl
theorem dksX1_odds_4 : cX1_odds.data.toList.drop 94 = dktX1_odds_4 := dk_seg dksX1_odds_3 24 rfl rfl
theorem dksX1_odds_5 : cX1_odds.data.toList.drop 118 = dktX1_odds_5 := dk_seg dksX1_odds_4 24 rfl rfl
theorem dX1_odds_0 : decode cX1_odds 0 = .ok (.aload_n 0, 1) := dk_42 (dk_at dksX1_odds_0 0 rfl rfl)
theorem dX1_odds_1 : decode cX1_odds 1 = .ok (.iload_n 1, 1) := dk_27 (dk_at dksX1_odds_0 1 rfl rfl)
theorem dX1_odds_2 : decode cX1_odds 2 = .ok (.invokevirtual 189, 3) := dk_182 0 189 (dk_at dksX1_odds_0 2 rfl rfl)
theorem dX1_odds_5 : decode cX1_odds 5 = .ok (.astore_n 3, 1) := dk_78 (dk_at dksX1_odds_0 5 rfl rfl)
theorem dX1_odds_6 : decode cX1_odds 6 = .ok (.iload_n 2, 1) := dk_28 (dk_at dksX1_odds_0 6 rfl rfl)
theorem dX1_odds_7 : decode cX1_odds 7 = .ok (.ifCond .eq 8, 3) := dk_153 0 8 (dk_at dksX1_odds_0 7 rfl rfl)
theorem dX1_odds_10 : decode cX1_odds 10 = .ok (.iload_n 2, 1) := dk_28 (dk_at dksX1_odds_0 10 rfl rfl)
theorem dX1_odds_11 : decode cX1_odds 11 = .ok (.iconst 1, 1) := dk_4 (dk_at dksX1_odds_0 11 rfl rfl)
theorem dX1_odds_12 : decode cX1_odds 12 = .ok (.if_icmp .ne 7, 3) := dk_160 0 7 (dk_at dksX1_odds_0 12 rfl rfl)
theorem dX1_odds_15 : decode cX1_odds 15 = .ok (.iconst 1, 1) := dk_4 (dk_at dksX1_odds_0 15 rfl rfl)
theorem dX1_odds_16 : decode cX1_odds 16 = .ok (.goto 4, 3) := dk_167 0 4 (dk_at dksX1_odds_0 16 rfl rfl)
theorem dX1_odds_19 : decode cX1_odds 19 = .ok (.iconst 0, 1) := dk_3 (dk_at dksX1_odds_0 19 rfl rfl)
theorem dX1_odds_20 : decode cX1_odds 20 = .ok (.invokestatic 61, 3) := dk_184 0 61 (dk_at dksX1_odds_0 20 rfl rfl)
theorem dX1_odds_23 : decode cX1_odds 23 = .ok (.aload_n 0, 1) := dk_42 (dk_at dksX1_odds_0 23 rfl rfl)
theorem dX1_odds_24 : decode cX1_odds 24 = .ok (.getfield 23, 3) := dk_180 0 23 (dk_at dksX1_odds_1 0 rfl rfl)
theorem dX1_odds_27 : decode cX1_odds 27 = .ok (.getfield 65, 3) := dk_180 0 65 (dk_at dksX1_odds_1 3 rfl rfl)
theorem dX1_odds_30 : decode cX1_odds 30 = .ok (.invokevirtual 261, 3) := dk_182 1 5 (dk_at dksX1_odds_1 6 rfl rfl)
theorem dX1_odds_33 : decode cX1_odds 33 = .ok (.istore 4, 2) := dk_54 4 (dk_at dksX1_odds_1 9 rfl rfl)
theorem dX1_odds_35 : decode cX1_odds 35 = .ok (.iload 4, 2) := dk_21 4 (dk_at dksX1_odds_1 11 rfl rfl)
theorem dX1_odds_37 : decode cX1_odds 37 = .ok (.ifCond .ne 5, 3) := dk_154 0 5 (dk_at dksX1_odds_1 13 rfl rfl)
theorem dX1_odds_40 : decode cX1_odds 40 = .ok (.iload_n 2, 1) := dk_28 (dk_at dksX1_odds_1 16 rfl rfl)
theorem dX1_odds_41 : decode cX1_odds 41 = .ok (.ireturn, 1) := dk_172 (dk_at dksX1_odds_1 17 rfl rfl)
theorem dX1_odds_42 : decode cX1_odds 42 = .ok (.aload_n 0, 1) := dk_42 (dk_at dksX1_odds_1 18 rfl rfl)
theorem dX1_odds_43 : decode cX1_odds 43 = .ok (.getfield 27, 3) := dk_180 0 27 (dk_at dksX1_odds_1 19 rfl rfl)
theorem dX1_odds_46 : decode cX1_odds 46 = .ok (.aload_n 0, 1) := dk_42 (dk_at dksX1_odds_1 22 rfl rfl)
theorem dX1_odds_47 : decode cX1_odds 47 = .ok (.getfield 23, 3) := dk_180 0 23 (dk_at dksX1_odds_2 0 rfl rfl)
theorem dX1_odds_50 : decode cX1_odds 50 = .ok (.invokevirtual 257, 3) := dk_182 1 1 (dk_at dksX1_odds_2 3 rfl rfl)
theorem dX1_odds_53 : decode cX1_odds 53 = .ok (.iconst 0, 1) := dk_3 (dk_at dksX1_odds_2 6 rfl rfl)
theorem dX1_odds_54 : decode cX1_odds 54 = .ok (.istore 5, 2) := dk_54 5 (dk_at dksX1_odds_2 7 rfl rfl)
theorem dX1_odds_56 : decode cX1_odds 56 = .ok (.iconst 0, 1) := dk_3 (dk_at dksX1_odds_2 9 rfl rfl)
theorem dX1_odds_57 : decode cX1_odds 57 = .ok (.istore 6, 2) := dk_54 6 (dk_at dksX1_odds_2 10 rfl rfl)
theorem dX1_odds_59 : decode cX1_odds 59 = .ok (.iload 6, 2) := dk_21 6 (dk_at dksX1_odds_2 12 rfl rfl)
theorem dX1_odds_61 : decode cX1_odds 61 = .ok (.bipush 10, 2) := dk_16 10 (dk_at dksX1_odds_2 14 rfl rfl)
theorem dX1_odds_63 : decode cX1_odds 63 = .ok (.if_icmp .ge 55, 3) := dk_162 0 55 (dk_at dksX1_odds_2 16 rfl rfl)
theorem dX1_odds_66 : decode cX1_odds 66 = .ok (.aload_n 0, 1) := dk_42 (dk_at dksX1_odds_2 19 rfl rfl)
theorem dX1_odds_67 : decode cX1_odds 67 = .ok (.getfield 27, 3) := dk_180 0 27 (dk_at dksX1_odds_2 20 rfl rfl)
theorem dX1_odds_70 : decode cX1_odds 70 = .ok (.iload 6, 2) := dk_21 6 (dk_at dksX1_odds_3 0 rfl rfl)
theorem dX1_odds_72 : decode cX1_odds 72 = .ok (.putfield 129, 3) := dk_181 0 129 (dk_at dksX1_odds_3 2 rfl rfl)
theorem dX1_odds_75 : decode cX1_odds 75 = .ok (.aload_n 0, 1) := dk_42 (dk_at dksX1_odds_3 5 rfl rfl)
theorem dX1_odds_76 : decode cX1_odds 76 = .ok (.getfield 27, 3) := dk_180 0 27 (dk_at dksX1_odds_3 6 rfl rfl)
theorem dX1_odds_79 : decode cX1_odds 79 = .ok (.invokevirtual 132, 3) := dk_182 0 132 (dk_at dksX1_odds_3 9 rfl rfl)
theorem dX1_odds_82 : decode cX1_odds 82 = .ok (.aload_n 0, 1) := dk_42 (dk_at dksX1_odds_3 12 rfl rfl)
theorem dX1_odds_83 : decode cX1_odds 83 = .ok (.getfield 27, 3) := dk_180 0 27 (dk_at dksX1_odds_3 13 rfl rfl)
theorem dX1_odds_86 : decode cX1_odds 86 = .ok (.aload_n 3, 1) := dk_45 (dk_at dksX1_odds_3 16 rfl rfl)
theorem dX1_odds_87 : decode cX1_odds 87 = .ok (.invokevirtual 240, 3) := dk_182 0 240 (dk_at dksX1_odds_3 17 rfl rfl)
theorem dX1_odds_90 : decode cX1_odds 90 = .ok (.iconst 2, 1) := dk_5 (dk_at dksX1_odds_3 20 rfl rfl)
theorem dX1_odds_91 : decode cX1_odds 91 = .ok (.if_icmp .ne 21, 3) := dk_160 0 21 (dk_at dksX1_odds_3 21 rfl rfl)
theorem dX1_odds_94 : decode cX1_odds 94 = .ok (.iload 5, 2) := dk_21 5 (dk_at dksX1_odds_4 0 rfl rfl)
theorem dX1_odds_96 : decode cX1_odds 96 = .ok (.aload_n 0, 1) := dk_42 (dk_at dksX1_odds_4 2 rfl rfl)
theorem dX1_odds_97 : decode cX1_odds 97 = .ok (.getfield 23, 3) := dk_180 0 23 (dk_at dksX1_odds_4 3 rfl rfl)
theorem dX1_odds_100 : decode cX1_odds 100 = .ok (.getfield 65, 3) := dk_180 0 65 (dk_at dksX1_odds_4 6 rfl rfl)
theorem dX1_odds_103 : decode cX1_odds 103 = .ok (.getfield 145, 3) := dk_180 0 145 (dk_at dksX1_odds_4 9 rfl rfl)
theorem dX1_odds_106 : decode cX1_odds 106 = .ok (.iload 6, 2) := dk_21 6 (dk_at dksX1_odds_4 12 rfl rfl)
theorem dX1_odds_108 : decode cX1_odds 108 = .ok (.iaload, 1) := dk_46 (dk_at dksX1_odds_4 14 rfl rfl)
theorem dX1_odds_109 : decode cX1_odds 109 = .ok (.iadd, 1) := dk_96 (dk_at dksX1_odds_4 15 rfl rfl)
theorem dX1_odds_110 : decode cX1_odds 110 = .ok (.istore 5, 2) := dk_54 5 (dk_at dksX1_odds_4 16 rfl rfl)
theorem dX1_odds_112 : decode cX1_odds 112 = .ok (.iinc 6 1, 3) := dk_132 6 1 (dk_at dksX1_odds_4 18 rfl rfl)
theorem dX1_odds_115 : decode cX1_odds 115 = .ok (.goto (-56), 3) := dk_167 255 200 (dk_at dksX1_odds_4 21 rfl rfl)
theorem dX1_odds_118 : decode cX1_odds 118 = .ok (.iload_n 2, 1) := dk_28 (dk_at dksX1_odds_5 0 rfl rfl)
theorem dX1_odds_119 : decode cX1_odds 119 = .ok (.ifCond .ne 8, 3) := dk_154 0 8 (dk_at dksX1_odds_5 1 rfl rfl)
theorem dX1_odds_122 : decode cX1_odds 122 = .ok (.iload 5, 2) := dk_21 5 (dk_at dksX1_odds_5 4 rfl rfl)
theorem dX1_odds_124 : decode cX1_odds 124 = .ok (.goto 5, 3) := dk_167 0 5 (dk_at dksX1_odds_5 6 rfl rfl)
theorem dX1_odds_127 : decode cX1_odds 127 = .ok (.iload 4, 2) := dk_21 4 (dk_at dksX1_odds_5 9 rfl rfl)
theorem dX1_odds_129 : decode cX1_odds 129 = .ok (.iload 4, 2) := dk_21 4 (dk_at dksX1_odds_5 11 rfl rfl)
theorem dX1_odds_131 : decode cX1_odds 131 = .ok (.iload 5, 2) := dk_21 5 (dk_at dksX1_odds_5 13 rfl rfl)
theorem dX1_odds_133 : decode cX1_odds 133 = .ok (.invokestatic 264, 3) := dk_184 1 8 (dk_at dksX1_odds_5 15 rfl rfl)
theorem dX1_odds_136 : decode cX1_odds 136 = .ok (.idiv, 1) := dk_108 (dk_at dksX1_odds_5 18 rfl rfl)
theorem dX1_odds_137 : decode cX1_odds 137 = .ok (.ireturn, 1) := dk_172 (dk_at dksX1_odds_5 19 rfl rfl)
abbrev cX1_common : ByteArray := prog_1_method_30_code
def yX1_common : MethodName := ⟨RX1, "common", "(II)I"⟩
def dkwX1_common_0 : List UInt8 := [26, 61, 27, 62, 29, 153, 0, 16, 28, 29, 112, 54, 4, 29, 61, 21, 4, 62, 167, 255, 242, 28, 172]
abbrev dktX1_common_0 : List UInt8 := dkwX1_common_0 ++ []
theorem dksX1_common_0 : cX1_common.data.toList.drop 0 = dktX1_common_0 := by decide +kernel
theorem dX1_common_0 : decode cX1_common 0 = .ok (.iload_n 0, 1) := dk_26 (dk_at dksX1_common_0 0 rfl rfl)
theorem dX1_common_1 : decode cX1_common 1 = .ok (.istore_n 2, 1) := dk_61 (dk_at dksX1_common_0 1 rfl rfl)
theorem dX1_common_2 : decode cX1_common 2 = .ok (.iload_n 1, 1) := dk_27 (dk_at dksX1_common_0 2 rfl rfl)
theorem dX1_common_3 : decode cX1_common 3 = .ok (.istore_n 3, 1) := dk_62 (dk_at dksX1_common_0 3 rfl rfl)
theorem dX1_common_4 : decode cX1_common 4 = .ok (.iload_n 3, 1) := dk_29 (dk_at dksX1_common_0 4 rfl rfl)
theorem dX1_common_5 : decode cX1_common 5 = .ok (.ifCond .eq 16, 3) := dk_153 0 16 (dk_at dksX1_common_0 5 rfl rfl)
theorem dX1_common_8 : decode cX1_common 8 = .ok (.iload_n 2, 1) := dk_28 (dk_at dksX1_common_0 8 rfl rfl)
theorem dX1_common_9 : decode cX1_common 9 = .ok (.iload_n 3, 1) := dk_29 (dk_at dksX1_common_0 9 rfl rfl)
theorem dX1_common_10 : decode cX1_common 10 = .ok (.irem, 1) := dk_112 (dk_at dksX1_common_0 10 rfl rfl)
theorem dX1_common_11 : decode cX1_common 11 = .ok (.istore 4, 2) := dk_54 4 (dk_at dksX1_common_0 11 rfl rfl)
theorem dX1_common_13 : decode cX1_common 13 = .ok (.iload_n 3, 1) := dk_29 (dk_at dksX1_common_0 13 rfl rfl)
theorem dX1_common_14 : decode cX1_common 14 = .ok (.istore_n 2, 1) := dk_61 (dk_at dksX1_common_0 14 rfl rfl)
theorem dX1_common_15 : decode cX1_common 15 = .ok (.iload 4, 2) := dk_21 4 (dk_at dksX1_common_0 15 rfl rfl)
theorem dX1_common_17 : decode cX1_common 17 = .ok (.istore_n 3, 1) := dk_62 (dk_at dksX1_common_0 17 rfl rfl)
theorem dX1_common_18 : decode cX1_common 18 = .ok (.goto (-14), 3) := dk_167 255 242 (dk_at dksX1_common_0 18 rfl rfl)
theorem dX1_common_21 : decode cX1_common 21 = .ok (.iload_n 2, 1) := dk_28 (dk_at dksX1_common_0 21 rfl rfl)
theorem dX1_common_22 : decode cX1_common 22 = .ok (.ireturn, 1) := dk_172 (dk_at dksX1_common_0 22 rfl rfl)
abbrev cX1_bright : ByteArray := prog_1_method_33_code
def yX1_bright : MethodName := ⟨RX1, "bright", "(IIIII)I"⟩
def dkwX1_bright_5 : List UInt8 := [167, 0, 7, 42, 180, 1, 11, 172, 132, 6, 1, 167, 255, 212, 2, 172]
abbrev dktX1_bright_5 : List UInt8 := dkwX1_bright_5 ++ []
def dkwX1_bright_4 : List UInt8 := [42, 27, 28, 29, 21, 4, 21, 6, 3, 182, 1, 17, 153, 0, 18, 21, 5, 154, 0, 8, 21, 6]
abbrev dktX1_bright_4 : List UInt8 := dkwX1_bright_4 ++ dktX1_bright_5
def dkwX1_bright_3 : List UInt8 := [180, 0, 27, 42, 180, 0, 23, 182, 1, 1, 3, 54, 6, 21, 6, 21, 4, 29, 100, 4, 96, 163, 0, 39]
abbrev dktX1_bright_3 : List UInt8 := dkwX1_bright_3 ++ dktX1_bright_4
def dkwX1_bright_2 : List UInt8 := [162, 0, 18, 28, 3, 17, 0, 255, 184, 0, 57, 153, 0, 7, 4, 167, 0, 4, 3, 184, 0, 104, 42]
abbrev dktX1_bright_2 : List UInt8 := dkwX1_bright_2 ++ dktX1_bright_3
def dkwX1_bright_1 : List UInt8 := [160, 0, 7, 4, 167, 0, 4, 3, 184, 0, 61, 29, 21, 4, 163, 0, 27, 21, 4, 29, 100, 16, 6]
abbrev dktX1_bright_1 : List UInt8 := dkwX1_bright_1 ++ dktX1_bright_2
def dkwX1_bright_0 : List UInt8 := [42, 27, 182, 0, 158, 87, 29, 184, 0, 201, 21, 4, 184, 0, 201, 21, 5, 153, 0, 9, 21, 5, 4]
abbrev dktX1_bright_0 : List UInt8 := dkwX1_bright_0 ++ dktX1_bright_1
theorem dksX1_bright_0 : cX1_bright.data.toList.drop 0 = dktX1_bright_0 := by decide +kernel
theorem dksX1_bright_1 : cX1_bright.data.toList.drop 23 = dktX1_bright_1 := dk_seg dksX1_bright_0 23 rfl rfl
theorem dksX1_bright_2 : cX1_bright.data.toList.drop 46 = dktX1_bright_2 := dk_seg dksX1_bright_1 23 rfl rfl
theorem dksX1_bright_3 : cX1_bright.data.toList.drop 69 = dktX1_bright_3 := dk_seg dksX1_bright_2 23 rfl rfl
theorem dksX1_bright_4 : cX1_bright.data.toList.drop 93 = dktX1_bright_4 := dk_seg dksX1_bright_3 24 rfl rfl
theorem dksX1_bright_5 : cX1_bright.data.toList.drop 115 = dktX1_bright_5 := dk_seg dksX1_bright_4 22 rfl rfl
theorem dX1_bright_0 : decode cX1_bright 0 = .ok (.aload_n 0, 1) := dk_42 (dk_at dksX1_bright_0 0 rfl rfl)
theorem dX1_bright_1 : decode cX1_bright 1 = .ok (.iload_n 1, 1) := dk_27 (dk_at dksX1_bright_0 1 rfl rfl)
theorem dX1_bright_2 : decode cX1_bright 2 = .ok (.invokevirtual 158, 3) := dk_182 0 158 (dk_at dksX1_bright_0 2 rfl rfl)
theorem dX1_bright_5 : decode cX1_bright 5 = .ok (.pop, 1) := dk_87 (dk_at dksX1_bright_0 5 rfl rfl)
theorem dX1_bright_6 : decode cX1_bright 6 = .ok (.iload_n 3, 1) := dk_29 (dk_at dksX1_bright_0 6 rfl rfl)
theorem dX1_bright_7 : decode cX1_bright 7 = .ok (.invokestatic 201, 3) := dk_184 0 201 (dk_at dksX1_bright_0 7 rfl rfl)
theorem dX1_bright_10 : decode cX1_bright 10 = .ok (.iload 4, 2) := dk_21 4 (dk_at dksX1_bright_0 10 rfl rfl)
theorem dX1_bright_12 : decode cX1_bright 12 = .ok (.invokestatic 201, 3) := dk_184 0 201 (dk_at dksX1_bright_0 12 rfl rfl)
theorem dX1_bright_15 : decode cX1_bright 15 = .ok (.iload 5, 2) := dk_21 5 (dk_at dksX1_bright_0 15 rfl rfl)
theorem dX1_bright_17 : decode cX1_bright 17 = .ok (.ifCond .eq 9, 3) := dk_153 0 9 (dk_at dksX1_bright_0 17 rfl rfl)
theorem dX1_bright_20 : decode cX1_bright 20 = .ok (.iload 5, 2) := dk_21 5 (dk_at dksX1_bright_0 20 rfl rfl)
theorem dX1_bright_22 : decode cX1_bright 22 = .ok (.iconst 1, 1) := dk_4 (dk_at dksX1_bright_0 22 rfl rfl)
theorem dX1_bright_23 : decode cX1_bright 23 = .ok (.if_icmp .ne 7, 3) := dk_160 0 7 (dk_at dksX1_bright_1 0 rfl rfl)
theorem dX1_bright_26 : decode cX1_bright 26 = .ok (.iconst 1, 1) := dk_4 (dk_at dksX1_bright_1 3 rfl rfl)
theorem dX1_bright_27 : decode cX1_bright 27 = .ok (.goto 4, 3) := dk_167 0 4 (dk_at dksX1_bright_1 4 rfl rfl)
theorem dX1_bright_30 : decode cX1_bright 30 = .ok (.iconst 0, 1) := dk_3 (dk_at dksX1_bright_1 7 rfl rfl)
theorem dX1_bright_31 : decode cX1_bright 31 = .ok (.invokestatic 61, 3) := dk_184 0 61 (dk_at dksX1_bright_1 8 rfl rfl)
theorem dX1_bright_34 : decode cX1_bright 34 = .ok (.iload_n 3, 1) := dk_29 (dk_at dksX1_bright_1 11 rfl rfl)
theorem dX1_bright_35 : decode cX1_bright 35 = .ok (.iload 4, 2) := dk_21 4 (dk_at dksX1_bright_1 12 rfl rfl)
theorem dX1_bright_37 : decode cX1_bright 37 = .ok (.if_icmp .gt 27, 3) := dk_163 0 27 (dk_at dksX1_bright_1 14 rfl rfl)
theorem dX1_bright_40 : decode cX1_bright 40 = .ok (.iload 4, 2) := dk_21 4 (dk_at dksX1_bright_1 17 rfl rfl)
theorem dX1_bright_42 : decode cX1_bright 42 = .ok (.iload_n 3, 1) := dk_29 (dk_at dksX1_bright_1 19 rfl rfl)
theorem dX1_bright_43 : decode cX1_bright 43 = .ok (.isub, 1) := dk_100 (dk_at dksX1_bright_1 20 rfl rfl)
theorem dX1_bright_44 : decode cX1_bright 44 = .ok (.bipush 6, 2) := dk_16 6 (dk_at dksX1_bright_1 21 rfl rfl)
theorem dX1_bright_46 : decode cX1_bright 46 = .ok (.if_icmp .ge 18, 3) := dk_162 0 18 (dk_at dksX1_bright_2 0 rfl rfl)
theorem dX1_bright_49 : decode cX1_bright 49 = .ok (.iload_n 2, 1) := dk_28 (dk_at dksX1_bright_2 3 rfl rfl)
theorem dX1_bright_50 : decode cX1_bright 50 = .ok (.iconst 0, 1) := dk_3 (dk_at dksX1_bright_2 4 rfl rfl)
theorem dX1_bright_51 : decode cX1_bright 51 = .ok (.sipush 255, 3) := dk_17 0 255 (dk_at dksX1_bright_2 5 rfl rfl)
theorem dX1_bright_54 : decode cX1_bright 54 = .ok (.invokestatic 57, 3) := dk_184 0 57 (dk_at dksX1_bright_2 8 rfl rfl)
theorem dX1_bright_57 : decode cX1_bright 57 = .ok (.ifCond .eq 7, 3) := dk_153 0 7 (dk_at dksX1_bright_2 11 rfl rfl)
theorem dX1_bright_60 : decode cX1_bright 60 = .ok (.iconst 1, 1) := dk_4 (dk_at dksX1_bright_2 14 rfl rfl)
theorem dX1_bright_61 : decode cX1_bright 61 = .ok (.goto 4, 3) := dk_167 0 4 (dk_at dksX1_bright_2 15 rfl rfl)
theorem dX1_bright_64 : decode cX1_bright 64 = .ok (.iconst 0, 1) := dk_3 (dk_at dksX1_bright_2 18 rfl rfl)
theorem dX1_bright_65 : decode cX1_bright 65 = .ok (.invokestatic 104, 3) := dk_184 0 104 (dk_at dksX1_bright_2 19 rfl rfl)
theorem dX1_bright_68 : decode cX1_bright 68 = .ok (.aload_n 0, 1) := dk_42 (dk_at dksX1_bright_2 22 rfl rfl)
theorem dX1_bright_69 : decode cX1_bright 69 = .ok (.getfield 27, 3) := dk_180 0 27 (dk_at dksX1_bright_3 0 rfl rfl)
theorem dX1_bright_72 : decode cX1_bright 72 = .ok (.aload_n 0, 1) := dk_42 (dk_at dksX1_bright_3 3 rfl rfl)
theorem dX1_bright_73 : decode cX1_bright 73 = .ok (.getfield 23, 3) := dk_180 0 23 (dk_at dksX1_bright_3 4 rfl rfl)
theorem dX1_bright_76 : decode cX1_bright 76 = .ok (.invokevirtual 257, 3) := dk_182 1 1 (dk_at dksX1_bright_3 7 rfl rfl)
theorem dX1_bright_79 : decode cX1_bright 79 = .ok (.iconst 0, 1) := dk_3 (dk_at dksX1_bright_3 10 rfl rfl)
theorem dX1_bright_80 : decode cX1_bright 80 = .ok (.istore 6, 2) := dk_54 6 (dk_at dksX1_bright_3 11 rfl rfl)
theorem dX1_bright_82 : decode cX1_bright 82 = .ok (.iload 6, 2) := dk_21 6 (dk_at dksX1_bright_3 13 rfl rfl)
theorem dX1_bright_84 : decode cX1_bright 84 = .ok (.iload 4, 2) := dk_21 4 (dk_at dksX1_bright_3 15 rfl rfl)
theorem dX1_bright_86 : decode cX1_bright 86 = .ok (.iload_n 3, 1) := dk_29 (dk_at dksX1_bright_3 17 rfl rfl)
theorem dX1_bright_87 : decode cX1_bright 87 = .ok (.isub, 1) := dk_100 (dk_at dksX1_bright_3 18 rfl rfl)
theorem dX1_bright_88 : decode cX1_bright 88 = .ok (.iconst 1, 1) := dk_4 (dk_at dksX1_bright_3 19 rfl rfl)
theorem dX1_bright_89 : decode cX1_bright 89 = .ok (.iadd, 1) := dk_96 (dk_at dksX1_bright_3 20 rfl rfl)
theorem dX1_bright_90 : decode cX1_bright 90 = .ok (.if_icmp .gt 39, 3) := dk_163 0 39 (dk_at dksX1_bright_3 21 rfl rfl)
theorem dX1_bright_93 : decode cX1_bright 93 = .ok (.aload_n 0, 1) := dk_42 (dk_at dksX1_bright_4 0 rfl rfl)
theorem dX1_bright_94 : decode cX1_bright 94 = .ok (.iload_n 1, 1) := dk_27 (dk_at dksX1_bright_4 1 rfl rfl)
theorem dX1_bright_95 : decode cX1_bright 95 = .ok (.iload_n 2, 1) := dk_28 (dk_at dksX1_bright_4 2 rfl rfl)
theorem dX1_bright_96 : decode cX1_bright 96 = .ok (.iload_n 3, 1) := dk_29 (dk_at dksX1_bright_4 3 rfl rfl)
theorem dX1_bright_97 : decode cX1_bright 97 = .ok (.iload 4, 2) := dk_21 4 (dk_at dksX1_bright_4 4 rfl rfl)
theorem dX1_bright_99 : decode cX1_bright 99 = .ok (.iload 6, 2) := dk_21 6 (dk_at dksX1_bright_4 6 rfl rfl)
theorem dX1_bright_101 : decode cX1_bright 101 = .ok (.iconst 0, 1) := dk_3 (dk_at dksX1_bright_4 8 rfl rfl)
theorem dX1_bright_102 : decode cX1_bright 102 = .ok (.invokevirtual 273, 3) := dk_182 1 17 (dk_at dksX1_bright_4 9 rfl rfl)
theorem dX1_bright_105 : decode cX1_bright 105 = .ok (.ifCond .eq 18, 3) := dk_153 0 18 (dk_at dksX1_bright_4 12 rfl rfl)
theorem dX1_bright_108 : decode cX1_bright 108 = .ok (.iload 5, 2) := dk_21 5 (dk_at dksX1_bright_4 15 rfl rfl)
theorem dX1_bright_110 : decode cX1_bright 110 = .ok (.ifCond .ne 8, 3) := dk_154 0 8 (dk_at dksX1_bright_4 17 rfl rfl)
theorem dX1_bright_113 : decode cX1_bright 113 = .ok (.iload 6, 2) := dk_21 6 (dk_at dksX1_bright_4 20 rfl rfl)
theorem dX1_bright_115 : decode cX1_bright 115 = .ok (.goto 7, 3) := dk_167 0 7 (dk_at dksX1_bright_5 0 rfl rfl)
theorem dX1_bright_118 : decode cX1_bright 118 = .ok (.aload_n 0, 1) := dk_42 (dk_at dksX1_bright_5 3 rfl rfl)
theorem dX1_bright_119 : decode cX1_bright 119 = .ok (.getfield 267, 3) := dk_180 1 11 (dk_at dksX1_bright_5 4 rfl rfl)
theorem dX1_bright_122 : decode cX1_bright 122 = .ok (.ireturn, 1) := dk_172 (dk_at dksX1_bright_5 7 rfl rfl)
theorem dX1_bright_123 : decode cX1_bright 123 = .ok (.iinc 6 1, 3) := dk_132 6 1 (dk_at dksX1_bright_5 8 rfl rfl)
theorem dX1_bright_126 : decode cX1_bright 126 = .ok (.goto (-44), 3) := dk_167 255 212 (dk_at dksX1_bright_5 11 rfl rfl)
theorem dX1_bright_129 : decode cX1_bright 129 = .ok (.iconst (-1), 1) := dk_2 (dk_at dksX1_bright_5 14 rfl rfl)
theorem dX1_bright_130 : decode cX1_bright 130 = .ok (.ireturn, 1) := dk_172 (dk_at dksX1_bright_5 15 rfl rfl)
abbrev cX1_keeps : ByteArray := prog_1_method_32_code
def yX1_keeps : MethodName := ⟨RX1, "keeps", "(IIIIII)Z"⟩
def dkwX1_keeps_8 : List UInt8 := [153, 0, 5, 4, 172, 132, 7, 1, 167, 255, 85, 3, 172]
abbrev dktX1_keeps_8 : List UInt8 := dkwX1_keeps_8 ++ []
def dkwX1_keeps_7 : List UInt8 := [3, 54, 8, 21, 7, 158, 0, 16, 42, 180, 0, 27, 89, 180, 0, 126, 4, 100, 181, 0, 126, 21, 8]
abbrev dktX1_keeps_7 : List UInt8 := dkwX1_keeps_7 ++ dktX1_keeps_8
def dkwX1_keeps_6 : List UInt8 := [4, 167, 0, 4, 3, 100, 16, 7, 21, 6, 104, 21, 7, 96, 182, 1, 17, 153, 0, 7, 4, 167, 0, 4]
abbrev dktX1_keeps_6 : List UInt8 := dkwX1_keeps_6 ++ dktX1_keeps_7
def dkwX1_keeps_5 : List UInt8 := [27, 29, 182, 0, 233, 28, 161, 0, 42, 42, 27, 28, 29, 4, 96, 21, 4, 21, 5, 21, 7, 158, 0, 7]
abbrev dktX1_keeps_5 : List UInt8 := dkwX1_keeps_5 ++ dktX1_keeps_6
def dkwX1_keeps_4 : List UInt8 := [180, 0, 27, 21, 7, 4, 100, 29, 3, 182, 0, 207, 42, 180, 0, 27, 27, 182, 1, 14, 42, 180, 0, 27]
abbrev dktX1_keeps_4 : List UInt8 := dkwX1_keeps_4 ++ dktX1_keeps_5
def dkwX1_keeps_3 : List UInt8 := [4, 100, 182, 0, 81, 192, 0, 90, 180, 0, 162, 27, 159, 0, 6, 167, 0, 109, 21, 7, 158, 0, 16, 42]
abbrev dktX1_keeps_3 : List UInt8 := dkwX1_keeps_3 ++ dktX1_keeps_4
def dkwX1_keeps_2 : List UInt8 := [167, 0, 4, 3, 163, 0, 150, 21, 7, 158, 0, 33, 42, 180, 0, 23, 180, 0, 65, 180, 0, 87, 21, 7]
abbrev dktX1_keeps_2 : List UInt8 := dkwX1_keeps_2 ++ dktX1_keeps_3
def dkwX1_keeps_1 : List UInt8 := [54, 7, 21, 7, 21, 5, 158, 0, 19, 42, 180, 0, 23, 180, 0, 65, 180, 0, 87, 182, 0, 75]
abbrev dktX1_keeps_1 : List UInt8 := dkwX1_keeps_1 ++ dktX1_keeps_2
def dkwX1_keeps_0 : List UInt8 := [29, 21, 4, 164, 0, 20, 42, 21, 6, 181, 1, 11, 21, 5, 154, 0, 7, 4, 167, 0, 4, 3, 172, 3]
abbrev dktX1_keeps_0 : List UInt8 := dkwX1_keeps_0 ++ dktX1_keeps_1
theorem dksX1_keeps_0 : cX1_keeps.data.toList.drop 0 = dktX1_keeps_0 := by decide +kernel
theorem dksX1_keeps_1 : cX1_keeps.data.toList.drop 24 = dktX1_keeps_1 := dk_seg dksX1_keeps_0 24 rfl rfl
theorem dksX1_keeps_2 : cX1_keeps.data.toList.drop 46 = dktX1_keeps_2 := dk_seg dksX1_keeps_1 22 rfl rfl
theorem dksX1_keeps_3 : cX1_keeps.data.toList.drop 70 = dktX1_keeps_3 := dk_seg dksX1_keeps_2 24 rfl rfl
theorem dksX1_keeps_4 : cX1_keeps.data.toList.drop 94 = dktX1_keeps_4 := dk_seg dksX1_keeps_3 24 rfl rfl
theorem dksX1_keeps_5 : cX1_keeps.data.toList.drop 118 = dktX1_keeps_5 := dk_seg dksX1_keeps_4 24 rfl rfl
theorem dksX1_keeps_6 : cX1_keeps.data.toList.drop 142 = dktX1_keeps_6 := dk_seg dksX1_keeps_5 24 rfl rfl
theorem dksX1_keeps_7 : cX1_keeps.data.toList.drop 166 = dktX1_keeps_7 := dk_seg dksX1_keeps_6 24 rfl rfl
theorem dksX1_keeps_8 : cX1_keeps.data.toList.drop 189 = dktX1_keeps_8 := dk_seg dksX1_keeps_7 23 rfl rfl
theorem dX1_keeps_0 : decode cX1_keeps 0 = .ok (.iload_n 3, 1) := dk_29 (dk_at dksX1_keeps_0 0 rfl rfl)
theorem dX1_keeps_1 : decode cX1_keeps 1 = .ok (.iload 4, 2) := dk_21 4 (dk_at dksX1_keeps_0 1 rfl rfl)
theorem dX1_keeps_3 : decode cX1_keeps 3 = .ok (.if_icmp .le 20, 3) := dk_164 0 20 (dk_at dksX1_keeps_0 3 rfl rfl)
theorem dX1_keeps_6 : decode cX1_keeps 6 = .ok (.aload_n 0, 1) := dk_42 (dk_at dksX1_keeps_0 6 rfl rfl)
theorem dX1_keeps_7 : decode cX1_keeps 7 = .ok (.iload 6, 2) := dk_21 6 (dk_at dksX1_keeps_0 7 rfl rfl)
theorem dX1_keeps_9 : decode cX1_keeps 9 = .ok (.putfield 267, 3) := dk_181 1 11 (dk_at dksX1_keeps_0 9 rfl rfl)
theorem dX1_keeps_12 : decode cX1_keeps 12 = .ok (.iload 5, 2) := dk_21 5 (dk_at dksX1_keeps_0 12 rfl rfl)
theorem dX1_keeps_14 : decode cX1_keeps 14 = .ok (.ifCond .ne 7, 3) := dk_154 0 7 (dk_at dksX1_keeps_0 14 rfl rfl)
theorem dX1_keeps_17 : decode cX1_keeps 17 = .ok (.iconst 1, 1) := dk_4 (dk_at dksX1_keeps_0 17 rfl rfl)
theorem dX1_keeps_18 : decode cX1_keeps 18 = .ok (.goto 4, 3) := dk_167 0 4 (dk_at dksX1_keeps_0 18 rfl rfl)
theorem dX1_keeps_21 : decode cX1_keeps 21 = .ok (.iconst 0, 1) := dk_3 (dk_at dksX1_keeps_0 21 rfl rfl)
theorem dX1_keeps_22 : decode cX1_keeps 22 = .ok (.ireturn, 1) := dk_172 (dk_at dksX1_keeps_0 22 rfl rfl)
theorem dX1_keeps_23 : decode cX1_keeps 23 = .ok (.iconst 0, 1) := dk_3 (dk_at dksX1_keeps_0 23 rfl rfl)
theorem dX1_keeps_24 : decode cX1_keeps 24 = .ok (.istore 7, 2) := dk_54 7 (dk_at dksX1_keeps_1 0 rfl rfl)
theorem dX1_keeps_26 : decode cX1_keeps 26 = .ok (.iload 7, 2) := dk_21 7 (dk_at dksX1_keeps_1 2 rfl rfl)
theorem dX1_keeps_28 : decode cX1_keeps 28 = .ok (.iload 5, 2) := dk_21 5 (dk_at dksX1_keeps_1 4 rfl rfl)
theorem dX1_keeps_30 : decode cX1_keeps 30 = .ok (.ifCond .le 19, 3) := dk_158 0 19 (dk_at dksX1_keeps_1 6 rfl rfl)
theorem dX1_keeps_33 : decode cX1_keeps 33 = .ok (.aload_n 0, 1) := dk_42 (dk_at dksX1_keeps_1 9 rfl rfl)
theorem dX1_keeps_34 : decode cX1_keeps 34 = .ok (.getfield 23, 3) := dk_180 0 23 (dk_at dksX1_keeps_1 10 rfl rfl)
theorem dX1_keeps_37 : decode cX1_keeps 37 = .ok (.getfield 65, 3) := dk_180 0 65 (dk_at dksX1_keeps_1 13 rfl rfl)
theorem dX1_keeps_40 : decode cX1_keeps 40 = .ok (.getfield 87, 3) := dk_180 0 87 (dk_at dksX1_keeps_1 16 rfl rfl)
theorem dX1_keeps_43 : decode cX1_keeps 43 = .ok (.invokevirtual 75, 3) := dk_182 0 75 (dk_at dksX1_keeps_1 19 rfl rfl)
theorem dX1_keeps_46 : decode cX1_keeps 46 = .ok (.goto 4, 3) := dk_167 0 4 (dk_at dksX1_keeps_2 0 rfl rfl)
theorem dX1_keeps_49 : decode cX1_keeps 49 = .ok (.iconst 0, 1) := dk_3 (dk_at dksX1_keeps_2 3 rfl rfl)
theorem dX1_keeps_50 : decode cX1_keeps 50 = .ok (.if_icmp .gt 150, 3) := dk_163 0 150 (dk_at dksX1_keeps_2 4 rfl rfl)
theorem dX1_keeps_53 : decode cX1_keeps 53 = .ok (.iload 7, 2) := dk_21 7 (dk_at dksX1_keeps_2 7 rfl rfl)
theorem dX1_keeps_55 : decode cX1_keeps 55 = .ok (.ifCond .le 33, 3) := dk_158 0 33 (dk_at dksX1_keeps_2 9 rfl rfl)
theorem dX1_keeps_58 : decode cX1_keeps 58 = .ok (.aload_n 0, 1) := dk_42 (dk_at dksX1_keeps_2 12 rfl rfl)
theorem dX1_keeps_59 : decode cX1_keeps 59 = .ok (.getfield 23, 3) := dk_180 0 23 (dk_at dksX1_keeps_2 13 rfl rfl)
theorem dX1_keeps_62 : decode cX1_keeps 62 = .ok (.getfield 65, 3) := dk_180 0 65 (dk_at dksX1_keeps_2 16 rfl rfl)
theorem dX1_keeps_65 : decode cX1_keeps 65 = .ok (.getfield 87, 3) := dk_180 0 87 (dk_at dksX1_keeps_2 19 rfl rfl)
theorem dX1_keeps_68 : decode cX1_keeps 68 = .ok (.iload 7, 2) := dk_21 7 (dk_at dksX1_keeps_2 22 rfl rfl)
theorem dX1_keeps_70 : decode cX1_keeps 70 = .ok (.iconst 1, 1) := dk_4 (dk_at dksX1_keeps_3 0 rfl rfl)
theorem dX1_keeps_71 : decode cX1_keeps 71 = .ok (.isub, 1) := dk_100 (dk_at dksX1_keeps_3 1 rfl rfl)
theorem dX1_keeps_72 : decode cX1_keeps 72 = .ok (.invokevirtual 81, 3) := dk_182 0 81 (dk_at dksX1_keeps_3 2 rfl rfl)
theorem dX1_keeps_75 : decode cX1_keeps 75 = .ok (.checkcast 90, 3) := dk_192 0 90 (dk_at dksX1_keeps_3 5 rfl rfl)
theorem dX1_keeps_78 : decode cX1_keeps 78 = .ok (.getfield 162, 3) := dk_180 0 162 (dk_at dksX1_keeps_3 8 rfl rfl)
theorem dX1_keeps_81 : decode cX1_keeps 81 = .ok (.iload_n 1, 1) := dk_27 (dk_at dksX1_keeps_3 11 rfl rfl)
theorem dX1_keeps_82 : decode cX1_keeps 82 = .ok (.if_icmp .eq 6, 3) := dk_159 0 6 (dk_at dksX1_keeps_3 12 rfl rfl)
theorem dX1_keeps_85 : decode cX1_keeps 85 = .ok (.goto 109, 3) := dk_167 0 109 (dk_at dksX1_keeps_3 15 rfl rfl)
theorem dX1_keeps_88 : decode cX1_keeps 88 = .ok (.iload 7, 2) := dk_21 7 (dk_at dksX1_keeps_3 18 rfl rfl)
theorem dX1_keeps_90 : decode cX1_keeps 90 = .ok (.ifCond .le 16, 3) := dk_158 0 16 (dk_at dksX1_keeps_3 20 rfl rfl)
theorem dX1_keeps_93 : decode cX1_keeps 93 = .ok (.aload_n 0, 1) := dk_42 (dk_at dksX1_keeps_3 23 rfl rfl)
theorem dX1_keeps_94 : decode cX1_keeps 94 = .ok (.getfield 27, 3) := dk_180 0 27 (dk_at dksX1_keeps_4 0 rfl rfl)
theorem dX1_keeps_97 : decode cX1_keeps 97 = .ok (.iload 7, 2) := dk_21 7 (dk_at dksX1_keeps_4 3 rfl rfl)
theorem dX1_keeps_99 : decode cX1_keeps 99 = .ok (.iconst 1, 1) := dk_4 (dk_at dksX1_keeps_4 5 rfl rfl)
theorem dX1_keeps_100 : decode cX1_keeps 100 = .ok (.isub, 1) := dk_100 (dk_at dksX1_keeps_4 6 rfl rfl)
theorem dX1_keeps_101 : decode cX1_keeps 101 = .ok (.iload_n 3, 1) := dk_29 (dk_at dksX1_keeps_4 7 rfl rfl)
theorem dX1_keeps_102 : decode cX1_keeps 102 = .ok (.iconst 0, 1) := dk_3 (dk_at dksX1_keeps_4 8 rfl rfl)
theorem dX1_keeps_103 : decode cX1_keeps 103 = .ok (.invokevirtual 207, 3) := dk_182 0 207 (dk_at dksX1_keeps_4 9 rfl rfl)
theorem dX1_keeps_106 : decode cX1_keeps 106 = .ok (.aload_n 0, 1) := dk_42 (dk_at dksX1_keeps_4 12 rfl rfl)
theorem dX1_keeps_107 : decode cX1_keeps 107 = .ok (.getfield 27, 3) := dk_180 0 27 (dk_at dksX1_keeps_4 13 rfl rfl)
theorem dX1_keeps_110 : decode cX1_keeps 110 = .ok (.iload_n 1, 1) := dk_27 (dk_at dksX1_keeps_4 16 rfl rfl)
theorem dX1_keeps_111 : decode cX1_keeps 111 = .ok (.invokevirtual 270, 3) := dk_182 1 14 (dk_at dksX1_keeps_4 17 rfl rfl)
theorem dX1_keeps_114 : decode cX1_keeps 114 = .ok (.aload_n 0, 1) := dk_42 (dk_at dksX1_keeps_4 20 rfl rfl)
theorem dX1_keeps_115 : decode cX1_keeps 115 = .ok (.getfield 27, 3) := dk_180 0 27 (dk_at dksX1_keeps_4 21 rfl rfl)
theorem dX1_keeps_118 : decode cX1_keeps 118 = .ok (.iload_n 1, 1) := dk_27 (dk_at dksX1_keeps_5 0 rfl rfl)
theorem dX1_keeps_119 : decode cX1_keeps 119 = .ok (.iload_n 3, 1) := dk_29 (dk_at dksX1_keeps_5 1 rfl rfl)
theorem dX1_keeps_120 : decode cX1_keeps 120 = .ok (.invokevirtual 233, 3) := dk_182 0 233 (dk_at dksX1_keeps_5 2 rfl rfl)
theorem dX1_keeps_123 : decode cX1_keeps 123 = .ok (.iload_n 2, 1) := dk_28 (dk_at dksX1_keeps_5 5 rfl rfl)
theorem dX1_keeps_124 : decode cX1_keeps 124 = .ok (.if_icmp .lt 42, 3) := dk_161 0 42 (dk_at dksX1_keeps_5 6 rfl rfl)
theorem dX1_keeps_127 : decode cX1_keeps 127 = .ok (.aload_n 0, 1) := dk_42 (dk_at dksX1_keeps_5 9 rfl rfl)
theorem dX1_keeps_128 : decode cX1_keeps 128 = .ok (.iload_n 1, 1) := dk_27 (dk_at dksX1_keeps_5 10 rfl rfl)
theorem dX1_keeps_129 : decode cX1_keeps 129 = .ok (.iload_n 2, 1) := dk_28 (dk_at dksX1_keeps_5 11 rfl rfl)
theorem dX1_keeps_130 : decode cX1_keeps 130 = .ok (.iload_n 3, 1) := dk_29 (dk_at dksX1_keeps_5 12 rfl rfl)
theorem dX1_keeps_131 : decode cX1_keeps 131 = .ok (.iconst 1, 1) := dk_4 (dk_at dksX1_keeps_5 13 rfl rfl)
theorem dX1_keeps_132 : decode cX1_keeps 132 = .ok (.iadd, 1) := dk_96 (dk_at dksX1_keeps_5 14 rfl rfl)
theorem dX1_keeps_133 : decode cX1_keeps 133 = .ok (.iload 4, 2) := dk_21 4 (dk_at dksX1_keeps_5 15 rfl rfl)
theorem dX1_keeps_135 : decode cX1_keeps 135 = .ok (.iload 5, 2) := dk_21 5 (dk_at dksX1_keeps_5 17 rfl rfl)
theorem dX1_keeps_137 : decode cX1_keeps 137 = .ok (.iload 7, 2) := dk_21 7 (dk_at dksX1_keeps_5 19 rfl rfl)
theorem dX1_keeps_139 : decode cX1_keeps 139 = .ok (.ifCond .le 7, 3) := dk_158 0 7 (dk_at dksX1_keeps_5 21 rfl rfl)
theorem dX1_keeps_142 : decode cX1_keeps 142 = .ok (.iconst 1, 1) := dk_4 (dk_at dksX1_keeps_6 0 rfl rfl)
theorem dX1_keeps_143 : decode cX1_keeps 143 = .ok (.goto 4, 3) := dk_167 0 4 (dk_at dksX1_keeps_6 1 rfl rfl)
theorem dX1_keeps_146 : decode cX1_keeps 146 = .ok (.iconst 0, 1) := dk_3 (dk_at dksX1_keeps_6 4 rfl rfl)
theorem dX1_keeps_147 : decode cX1_keeps 147 = .ok (.isub, 1) := dk_100 (dk_at dksX1_keeps_6 5 rfl rfl)
theorem dX1_keeps_148 : decode cX1_keeps 148 = .ok (.bipush 7, 2) := dk_16 7 (dk_at dksX1_keeps_6 6 rfl rfl)
theorem dX1_keeps_150 : decode cX1_keeps 150 = .ok (.iload 6, 2) := dk_21 6 (dk_at dksX1_keeps_6 8 rfl rfl)
theorem dX1_keeps_152 : decode cX1_keeps 152 = .ok (.imul, 1) := dk_104 (dk_at dksX1_keeps_6 10 rfl rfl)
theorem dX1_keeps_153 : decode cX1_keeps 153 = .ok (.iload 7, 2) := dk_21 7 (dk_at dksX1_keeps_6 11 rfl rfl)
theorem dX1_keeps_155 : decode cX1_keeps 155 = .ok (.iadd, 1) := dk_96 (dk_at dksX1_keeps_6 13 rfl rfl)
theorem dX1_keeps_156 : decode cX1_keeps 156 = .ok (.invokevirtual 273, 3) := dk_182 1 17 (dk_at dksX1_keeps_6 14 rfl rfl)
theorem dX1_keeps_159 : decode cX1_keeps 159 = .ok (.ifCond .eq 7, 3) := dk_153 0 7 (dk_at dksX1_keeps_6 17 rfl rfl)
theorem dX1_keeps_162 : decode cX1_keeps 162 = .ok (.iconst 1, 1) := dk_4 (dk_at dksX1_keeps_6 20 rfl rfl)
theorem dX1_keeps_163 : decode cX1_keeps 163 = .ok (.goto 4, 3) := dk_167 0 4 (dk_at dksX1_keeps_6 21 rfl rfl)
theorem dX1_keeps_166 : decode cX1_keeps 166 = .ok (.iconst 0, 1) := dk_3 (dk_at dksX1_keeps_7 0 rfl rfl)
theorem dX1_keeps_167 : decode cX1_keeps 167 = .ok (.istore 8, 2) := dk_54 8 (dk_at dksX1_keeps_7 1 rfl rfl)
theorem dX1_keeps_169 : decode cX1_keeps 169 = .ok (.iload 7, 2) := dk_21 7 (dk_at dksX1_keeps_7 3 rfl rfl)
theorem dX1_keeps_171 : decode cX1_keeps 171 = .ok (.ifCond .le 16, 3) := dk_158 0 16 (dk_at dksX1_keeps_7 5 rfl rfl)
theorem dX1_keeps_174 : decode cX1_keeps 174 = .ok (.aload_n 0, 1) := dk_42 (dk_at dksX1_keeps_7 8 rfl rfl)
theorem dX1_keeps_175 : decode cX1_keeps 175 = .ok (.getfield 27, 3) := dk_180 0 27 (dk_at dksX1_keeps_7 9 rfl rfl)
theorem dX1_keeps_178 : decode cX1_keeps 178 = .ok (.dup, 1) := dk_89 (dk_at dksX1_keeps_7 12 rfl rfl)
theorem dX1_keeps_179 : decode cX1_keeps 179 = .ok (.getfield 126, 3) := dk_180 0 126 (dk_at dksX1_keeps_7 13 rfl rfl)
theorem dX1_keeps_182 : decode cX1_keeps 182 = .ok (.iconst 1, 1) := dk_4 (dk_at dksX1_keeps_7 16 rfl rfl)
theorem dX1_keeps_183 : decode cX1_keeps 183 = .ok (.isub, 1) := dk_100 (dk_at dksX1_keeps_7 17 rfl rfl)
theorem dX1_keeps_184 : decode cX1_keeps 184 = .ok (.putfield 126, 3) := dk_181 0 126 (dk_at dksX1_keeps_7 18 rfl rfl)
theorem dX1_keeps_187 : decode cX1_keeps 187 = .ok (.iload 8, 2) := dk_21 8 (dk_at dksX1_keeps_7 21 rfl rfl)
theorem dX1_keeps_189 : decode cX1_keeps 189 = .ok (.ifCond .eq 5, 3) := dk_153 0 5 (dk_at dksX1_keeps_8 0 rfl rfl)
theorem dX1_keeps_192 : decode cX1_keeps 192 = .ok (.iconst 1, 1) := dk_4 (dk_at dksX1_keeps_8 3 rfl rfl)
theorem dX1_keeps_193 : decode cX1_keeps 193 = .ok (.ireturn, 1) := dk_172 (dk_at dksX1_keeps_8 4 rfl rfl)
theorem dX1_keeps_194 : decode cX1_keeps 194 = .ok (.iinc 7 1, 3) := dk_132 7 1 (dk_at dksX1_keeps_8 5 rfl rfl)
theorem dX1_keeps_197 : decode cX1_keeps 197 = .ok (.goto (-171), 3) := dk_167 255 85 (dk_at dksX1_keeps_8 8 rfl rfl)
theorem dX1_keeps_200 : decode cX1_keeps 200 = .ok (.iconst 0, 1) := dk_3 (dk_at dksX1_keeps_8 11 rfl rfl)
theorem dX1_keeps_201 : decode cX1_keeps 201 = .ok (.ireturn, 1) := dk_172 (dk_at dksX1_keeps_8 12 rfl rfl)
abbrev cX1_rivals : ByteArray := prog_1_method_36_code
def yX1_rivals : MethodName := ⟨RX1, "rivals", "(II)I"⟩
def dkwX1_rivals_16 : List UInt8 := [167, 0, 5, 21, 5, 172]
abbrev dktX1_rivals_16 : List UInt8 := dkwX1_rivals_16 ++ []
def dkwX1_rivals_15 : List UInt8 := [29, 108, 104, 21, 6, 29, 112, 96, 54, 5, 132, 6, 1, 167, 255, 82, 28, 154, 0, 8, 21, 4]
abbrev dktX1_rivals_15 : List UInt8 := dkwX1_rivals_15 ++ dktX1_rivals_16
def dkwX1_rivals_14 : List UInt8 := [167, 255, 160, 21, 7, 154, 0, 6, 167, 0, 26, 132, 4, 1, 21, 5, 2, 160, 0, 17, 16, 8, 21, 6]
abbrev dktX1_rivals_14 : List UInt8 := dkwX1_rivals_14 ++ dktX1_rivals_15
def dkwX1_rivals_13 : List UInt8 := [104, 4, 96, 46, 42, 180, 0, 48, 5, 21, 6, 104, 4, 96, 46, 164, 0, 6, 3, 54, 7, 132, 8, 1]
abbrev dktX1_rivals_13 : List UInt8 := dkwX1_rivals_13 ++ dktX1_rivals_14
def dkwX1_rivals_12 : List UInt8 := [21, 8, 4, 182, 1, 24, 153, 0, 39, 42, 180, 0, 48, 5, 21, 6, 21, 6, 29, 112, 100, 21, 8, 96]
abbrev dktX1_rivals_12 : List UInt8 := dkwX1_rivals_12 ++ dktX1_rivals_13
def dkwX1_rivals_11 : List UInt8 := [104, 21, 6, 29, 112, 96, 104, 46, 42, 180, 0, 48, 5, 21, 6, 104, 46, 164, 0, 6, 3, 54, 7, 42]
abbrev dktX1_rivals_11 : List UInt8 := dkwX1_rivals_11 ++ dktX1_rivals_12
def dkwX1_rivals_10 : List UInt8 := [21, 8, 29, 162, 0, 96, 42, 21, 8, 3, 182, 1, 24, 153, 0, 34, 42, 180, 0, 48, 5, 29, 21, 8]
abbrev dktX1_rivals_10 : List UInt8 := dkwX1_rivals_10 ++ dktX1_rivals_11
def dkwX1_rivals_9 : List UInt8 := [153, 0, 154, 42, 21, 6, 29, 112, 4, 182, 1, 24, 154, 0, 6, 167, 0, 139, 4, 54, 7, 3, 54, 8]
abbrev dktX1_rivals_9 : List UInt8 := dkwX1_rivals_9 ++ dktX1_rivals_10
def dkwX1_rivals_8 : List UInt8 := [54, 5, 3, 54, 6, 21, 6, 29, 29, 104, 162, 0, 172, 42, 21, 6, 29, 108, 3, 182, 1, 24]
abbrev dktX1_rivals_8 : List UInt8 := dkwX1_rivals_8 ++ dktX1_rivals_9
def dkwX1_rivals_7 : List UInt8 := [104, 4, 96, 42, 4, 21, 4, 29, 112, 182, 1, 28, 79, 132, 4, 1, 167, 255, 118, 3, 54, 4, 2]
abbrev dktX1_rivals_7 : List UInt8 := dkwX1_rivals_7 ++ dktX1_rivals_8
def dkwX1_rivals_6 : List UInt8 := [180, 0, 48, 5, 21, 4, 104, 42, 3, 21, 4, 29, 108, 182, 1, 28, 79, 42, 180, 0, 48, 5, 21, 4]
abbrev dktX1_rivals_6 : List UInt8 := dkwX1_rivals_6 ++ dktX1_rivals_7
def dkwX1_rivals_5 : List UInt8 := [180, 0, 27, 21, 4, 29, 112, 4, 100, 27, 3, 182, 0, 207, 42, 180, 0, 27, 182, 0, 132, 42]
abbrev dktX1_rivals_5 : List UInt8 := dkwX1_rivals_5 ++ dktX1_rivals_6
def dkwX1_rivals_4 : List UInt8 := [42, 180, 0, 27, 21, 4, 29, 108, 4, 100, 27, 3, 182, 0, 207, 21, 4, 29, 112, 158, 0, 18, 42]
abbrev dktX1_rivals_4 : List UInt8 := dkwX1_rivals_4 ++ dktX1_rivals_5
def dkwX1_rivals_3 : List UInt8 := [154, 0, 6, 167, 0, 103, 42, 180, 0, 27, 42, 180, 0, 23, 182, 1, 1, 21, 4, 29, 108, 158, 0, 18]
abbrev dktX1_rivals_3 : List UInt8 := dkwX1_rivals_3 ++ dktX1_rivals_4
def dkwX1_rivals_2 : List UInt8 := [162, 0, 136, 42, 21, 4, 29, 108, 3, 182, 1, 24, 153, 0, 118, 42, 21, 4, 29, 112, 4, 182, 1, 24]
abbrev dktX1_rivals_2 : List UInt8 := dkwX1_rivals_2 ++ dktX1_rivals_3
def dkwX1_rivals_1 : List UInt8 := [180, 0, 23, 180, 0, 65, 180, 0, 87, 182, 0, 75, 4, 96, 62, 3, 54, 4, 21, 4, 29, 29, 104]
abbrev dktX1_rivals_1 : List UInt8 := dkwX1_rivals_1 ++ dktX1_rivals_2
def dkwX1_rivals_0 : List UInt8 := [27, 184, 0, 201, 28, 153, 0, 8, 28, 4, 160, 0, 7, 4, 167, 0, 4, 3, 184, 0, 61, 42]
abbrev dktX1_rivals_0 : List UInt8 := dkwX1_rivals_0 ++ dktX1_rivals_1
theorem dksX1_rivals_0 : cX1_rivals.data.toList.drop 0 = dktX1_rivals_0 := by decide +kernel
theorem dksX1_rivals_1 : cX1_rivals.data.toList.drop 22 = dktX1_rivals_1 := dk_seg dksX1_rivals_0 22 rfl rfl
theorem dksX1_rivals_2 : cX1_rivals.data.toList.drop 45 = dktX1_rivals_2 := dk_seg dksX1_rivals_1 23 rfl rfl
theorem dksX1_rivals_3 : cX1_rivals.data.toList.drop 69 = dktX1_rivals_3 := dk_seg dksX1_rivals_2 24 rfl rfl
theorem dksX1_rivals_4 : cX1_rivals.data.toList.drop 93 = dktX1_rivals_4 := dk_seg dksX1_rivals_3 24 rfl rfl
theorem dksX1_rivals_5 : cX1_rivals.data.toList.drop 116 = dktX1_rivals_5 := dk_seg dksX1_rivals_4 23 rfl rfl
theorem dksX1_rivals_6 : cX1_rivals.data.toList.drop 138 = dktX1_rivals_6 := dk_seg dksX1_rivals_5 22 rfl rfl
theorem dksX1_rivals_7 : cX1_rivals.data.toList.drop 162 = dktX1_rivals_7 := dk_seg dksX1_rivals_6 24 rfl rfl
theorem dksX1_rivals_8 : cX1_rivals.data.toList.drop 185 = dktX1_rivals_8 := dk_seg dksX1_rivals_7 23 rfl rfl
theorem dksX1_rivals_9 : cX1_rivals.data.toList.drop 207 = dktX1_rivals_9 := dk_seg dksX1_rivals_8 22 rfl rfl
theorem dksX1_rivals_10 : cX1_rivals.data.toList.drop 231 = dktX1_rivals_10 := dk_seg dksX1_rivals_9 24 rfl rfl
theorem dksX1_rivals_11 : cX1_rivals.data.toList.drop 255 = dktX1_rivals_11 := dk_seg dksX1_rivals_10 24 rfl rfl
theorem dksX1_rivals_12 : cX1_rivals.data.toList.drop 279 = dktX1_rivals_12 := dk_seg dksX1_rivals_11 24 rfl rfl
theorem dksX1_rivals_13 : cX1_rivals.data.toList.drop 303 = dktX1_rivals_13 := dk_seg dksX1_rivals_12 24 rfl rfl
theorem dksX1_rivals_14 : cX1_rivals.data.toList.drop 327 = dktX1_rivals_14 := dk_seg dksX1_rivals_13 24 rfl rfl
theorem dksX1_rivals_15 : cX1_rivals.data.toList.drop 351 = dktX1_rivals_15 := dk_seg dksX1_rivals_14 24 rfl rfl
theorem dksX1_rivals_16 : cX1_rivals.data.toList.drop 373 = dktX1_rivals_16 := dk_seg dksX1_rivals_15 22 rfl rfl
theorem dX1_rivals_0 : decode cX1_rivals 0 = .ok (.iload_n 1, 1) := dk_27 (dk_at dksX1_rivals_0 0 rfl rfl)
theorem dX1_rivals_1 : decode cX1_rivals 1 = .ok (.invokestatic 201, 3) := dk_184 0 201 (dk_at dksX1_rivals_0 1 rfl rfl)
theorem dX1_rivals_4 : decode cX1_rivals 4 = .ok (.iload_n 2, 1) := dk_28 (dk_at dksX1_rivals_0 4 rfl rfl)
theorem dX1_rivals_5 : decode cX1_rivals 5 = .ok (.ifCond .eq 8, 3) := dk_153 0 8 (dk_at dksX1_rivals_0 5 rfl rfl)
theorem dX1_rivals_8 : decode cX1_rivals 8 = .ok (.iload_n 2, 1) := dk_28 (dk_at dksX1_rivals_0 8 rfl rfl)
theorem dX1_rivals_9 : decode cX1_rivals 9 = .ok (.iconst 1, 1) := dk_4 (dk_at dksX1_rivals_0 9 rfl rfl)
theorem dX1_rivals_10 : decode cX1_rivals 10 = .ok (.if_icmp .ne 7, 3) := dk_160 0 7 (dk_at dksX1_rivals_0 10 rfl rfl)
theorem dX1_rivals_13 : decode cX1_rivals 13 = .ok (.iconst 1, 1) := dk_4 (dk_at dksX1_rivals_0 13 rfl rfl)
theorem dX1_rivals_14 : decode cX1_rivals 14 = .ok (.goto 4, 3) := dk_167 0 4 (dk_at dksX1_rivals_0 14 rfl rfl)
theorem dX1_rivals_17 : decode cX1_rivals 17 = .ok (.iconst 0, 1) := dk_3 (dk_at dksX1_rivals_0 17 rfl rfl)
theorem dX1_rivals_18 : decode cX1_rivals 18 = .ok (.invokestatic 61, 3) := dk_184 0 61 (dk_at dksX1_rivals_0 18 rfl rfl)
theorem dX1_rivals_21 : decode cX1_rivals 21 = .ok (.aload_n 0, 1) := dk_42 (dk_at dksX1_rivals_0 21 rfl rfl)
theorem dX1_rivals_22 : decode cX1_rivals 22 = .ok (.getfield 23, 3) := dk_180 0 23 (dk_at dksX1_rivals_1 0 rfl rfl)
theorem dX1_rivals_25 : decode cX1_rivals 25 = .ok (.getfield 65, 3) := dk_180 0 65 (dk_at dksX1_rivals_1 3 rfl rfl)
theorem dX1_rivals_28 : decode cX1_rivals 28 = .ok (.getfield 87, 3) := dk_180 0 87 (dk_at dksX1_rivals_1 6 rfl rfl)
theorem dX1_rivals_31 : decode cX1_rivals 31 = .ok (.invokevirtual 75, 3) := dk_182 0 75 (dk_at dksX1_rivals_1 9 rfl rfl)
theorem dX1_rivals_34 : decode cX1_rivals 34 = .ok (.iconst 1, 1) := dk_4 (dk_at dksX1_rivals_1 12 rfl rfl)
theorem dX1_rivals_35 : decode cX1_rivals 35 = .ok (.iadd, 1) := dk_96 (dk_at dksX1_rivals_1 13 rfl rfl)
theorem dX1_rivals_36 : decode cX1_rivals 36 = .ok (.istore_n 3, 1) := dk_62 (dk_at dksX1_rivals_1 14 rfl rfl)
theorem dX1_rivals_37 : decode cX1_rivals 37 = .ok (.iconst 0, 1) := dk_3 (dk_at dksX1_rivals_1 15 rfl rfl)
theorem dX1_rivals_38 : decode cX1_rivals 38 = .ok (.istore 4, 2) := dk_54 4 (dk_at dksX1_rivals_1 16 rfl rfl)
theorem dX1_rivals_40 : decode cX1_rivals 40 = .ok (.iload 4, 2) := dk_21 4 (dk_at dksX1_rivals_1 18 rfl rfl)
theorem dX1_rivals_42 : decode cX1_rivals 42 = .ok (.iload_n 3, 1) := dk_29 (dk_at dksX1_rivals_1 20 rfl rfl)
theorem dX1_rivals_43 : decode cX1_rivals 43 = .ok (.iload_n 3, 1) := dk_29 (dk_at dksX1_rivals_1 21 rfl rfl)
theorem dX1_rivals_44 : decode cX1_rivals 44 = .ok (.imul, 1) := dk_104 (dk_at dksX1_rivals_1 22 rfl rfl)
theorem dX1_rivals_45 : decode cX1_rivals 45 = .ok (.if_icmp .ge 136, 3) := dk_162 0 136 (dk_at dksX1_rivals_2 0 rfl rfl)
theorem dX1_rivals_48 : decode cX1_rivals 48 = .ok (.aload_n 0, 1) := dk_42 (dk_at dksX1_rivals_2 3 rfl rfl)
theorem dX1_rivals_49 : decode cX1_rivals 49 = .ok (.iload 4, 2) := dk_21 4 (dk_at dksX1_rivals_2 4 rfl rfl)
theorem dX1_rivals_51 : decode cX1_rivals 51 = .ok (.iload_n 3, 1) := dk_29 (dk_at dksX1_rivals_2 6 rfl rfl)
theorem dX1_rivals_52 : decode cX1_rivals 52 = .ok (.idiv, 1) := dk_108 (dk_at dksX1_rivals_2 7 rfl rfl)
theorem dX1_rivals_53 : decode cX1_rivals 53 = .ok (.iconst 0, 1) := dk_3 (dk_at dksX1_rivals_2 8 rfl rfl)
theorem dX1_rivals_54 : decode cX1_rivals 54 = .ok (.invokevirtual 280, 3) := dk_182 1 24 (dk_at dksX1_rivals_2 9 rfl rfl)
theorem dX1_rivals_57 : decode cX1_rivals 57 = .ok (.ifCond .eq 118, 3) := dk_153 0 118 (dk_at dksX1_rivals_2 12 rfl rfl)
theorem dX1_rivals_60 : decode cX1_rivals 60 = .ok (.aload_n 0, 1) := dk_42 (dk_at dksX1_rivals_2 15 rfl rfl)
theorem dX1_rivals_61 : decode cX1_rivals 61 = .ok (.iload 4, 2) := dk_21 4 (dk_at dksX1_rivals_2 16 rfl rfl)
theorem dX1_rivals_63 : decode cX1_rivals 63 = .ok (.iload_n 3, 1) := dk_29 (dk_at dksX1_rivals_2 18 rfl rfl)
theorem dX1_rivals_64 : decode cX1_rivals 64 = .ok (.irem, 1) := dk_112 (dk_at dksX1_rivals_2 19 rfl rfl)
theorem dX1_rivals_65 : decode cX1_rivals 65 = .ok (.iconst 1, 1) := dk_4 (dk_at dksX1_rivals_2 20 rfl rfl)
theorem dX1_rivals_66 : decode cX1_rivals 66 = .ok (.invokevirtual 280, 3) := dk_182 1 24 (dk_at dksX1_rivals_2 21 rfl rfl)
theorem dX1_rivals_69 : decode cX1_rivals 69 = .ok (.ifCond .ne 6, 3) := dk_154 0 6 (dk_at dksX1_rivals_3 0 rfl rfl)
theorem dX1_rivals_72 : decode cX1_rivals 72 = .ok (.goto 103, 3) := dk_167 0 103 (dk_at dksX1_rivals_3 3 rfl rfl)
theorem dX1_rivals_75 : decode cX1_rivals 75 = .ok (.aload_n 0, 1) := dk_42 (dk_at dksX1_rivals_3 6 rfl rfl)
theorem dX1_rivals_76 : decode cX1_rivals 76 = .ok (.getfield 27, 3) := dk_180 0 27 (dk_at dksX1_rivals_3 7 rfl rfl)
theorem dX1_rivals_79 : decode cX1_rivals 79 = .ok (.aload_n 0, 1) := dk_42 (dk_at dksX1_rivals_3 10 rfl rfl)
theorem dX1_rivals_80 : decode cX1_rivals 80 = .ok (.getfield 23, 3) := dk_180 0 23 (dk_at dksX1_rivals_3 11 rfl rfl)
theorem dX1_rivals_83 : decode cX1_rivals 83 = .ok (.invokevirtual 257, 3) := dk_182 1 1 (dk_at dksX1_rivals_3 14 rfl rfl)
theorem dX1_rivals_86 : decode cX1_rivals 86 = .ok (.iload 4, 2) := dk_21 4 (dk_at dksX1_rivals_3 17 rfl rfl)
theorem dX1_rivals_88 : decode cX1_rivals 88 = .ok (.iload_n 3, 1) := dk_29 (dk_at dksX1_rivals_3 19 rfl rfl)
theorem dX1_rivals_89 : decode cX1_rivals 89 = .ok (.idiv, 1) := dk_108 (dk_at dksX1_rivals_3 20 rfl rfl)
theorem dX1_rivals_90 : decode cX1_rivals 90 = .ok (.ifCond .le 18, 3) := dk_158 0 18 (dk_at dksX1_rivals_3 21 rfl rfl)
theorem dX1_rivals_93 : decode cX1_rivals 93 = .ok (.aload_n 0, 1) := dk_42 (dk_at dksX1_rivals_4 0 rfl rfl)
theorem dX1_rivals_94 : decode cX1_rivals 94 = .ok (.getfield 27, 3) := dk_180 0 27 (dk_at dksX1_rivals_4 1 rfl rfl)
theorem dX1_rivals_97 : decode cX1_rivals 97 = .ok (.iload 4, 2) := dk_21 4 (dk_at dksX1_rivals_4 4 rfl rfl)
theorem dX1_rivals_99 : decode cX1_rivals 99 = .ok (.iload_n 3, 1) := dk_29 (dk_at dksX1_rivals_4 6 rfl rfl)
theorem dX1_rivals_100 : decode cX1_rivals 100 = .ok (.idiv, 1) := dk_108 (dk_at dksX1_rivals_4 7 rfl rfl)
theorem dX1_rivals_101 : decode cX1_rivals 101 = .ok (.iconst 1, 1) := dk_4 (dk_at dksX1_rivals_4 8 rfl rfl)
theorem dX1_rivals_102 : decode cX1_rivals 102 = .ok (.isub, 1) := dk_100 (dk_at dksX1_rivals_4 9 rfl rfl)
theorem dX1_rivals_103 : decode cX1_rivals 103 = .ok (.iload_n 1, 1) := dk_27 (dk_at dksX1_rivals_4 10 rfl rfl)
theorem dX1_rivals_104 : decode cX1_rivals 104 = .ok (.iconst 0, 1) := dk_3 (dk_at dksX1_rivals_4 11 rfl rfl)
theorem dX1_rivals_105 : decode cX1_rivals 105 = .ok (.invokevirtual 207, 3) := dk_182 0 207 (dk_at dksX1_rivals_4 12 rfl rfl)
theorem dX1_rivals_108 : decode cX1_rivals 108 = .ok (.iload 4, 2) := dk_21 4 (dk_at dksX1_rivals_4 15 rfl rfl)
theorem dX1_rivals_110 : decode cX1_rivals 110 = .ok (.iload_n 3, 1) := dk_29 (dk_at dksX1_rivals_4 17 rfl rfl)
theorem dX1_rivals_111 : decode cX1_rivals 111 = .ok (.irem, 1) := dk_112 (dk_at dksX1_rivals_4 18 rfl rfl)
theorem dX1_rivals_112 : decode cX1_rivals 112 = .ok (.ifCond .le 18, 3) := dk_158 0 18 (dk_at dksX1_rivals_4 19 rfl rfl)
theorem dX1_rivals_115 : decode cX1_rivals 115 = .ok (.aload_n 0, 1) := dk_42 (dk_at dksX1_rivals_4 22 rfl rfl)
theorem dX1_rivals_116 : decode cX1_rivals 116 = .ok (.getfield 27, 3) := dk_180 0 27 (dk_at dksX1_rivals_5 0 rfl rfl)
theorem dX1_rivals_119 : decode cX1_rivals 119 = .ok (.iload 4, 2) := dk_21 4 (dk_at dksX1_rivals_5 3 rfl rfl)
theorem dX1_rivals_121 : decode cX1_rivals 121 = .ok (.iload_n 3, 1) := dk_29 (dk_at dksX1_rivals_5 5 rfl rfl)
theorem dX1_rivals_122 : decode cX1_rivals 122 = .ok (.irem, 1) := dk_112 (dk_at dksX1_rivals_5 6 rfl rfl)
theorem dX1_rivals_123 : decode cX1_rivals 123 = .ok (.iconst 1, 1) := dk_4 (dk_at dksX1_rivals_5 7 rfl rfl)
theorem dX1_rivals_124 : decode cX1_rivals 124 = .ok (.isub, 1) := dk_100 (dk_at dksX1_rivals_5 8 rfl rfl)
theorem dX1_rivals_125 : decode cX1_rivals 125 = .ok (.iload_n 1, 1) := dk_27 (dk_at dksX1_rivals_5 9 rfl rfl)
theorem dX1_rivals_126 : decode cX1_rivals 126 = .ok (.iconst 0, 1) := dk_3 (dk_at dksX1_rivals_5 10 rfl rfl)
theorem dX1_rivals_127 : decode cX1_rivals 127 = .ok (.invokevirtual 207, 3) := dk_182 0 207 (dk_at dksX1_rivals_5 11 rfl rfl)
theorem dX1_rivals_130 : decode cX1_rivals 130 = .ok (.aload_n 0, 1) := dk_42 (dk_at dksX1_rivals_5 14 rfl rfl)
theorem dX1_rivals_131 : decode cX1_rivals 131 = .ok (.getfield 27, 3) := dk_180 0 27 (dk_at dksX1_rivals_5 15 rfl rfl)
theorem dX1_rivals_134 : decode cX1_rivals 134 = .ok (.invokevirtual 132, 3) := dk_182 0 132 (dk_at dksX1_rivals_5 18 rfl rfl)
theorem dX1_rivals_137 : decode cX1_rivals 137 = .ok (.aload_n 0, 1) := dk_42 (dk_at dksX1_rivals_5 21 rfl rfl)
theorem dX1_rivals_138 : decode cX1_rivals 138 = .ok (.getfield 48, 3) := dk_180 0 48 (dk_at dksX1_rivals_6 0 rfl rfl)
theorem dX1_rivals_141 : decode cX1_rivals 141 = .ok (.iconst 2, 1) := dk_5 (dk_at dksX1_rivals_6 3 rfl rfl)
theorem dX1_rivals_142 : decode cX1_rivals 142 = .ok (.iload 4, 2) := dk_21 4 (dk_at dksX1_rivals_6 4 rfl rfl)
theorem dX1_rivals_144 : decode cX1_rivals 144 = .ok (.imul, 1) := dk_104 (dk_at dksX1_rivals_6 6 rfl rfl)
theorem dX1_rivals_145 : decode cX1_rivals 145 = .ok (.aload_n 0, 1) := dk_42 (dk_at dksX1_rivals_6 7 rfl rfl)
theorem dX1_rivals_146 : decode cX1_rivals 146 = .ok (.iconst 0, 1) := dk_3 (dk_at dksX1_rivals_6 8 rfl rfl)
theorem dX1_rivals_147 : decode cX1_rivals 147 = .ok (.iload 4, 2) := dk_21 4 (dk_at dksX1_rivals_6 9 rfl rfl)
theorem dX1_rivals_149 : decode cX1_rivals 149 = .ok (.iload_n 3, 1) := dk_29 (dk_at dksX1_rivals_6 11 rfl rfl)
theorem dX1_rivals_150 : decode cX1_rivals 150 = .ok (.idiv, 1) := dk_108 (dk_at dksX1_rivals_6 12 rfl rfl)
theorem dX1_rivals_151 : decode cX1_rivals 151 = .ok (.invokevirtual 284, 3) := dk_182 1 28 (dk_at dksX1_rivals_6 13 rfl rfl)
theorem dX1_rivals_154 : decode cX1_rivals 154 = .ok (.iastore, 1) := dk_79 (dk_at dksX1_rivals_6 16 rfl rfl)
theorem dX1_rivals_155 : decode cX1_rivals 155 = .ok (.aload_n 0, 1) := dk_42 (dk_at dksX1_rivals_6 17 rfl rfl)
theorem dX1_rivals_156 : decode cX1_rivals 156 = .ok (.getfield 48, 3) := dk_180 0 48 (dk_at dksX1_rivals_6 18 rfl rfl)
theorem dX1_rivals_159 : decode cX1_rivals 159 = .ok (.iconst 2, 1) := dk_5 (dk_at dksX1_rivals_6 21 rfl rfl)
theorem dX1_rivals_160 : decode cX1_rivals 160 = .ok (.iload 4, 2) := dk_21 4 (dk_at dksX1_rivals_6 22 rfl rfl)
theorem dX1_rivals_162 : decode cX1_rivals 162 = .ok (.imul, 1) := dk_104 (dk_at dksX1_rivals_7 0 rfl rfl)
theorem dX1_rivals_163 : decode cX1_rivals 163 = .ok (.iconst 1, 1) := dk_4 (dk_at dksX1_rivals_7 1 rfl rfl)
theorem dX1_rivals_164 : decode cX1_rivals 164 = .ok (.iadd, 1) := dk_96 (dk_at dksX1_rivals_7 2 rfl rfl)
theorem dX1_rivals_165 : decode cX1_rivals 165 = .ok (.aload_n 0, 1) := dk_42 (dk_at dksX1_rivals_7 3 rfl rfl)
theorem dX1_rivals_166 : decode cX1_rivals 166 = .ok (.iconst 1, 1) := dk_4 (dk_at dksX1_rivals_7 4 rfl rfl)
theorem dX1_rivals_167 : decode cX1_rivals 167 = .ok (.iload 4, 2) := dk_21 4 (dk_at dksX1_rivals_7 5 rfl rfl)
theorem dX1_rivals_169 : decode cX1_rivals 169 = .ok (.iload_n 3, 1) := dk_29 (dk_at dksX1_rivals_7 7 rfl rfl)
theorem dX1_rivals_170 : decode cX1_rivals 170 = .ok (.irem, 1) := dk_112 (dk_at dksX1_rivals_7 8 rfl rfl)
theorem dX1_rivals_171 : decode cX1_rivals 171 = .ok (.invokevirtual 284, 3) := dk_182 1 28 (dk_at dksX1_rivals_7 9 rfl rfl)
theorem dX1_rivals_174 : decode cX1_rivals 174 = .ok (.iastore, 1) := dk_79 (dk_at dksX1_rivals_7 12 rfl rfl)
theorem dX1_rivals_175 : decode cX1_rivals 175 = .ok (.iinc 4 1, 3) := dk_132 4 1 (dk_at dksX1_rivals_7 13 rfl rfl)
theorem dX1_rivals_178 : decode cX1_rivals 178 = .ok (.goto (-138), 3) := dk_167 255 118 (dk_at dksX1_rivals_7 16 rfl rfl)
theorem dX1_rivals_181 : decode cX1_rivals 181 = .ok (.iconst 0, 1) := dk_3 (dk_at dksX1_rivals_7 19 rfl rfl)
theorem dX1_rivals_182 : decode cX1_rivals 182 = .ok (.istore 4, 2) := dk_54 4 (dk_at dksX1_rivals_7 20 rfl rfl)
theorem dX1_rivals_184 : decode cX1_rivals 184 = .ok (.iconst (-1), 1) := dk_2 (dk_at dksX1_rivals_7 22 rfl rfl)
theorem dX1_rivals_185 : decode cX1_rivals 185 = .ok (.istore 5, 2) := dk_54 5 (dk_at dksX1_rivals_8 0 rfl rfl)
theorem dX1_rivals_187 : decode cX1_rivals 187 = .ok (.iconst 0, 1) := dk_3 (dk_at dksX1_rivals_8 2 rfl rfl)
theorem dX1_rivals_188 : decode cX1_rivals 188 = .ok (.istore 6, 2) := dk_54 6 (dk_at dksX1_rivals_8 3 rfl rfl)
theorem dX1_rivals_190 : decode cX1_rivals 190 = .ok (.iload 6, 2) := dk_21 6 (dk_at dksX1_rivals_8 5 rfl rfl)
theorem dX1_rivals_192 : decode cX1_rivals 192 = .ok (.iload_n 3, 1) := dk_29 (dk_at dksX1_rivals_8 7 rfl rfl)
theorem dX1_rivals_193 : decode cX1_rivals 193 = .ok (.iload_n 3, 1) := dk_29 (dk_at dksX1_rivals_8 8 rfl rfl)
theorem dX1_rivals_194 : decode cX1_rivals 194 = .ok (.imul, 1) := dk_104 (dk_at dksX1_rivals_8 9 rfl rfl)
theorem dX1_rivals_195 : decode cX1_rivals 195 = .ok (.if_icmp .ge 172, 3) := dk_162 0 172 (dk_at dksX1_rivals_8 10 rfl rfl)
theorem dX1_rivals_198 : decode cX1_rivals 198 = .ok (.aload_n 0, 1) := dk_42 (dk_at dksX1_rivals_8 13 rfl rfl)
theorem dX1_rivals_199 : decode cX1_rivals 199 = .ok (.iload 6, 2) := dk_21 6 (dk_at dksX1_rivals_8 14 rfl rfl)
theorem dX1_rivals_201 : decode cX1_rivals 201 = .ok (.iload_n 3, 1) := dk_29 (dk_at dksX1_rivals_8 16 rfl rfl)
theorem dX1_rivals_202 : decode cX1_rivals 202 = .ok (.idiv, 1) := dk_108 (dk_at dksX1_rivals_8 17 rfl rfl)
theorem dX1_rivals_203 : decode cX1_rivals 203 = .ok (.iconst 0, 1) := dk_3 (dk_at dksX1_rivals_8 18 rfl rfl)
theorem dX1_rivals_204 : decode cX1_rivals 204 = .ok (.invokevirtual 280, 3) := dk_182 1 24 (dk_at dksX1_rivals_8 19 rfl rfl)
theorem dX1_rivals_207 : decode cX1_rivals 207 = .ok (.ifCond .eq 154, 3) := dk_153 0 154 (dk_at dksX1_rivals_9 0 rfl rfl)
theorem dX1_rivals_210 : decode cX1_rivals 210 = .ok (.aload_n 0, 1) := dk_42 (dk_at dksX1_rivals_9 3 rfl rfl)
theorem dX1_rivals_211 : decode cX1_rivals 211 = .ok (.iload 6, 2) := dk_21 6 (dk_at dksX1_rivals_9 4 rfl rfl)
theorem dX1_rivals_213 : decode cX1_rivals 213 = .ok (.iload_n 3, 1) := dk_29 (dk_at dksX1_rivals_9 6 rfl rfl)
theorem dX1_rivals_214 : decode cX1_rivals 214 = .ok (.irem, 1) := dk_112 (dk_at dksX1_rivals_9 7 rfl rfl)
theorem dX1_rivals_215 : decode cX1_rivals 215 = .ok (.iconst 1, 1) := dk_4 (dk_at dksX1_rivals_9 8 rfl rfl)
theorem dX1_rivals_216 : decode cX1_rivals 216 = .ok (.invokevirtual 280, 3) := dk_182 1 24 (dk_at dksX1_rivals_9 9 rfl rfl)
theorem dX1_rivals_219 : decode cX1_rivals 219 = .ok (.ifCond .ne 6, 3) := dk_154 0 6 (dk_at dksX1_rivals_9 12 rfl rfl)
theorem dX1_rivals_222 : decode cX1_rivals 222 = .ok (.goto 139, 3) := dk_167 0 139 (dk_at dksX1_rivals_9 15 rfl rfl)
theorem dX1_rivals_225 : decode cX1_rivals 225 = .ok (.iconst 1, 1) := dk_4 (dk_at dksX1_rivals_9 18 rfl rfl)
theorem dX1_rivals_226 : decode cX1_rivals 226 = .ok (.istore 7, 2) := dk_54 7 (dk_at dksX1_rivals_9 19 rfl rfl)
theorem dX1_rivals_228 : decode cX1_rivals 228 = .ok (.iconst 0, 1) := dk_3 (dk_at dksX1_rivals_9 21 rfl rfl)
theorem dX1_rivals_229 : decode cX1_rivals 229 = .ok (.istore 8, 2) := dk_54 8 (dk_at dksX1_rivals_9 22 rfl rfl)
theorem dX1_rivals_231 : decode cX1_rivals 231 = .ok (.iload 8, 2) := dk_21 8 (dk_at dksX1_rivals_10 0 rfl rfl)
theorem dX1_rivals_233 : decode cX1_rivals 233 = .ok (.iload_n 3, 1) := dk_29 (dk_at dksX1_rivals_10 2 rfl rfl)
theorem dX1_rivals_234 : decode cX1_rivals 234 = .ok (.if_icmp .ge 96, 3) := dk_162 0 96 (dk_at dksX1_rivals_10 3 rfl rfl)
theorem dX1_rivals_237 : decode cX1_rivals 237 = .ok (.aload_n 0, 1) := dk_42 (dk_at dksX1_rivals_10 6 rfl rfl)
theorem dX1_rivals_238 : decode cX1_rivals 238 = .ok (.iload 8, 2) := dk_21 8 (dk_at dksX1_rivals_10 7 rfl rfl)
theorem dX1_rivals_240 : decode cX1_rivals 240 = .ok (.iconst 0, 1) := dk_3 (dk_at dksX1_rivals_10 9 rfl rfl)
theorem dX1_rivals_241 : decode cX1_rivals 241 = .ok (.invokevirtual 280, 3) := dk_182 1 24 (dk_at dksX1_rivals_10 10 rfl rfl)
theorem dX1_rivals_244 : decode cX1_rivals 244 = .ok (.ifCond .eq 34, 3) := dk_153 0 34 (dk_at dksX1_rivals_10 13 rfl rfl)
theorem dX1_rivals_247 : decode cX1_rivals 247 = .ok (.aload_n 0, 1) := dk_42 (dk_at dksX1_rivals_10 16 rfl rfl)
theorem dX1_rivals_248 : decode cX1_rivals 248 = .ok (.getfield 48, 3) := dk_180 0 48 (dk_at dksX1_rivals_10 17 rfl rfl)
theorem dX1_rivals_251 : decode cX1_rivals 251 = .ok (.iconst 2, 1) := dk_5 (dk_at dksX1_rivals_10 20 rfl rfl)
theorem dX1_rivals_252 : decode cX1_rivals 252 = .ok (.iload_n 3, 1) := dk_29 (dk_at dksX1_rivals_10 21 rfl rfl)
theorem dX1_rivals_253 : decode cX1_rivals 253 = .ok (.iload 8, 2) := dk_21 8 (dk_at dksX1_rivals_10 22 rfl rfl)
theorem dX1_rivals_255 : decode cX1_rivals 255 = .ok (.imul, 1) := dk_104 (dk_at dksX1_rivals_11 0 rfl rfl)
theorem dX1_rivals_256 : decode cX1_rivals 256 = .ok (.iload 6, 2) := dk_21 6 (dk_at dksX1_rivals_11 1 rfl rfl)
theorem dX1_rivals_258 : decode cX1_rivals 258 = .ok (.iload_n 3, 1) := dk_29 (dk_at dksX1_rivals_11 3 rfl rfl)
theorem dX1_rivals_259 : decode cX1_rivals 259 = .ok (.irem, 1) := dk_112 (dk_at dksX1_rivals_11 4 rfl rfl)
theorem dX1_rivals_260 : decode cX1_rivals 260 = .ok (.iadd, 1) := dk_96 (dk_at dksX1_rivals_11 5 rfl rfl)
theorem dX1_rivals_261 : decode cX1_rivals 261 = .ok (.imul, 1) := dk_104 (dk_at dksX1_rivals_11 6 rfl rfl)
theorem dX1_rivals_262 : decode cX1_rivals 262 = .ok (.iaload, 1) := dk_46 (dk_at dksX1_rivals_11 7 rfl rfl)
theorem dX1_rivals_263 : decode cX1_rivals 263 = .ok (.aload_n 0, 1) := dk_42 (dk_at dksX1_rivals_11 8 rfl rfl)
theorem dX1_rivals_264 : decode cX1_rivals 264 = .ok (.getfield 48, 3) := dk_180 0 48 (dk_at dksX1_rivals_11 9 rfl rfl)
theorem dX1_rivals_267 : decode cX1_rivals 267 = .ok (.iconst 2, 1) := dk_5 (dk_at dksX1_rivals_11 12 rfl rfl)
theorem dX1_rivals_268 : decode cX1_rivals 268 = .ok (.iload 6, 2) := dk_21 6 (dk_at dksX1_rivals_11 13 rfl rfl)
theorem dX1_rivals_270 : decode cX1_rivals 270 = .ok (.imul, 1) := dk_104 (dk_at dksX1_rivals_11 15 rfl rfl)
theorem dX1_rivals_271 : decode cX1_rivals 271 = .ok (.iaload, 1) := dk_46 (dk_at dksX1_rivals_11 16 rfl rfl)
theorem dX1_rivals_272 : decode cX1_rivals 272 = .ok (.if_icmp .le 6, 3) := dk_164 0 6 (dk_at dksX1_rivals_11 17 rfl rfl)
theorem dX1_rivals_275 : decode cX1_rivals 275 = .ok (.iconst 0, 1) := dk_3 (dk_at dksX1_rivals_11 20 rfl rfl)
theorem dX1_rivals_276 : decode cX1_rivals 276 = .ok (.istore 7, 2) := dk_54 7 (dk_at dksX1_rivals_11 21 rfl rfl)
theorem dX1_rivals_278 : decode cX1_rivals 278 = .ok (.aload_n 0, 1) := dk_42 (dk_at dksX1_rivals_11 23 rfl rfl)
theorem dX1_rivals_279 : decode cX1_rivals 279 = .ok (.iload 8, 2) := dk_21 8 (dk_at dksX1_rivals_12 0 rfl rfl)
theorem dX1_rivals_281 : decode cX1_rivals 281 = .ok (.iconst 1, 1) := dk_4 (dk_at dksX1_rivals_12 2 rfl rfl)
theorem dX1_rivals_282 : decode cX1_rivals 282 = .ok (.invokevirtual 280, 3) := dk_182 1 24 (dk_at dksX1_rivals_12 3 rfl rfl)
theorem dX1_rivals_285 : decode cX1_rivals 285 = .ok (.ifCond .eq 39, 3) := dk_153 0 39 (dk_at dksX1_rivals_12 6 rfl rfl)
theorem dX1_rivals_288 : decode cX1_rivals 288 = .ok (.aload_n 0, 1) := dk_42 (dk_at dksX1_rivals_12 9 rfl rfl)
theorem dX1_rivals_289 : decode cX1_rivals 289 = .ok (.getfield 48, 3) := dk_180 0 48 (dk_at dksX1_rivals_12 10 rfl rfl)
theorem dX1_rivals_292 : decode cX1_rivals 292 = .ok (.iconst 2, 1) := dk_5 (dk_at dksX1_rivals_12 13 rfl rfl)
theorem dX1_rivals_293 : decode cX1_rivals 293 = .ok (.iload 6, 2) := dk_21 6 (dk_at dksX1_rivals_12 14 rfl rfl)
theorem dX1_rivals_295 : decode cX1_rivals 295 = .ok (.iload 6, 2) := dk_21 6 (dk_at dksX1_rivals_12 16 rfl rfl)
theorem dX1_rivals_297 : decode cX1_rivals 297 = .ok (.iload_n 3, 1) := dk_29 (dk_at dksX1_rivals_12 18 rfl rfl)
theorem dX1_rivals_298 : decode cX1_rivals 298 = .ok (.irem, 1) := dk_112 (dk_at dksX1_rivals_12 19 rfl rfl)
theorem dX1_rivals_299 : decode cX1_rivals 299 = .ok (.isub, 1) := dk_100 (dk_at dksX1_rivals_12 20 rfl rfl)
theorem dX1_rivals_300 : decode cX1_rivals 300 = .ok (.iload 8, 2) := dk_21 8 (dk_at dksX1_rivals_12 21 rfl rfl)
theorem dX1_rivals_302 : decode cX1_rivals 302 = .ok (.iadd, 1) := dk_96 (dk_at dksX1_rivals_12 23 rfl rfl)
theorem dX1_rivals_303 : decode cX1_rivals 303 = .ok (.imul, 1) := dk_104 (dk_at dksX1_rivals_13 0 rfl rfl)
theorem dX1_rivals_304 : decode cX1_rivals 304 = .ok (.iconst 1, 1) := dk_4 (dk_at dksX1_rivals_13 1 rfl rfl)
theorem dX1_rivals_305 : decode cX1_rivals 305 = .ok (.iadd, 1) := dk_96 (dk_at dksX1_rivals_13 2 rfl rfl)
theorem dX1_rivals_306 : decode cX1_rivals 306 = .ok (.iaload, 1) := dk_46 (dk_at dksX1_rivals_13 3 rfl rfl)
theorem dX1_rivals_307 : decode cX1_rivals 307 = .ok (.aload_n 0, 1) := dk_42 (dk_at dksX1_rivals_13 4 rfl rfl)
theorem dX1_rivals_308 : decode cX1_rivals 308 = .ok (.getfield 48, 3) := dk_180 0 48 (dk_at dksX1_rivals_13 5 rfl rfl)
theorem dX1_rivals_311 : decode cX1_rivals 311 = .ok (.iconst 2, 1) := dk_5 (dk_at dksX1_rivals_13 8 rfl rfl)
theorem dX1_rivals_312 : decode cX1_rivals 312 = .ok (.iload 6, 2) := dk_21 6 (dk_at dksX1_rivals_13 9 rfl rfl)
theorem dX1_rivals_314 : decode cX1_rivals 314 = .ok (.imul, 1) := dk_104 (dk_at dksX1_rivals_13 11 rfl rfl)
theorem dX1_rivals_315 : decode cX1_rivals 315 = .ok (.iconst 1, 1) := dk_4 (dk_at dksX1_rivals_13 12 rfl rfl)
theorem dX1_rivals_316 : decode cX1_rivals 316 = .ok (.iadd, 1) := dk_96 (dk_at dksX1_rivals_13 13 rfl rfl)
theorem dX1_rivals_317 : decode cX1_rivals 317 = .ok (.iaload, 1) := dk_46 (dk_at dksX1_rivals_13 14 rfl rfl)
theorem dX1_rivals_318 : decode cX1_rivals 318 = .ok (.if_icmp .le 6, 3) := dk_164 0 6 (dk_at dksX1_rivals_13 15 rfl rfl)
theorem dX1_rivals_321 : decode cX1_rivals 321 = .ok (.iconst 0, 1) := dk_3 (dk_at dksX1_rivals_13 18 rfl rfl)
theorem dX1_rivals_322 : decode cX1_rivals 322 = .ok (.istore 7, 2) := dk_54 7 (dk_at dksX1_rivals_13 19 rfl rfl)
theorem dX1_rivals_324 : decode cX1_rivals 324 = .ok (.iinc 8 1, 3) := dk_132 8 1 (dk_at dksX1_rivals_13 21 rfl rfl)
theorem dX1_rivals_327 : decode cX1_rivals 327 = .ok (.goto (-96), 3) := dk_167 255 160 (dk_at dksX1_rivals_14 0 rfl rfl)
theorem dX1_rivals_330 : decode cX1_rivals 330 = .ok (.iload 7, 2) := dk_21 7 (dk_at dksX1_rivals_14 3 rfl rfl)
theorem dX1_rivals_332 : decode cX1_rivals 332 = .ok (.ifCond .ne 6, 3) := dk_154 0 6 (dk_at dksX1_rivals_14 5 rfl rfl)
theorem dX1_rivals_335 : decode cX1_rivals 335 = .ok (.goto 26, 3) := dk_167 0 26 (dk_at dksX1_rivals_14 8 rfl rfl)
theorem dX1_rivals_338 : decode cX1_rivals 338 = .ok (.iinc 4 1, 3) := dk_132 4 1 (dk_at dksX1_rivals_14 11 rfl rfl)
theorem dX1_rivals_341 : decode cX1_rivals 341 = .ok (.iload 5, 2) := dk_21 5 (dk_at dksX1_rivals_14 14 rfl rfl)
theorem dX1_rivals_343 : decode cX1_rivals 343 = .ok (.iconst (-1), 1) := dk_2 (dk_at dksX1_rivals_14 16 rfl rfl)
theorem dX1_rivals_344 : decode cX1_rivals 344 = .ok (.if_icmp .ne 17, 3) := dk_160 0 17 (dk_at dksX1_rivals_14 17 rfl rfl)
theorem dX1_rivals_347 : decode cX1_rivals 347 = .ok (.bipush 8, 2) := dk_16 8 (dk_at dksX1_rivals_14 20 rfl rfl)
theorem dX1_rivals_349 : decode cX1_rivals 349 = .ok (.iload 6, 2) := dk_21 6 (dk_at dksX1_rivals_14 22 rfl rfl)
theorem dX1_rivals_351 : decode cX1_rivals 351 = .ok (.iload_n 3, 1) := dk_29 (dk_at dksX1_rivals_15 0 rfl rfl)
theorem dX1_rivals_352 : decode cX1_rivals 352 = .ok (.idiv, 1) := dk_108 (dk_at dksX1_rivals_15 1 rfl rfl)
theorem dX1_rivals_353 : decode cX1_rivals 353 = .ok (.imul, 1) := dk_104 (dk_at dksX1_rivals_15 2 rfl rfl)
theorem dX1_rivals_354 : decode cX1_rivals 354 = .ok (.iload 6, 2) := dk_21 6 (dk_at dksX1_rivals_15 3 rfl rfl)
theorem dX1_rivals_356 : decode cX1_rivals 356 = .ok (.iload_n 3, 1) := dk_29 (dk_at dksX1_rivals_15 5 rfl rfl)
theorem dX1_rivals_357 : decode cX1_rivals 357 = .ok (.irem, 1) := dk_112 (dk_at dksX1_rivals_15 6 rfl rfl)
theorem dX1_rivals_358 : decode cX1_rivals 358 = .ok (.iadd, 1) := dk_96 (dk_at dksX1_rivals_15 7 rfl rfl)
theorem dX1_rivals_359 : decode cX1_rivals 359 = .ok (.istore 5, 2) := dk_54 5 (dk_at dksX1_rivals_15 8 rfl rfl)
theorem dX1_rivals_361 : decode cX1_rivals 361 = .ok (.iinc 6 1, 3) := dk_132 6 1 (dk_at dksX1_rivals_15 10 rfl rfl)
theorem dX1_rivals_364 : decode cX1_rivals 364 = .ok (.goto (-174), 3) := dk_167 255 82 (dk_at dksX1_rivals_15 13 rfl rfl)
theorem dX1_rivals_367 : decode cX1_rivals 367 = .ok (.iload_n 2, 1) := dk_28 (dk_at dksX1_rivals_15 16 rfl rfl)
theorem dX1_rivals_368 : decode cX1_rivals 368 = .ok (.ifCond .ne 8, 3) := dk_154 0 8 (dk_at dksX1_rivals_15 17 rfl rfl)
theorem dX1_rivals_371 : decode cX1_rivals 371 = .ok (.iload 4, 2) := dk_21 4 (dk_at dksX1_rivals_15 20 rfl rfl)
theorem dX1_rivals_373 : decode cX1_rivals 373 = .ok (.goto 5, 3) := dk_167 0 5 (dk_at dksX1_rivals_16 0 rfl rfl)
theorem dX1_rivals_376 : decode cX1_rivals 376 = .ok (.iload 5, 2) := dk_21 5 (dk_at dksX1_rivals_16 3 rfl rfl)
theorem dX1_rivals_378 : decode cX1_rivals 378 = .ok (.ireturn, 1) := dk_172 (dk_at dksX1_rivals_16 5 rfl rfl)
abbrev cX1_isHis : ByteArray := prog_1_method_34_code
def yX1_isHis : MethodName := ⟨RX1, "isHis", "(II)Z"⟩
def dkwX1_isHis_1 : List UInt8 := [180, 0, 181, 28, 160, 0, 7, 4, 167, 0, 4, 3, 172]
abbrev dktX1_isHis_1 : List UInt8 := dkwX1_isHis_1 ++ []
def dkwX1_isHis_0 : List UInt8 := [27, 153, 0, 29, 42, 180, 0, 23, 180, 0, 65, 180, 0, 87, 27, 4, 100, 182, 0, 81, 192, 0, 90]
abbrev dktX1_isHis_0 : List UInt8 := dkwX1_isHis_0 ++ dktX1_isHis_1
theorem dksX1_isHis_0 : cX1_isHis.data.toList.drop 0 = dktX1_isHis_0 := by decide +kernel
theorem dksX1_isHis_1 : cX1_isHis.data.toList.drop 23 = dktX1_isHis_1 := dk_seg dksX1_isHis_0 23 rfl rfl
theorem dX1_isHis_0 : decode cX1_isHis 0 = .ok (.iload_n 1, 1) := dk_27 (dk_at dksX1_isHis_0 0 rfl rfl)
theorem dX1_isHis_1 : decode cX1_isHis 1 = .ok (.ifCond .eq 29, 3) := dk_153 0 29 (dk_at dksX1_isHis_0 1 rfl rfl)
theorem dX1_isHis_4 : decode cX1_isHis 4 = .ok (.aload_n 0, 1) := dk_42 (dk_at dksX1_isHis_0 4 rfl rfl)
theorem dX1_isHis_5 : decode cX1_isHis 5 = .ok (.getfield 23, 3) := dk_180 0 23 (dk_at dksX1_isHis_0 5 rfl rfl)
theorem dX1_isHis_8 : decode cX1_isHis 8 = .ok (.getfield 65, 3) := dk_180 0 65 (dk_at dksX1_isHis_0 8 rfl rfl)
theorem dX1_isHis_11 : decode cX1_isHis 11 = .ok (.getfield 87, 3) := dk_180 0 87 (dk_at dksX1_isHis_0 11 rfl rfl)
theorem dX1_isHis_14 : decode cX1_isHis 14 = .ok (.iload_n 1, 1) := dk_27 (dk_at dksX1_isHis_0 14 rfl rfl)
theorem dX1_isHis_15 : decode cX1_isHis 15 = .ok (.iconst 1, 1) := dk_4 (dk_at dksX1_isHis_0 15 rfl rfl)
theorem dX1_isHis_16 : decode cX1_isHis 16 = .ok (.isub, 1) := dk_100 (dk_at dksX1_isHis_0 16 rfl rfl)
theorem dX1_isHis_17 : decode cX1_isHis 17 = .ok (.invokevirtual 81, 3) := dk_182 0 81 (dk_at dksX1_isHis_0 17 rfl rfl)
theorem dX1_isHis_20 : decode cX1_isHis 20 = .ok (.checkcast 90, 3) := dk_192 0 90 (dk_at dksX1_isHis_0 20 rfl rfl)
theorem dX1_isHis_23 : decode cX1_isHis 23 = .ok (.getfield 181, 3) := dk_180 0 181 (dk_at dksX1_isHis_1 0 rfl rfl)
theorem dX1_isHis_26 : decode cX1_isHis 26 = .ok (.iload_n 2, 1) := dk_28 (dk_at dksX1_isHis_1 3 rfl rfl)
theorem dX1_isHis_27 : decode cX1_isHis 27 = .ok (.if_icmp .ne 7, 3) := dk_160 0 7 (dk_at dksX1_isHis_1 4 rfl rfl)
theorem dX1_isHis_30 : decode cX1_isHis 30 = .ok (.iconst 1, 1) := dk_4 (dk_at dksX1_isHis_1 7 rfl rfl)
theorem dX1_isHis_31 : decode cX1_isHis 31 = .ok (.goto 4, 3) := dk_167 0 4 (dk_at dksX1_isHis_1 8 rfl rfl)
theorem dX1_isHis_34 : decode cX1_isHis 34 = .ok (.iconst 0, 1) := dk_3 (dk_at dksX1_isHis_1 11 rfl rfl)
theorem dX1_isHis_35 : decode cX1_isHis 35 = .ok (.ireturn, 1) := dk_172 (dk_at dksX1_isHis_1 12 rfl rfl)
abbrev cX1_gainOf : ByteArray := prog_1_method_35_code
def yX1_gainOf : MethodName := ⟨RX1, "gainOf", "(II)I"⟩
def dkwX1_gainOf_4 : List UInt8 := [27, 160, 0, 6, 132, 3, 10, 132, 4, 1, 167, 255, 178, 29, 172]
abbrev dktX1_gainOf_4 : List UInt8 := dkwX1_gainOf_4 ++ []
def dkwX1_gainOf_3 : List UInt8 := [182, 0, 81, 192, 0, 95, 16, 24, 182, 0, 236, 182, 0, 81, 192, 0, 85, 58, 5, 25, 5, 182, 0, 167]
abbrev dktX1_gainOf_3 : List UInt8 := dkwX1_gainOf_3 ++ dktX1_gainOf_4
def dkwX1_gainOf_2 : List UInt8 := [180, 0, 65, 180, 0, 69, 42, 180, 0, 27, 42, 180, 0, 23, 180, 0, 65, 180, 0, 92, 21, 4]
abbrev dktX1_gainOf_2 : List UInt8 := dkwX1_gainOf_2 ++ dktX1_gainOf_3
def dkwX1_gainOf_1 : List UInt8 := [21, 4, 42, 180, 0, 23, 180, 0, 65, 180, 0, 92, 182, 0, 75, 162, 0, 66, 42, 180, 0, 23]
abbrev dktX1_gainOf_1 : List UInt8 := dkwX1_gainOf_1 ++ dktX1_gainOf_2
def dkwX1_gainOf_0 : List UInt8 := [28, 154, 0, 7, 3, 167, 0, 14, 42, 180, 0, 23, 180, 0, 65, 180, 1, 21, 116, 62, 3, 54, 4]
abbrev dktX1_gainOf_0 : List UInt8 := dkwX1_gainOf_0 ++ dktX1_gainOf_1
theorem dksX1_gainOf_0 : cX1_gainOf.data.toList.drop 0 = dktX1_gainOf_0 := by decide +kernel
theorem dksX1_gainOf_1 : cX1_gainOf.data.toList.drop 23 = dktX1_gainOf_1 := dk_seg dksX1_gainOf_0 23 rfl rfl
theorem dksX1_gainOf_2 : cX1_gainOf.data.toList.drop 45 = dktX1_gainOf_2 := dk_seg dksX1_gainOf_1 22 rfl rfl
theorem dksX1_gainOf_3 : cX1_gainOf.data.toList.drop 67 = dktX1_gainOf_3 := dk_seg dksX1_gainOf_2 22 rfl rfl
theorem dksX1_gainOf_4 : cX1_gainOf.data.toList.drop 91 = dktX1_gainOf_4 := dk_seg dksX1_gainOf_3 24 rfl rfl
theorem dX1_gainOf_0 : decode cX1_gainOf 0 = .ok (.iload_n 2, 1) := dk_28 (dk_at dksX1_gainOf_0 0 rfl rfl)
theorem dX1_gainOf_1 : decode cX1_gainOf 1 = .ok (.ifCond .ne 7, 3) := dk_154 0 7 (dk_at dksX1_gainOf_0 1 rfl rfl)
theorem dX1_gainOf_4 : decode cX1_gainOf 4 = .ok (.iconst 0, 1) := dk_3 (dk_at dksX1_gainOf_0 4 rfl rfl)
theorem dX1_gainOf_5 : decode cX1_gainOf 5 = .ok (.goto 14, 3) := dk_167 0 14 (dk_at dksX1_gainOf_0 5 rfl rfl)
theorem dX1_gainOf_8 : decode cX1_gainOf 8 = .ok (.aload_n 0, 1) := dk_42 (dk_at dksX1_gainOf_0 8 rfl rfl)
theorem dX1_gainOf_9 : decode cX1_gainOf 9 = .ok (.getfield 23, 3) := dk_180 0 23 (dk_at dksX1_gainOf_0 9 rfl rfl)
theorem dX1_gainOf_12 : decode cX1_gainOf 12 = .ok (.getfield 65, 3) := dk_180 0 65 (dk_at dksX1_gainOf_0 12 rfl rfl)
theorem dX1_gainOf_15 : decode cX1_gainOf 15 = .ok (.getfield 277, 3) := dk_180 1 21 (dk_at dksX1_gainOf_0 15 rfl rfl)
theorem dX1_gainOf_18 : decode cX1_gainOf 18 = .ok (.ineg, 1) := dk_116 (dk_at dksX1_gainOf_0 18 rfl rfl)
theorem dX1_gainOf_19 : decode cX1_gainOf 19 = .ok (.istore_n 3, 1) := dk_62 (dk_at dksX1_gainOf_0 19 rfl rfl)
theorem dX1_gainOf_20 : decode cX1_gainOf 20 = .ok (.iconst 0, 1) := dk_3 (dk_at dksX1_gainOf_0 20 rfl rfl)
theorem dX1_gainOf_21 : decode cX1_gainOf 21 = .ok (.istore 4, 2) := dk_54 4 (dk_at dksX1_gainOf_0 21 rfl rfl)
theorem dX1_gainOf_23 : decode cX1_gainOf 23 = .ok (.iload 4, 2) := dk_21 4 (dk_at dksX1_gainOf_1 0 rfl rfl)
theorem dX1_gainOf_25 : decode cX1_gainOf 25 = .ok (.aload_n 0, 1) := dk_42 (dk_at dksX1_gainOf_1 2 rfl rfl)
theorem dX1_gainOf_26 : decode cX1_gainOf 26 = .ok (.getfield 23, 3) := dk_180 0 23 (dk_at dksX1_gainOf_1 3 rfl rfl)
theorem dX1_gainOf_29 : decode cX1_gainOf 29 = .ok (.getfield 65, 3) := dk_180 0 65 (dk_at dksX1_gainOf_1 6 rfl rfl)
theorem dX1_gainOf_32 : decode cX1_gainOf 32 = .ok (.getfield 92, 3) := dk_180 0 92 (dk_at dksX1_gainOf_1 9 rfl rfl)
theorem dX1_gainOf_35 : decode cX1_gainOf 35 = .ok (.invokevirtual 75, 3) := dk_182 0 75 (dk_at dksX1_gainOf_1 12 rfl rfl)
theorem dX1_gainOf_38 : decode cX1_gainOf 38 = .ok (.if_icmp .ge 66, 3) := dk_162 0 66 (dk_at dksX1_gainOf_1 15 rfl rfl)
theorem dX1_gainOf_41 : decode cX1_gainOf 41 = .ok (.aload_n 0, 1) := dk_42 (dk_at dksX1_gainOf_1 18 rfl rfl)
theorem dX1_gainOf_42 : decode cX1_gainOf 42 = .ok (.getfield 23, 3) := dk_180 0 23 (dk_at dksX1_gainOf_1 19 rfl rfl)
theorem dX1_gainOf_45 : decode cX1_gainOf 45 = .ok (.getfield 65, 3) := dk_180 0 65 (dk_at dksX1_gainOf_2 0 rfl rfl)
theorem dX1_gainOf_48 : decode cX1_gainOf 48 = .ok (.getfield 69, 3) := dk_180 0 69 (dk_at dksX1_gainOf_2 3 rfl rfl)
theorem dX1_gainOf_51 : decode cX1_gainOf 51 = .ok (.aload_n 0, 1) := dk_42 (dk_at dksX1_gainOf_2 6 rfl rfl)
theorem dX1_gainOf_52 : decode cX1_gainOf 52 = .ok (.getfield 27, 3) := dk_180 0 27 (dk_at dksX1_gainOf_2 7 rfl rfl)
theorem dX1_gainOf_55 : decode cX1_gainOf 55 = .ok (.aload_n 0, 1) := dk_42 (dk_at dksX1_gainOf_2 10 rfl rfl)
theorem dX1_gainOf_56 : decode cX1_gainOf 56 = .ok (.getfield 23, 3) := dk_180 0 23 (dk_at dksX1_gainOf_2 11 rfl rfl)
theorem dX1_gainOf_59 : decode cX1_gainOf 59 = .ok (.getfield 65, 3) := dk_180 0 65 (dk_at dksX1_gainOf_2 14 rfl rfl)
theorem dX1_gainOf_62 : decode cX1_gainOf 62 = .ok (.getfield 92, 3) := dk_180 0 92 (dk_at dksX1_gainOf_2 17 rfl rfl)
theorem dX1_gainOf_65 : decode cX1_gainOf 65 = .ok (.iload 4, 2) := dk_21 4 (dk_at dksX1_gainOf_2 20 rfl rfl)
theorem dX1_gainOf_67 : decode cX1_gainOf 67 = .ok (.invokevirtual 81, 3) := dk_182 0 81 (dk_at dksX1_gainOf_3 0 rfl rfl)
theorem dX1_gainOf_70 : decode cX1_gainOf 70 = .ok (.checkcast 95, 3) := dk_192 0 95 (dk_at dksX1_gainOf_3 3 rfl rfl)
theorem dX1_gainOf_73 : decode cX1_gainOf 73 = .ok (.bipush 24, 2) := dk_16 24 (dk_at dksX1_gainOf_3 6 rfl rfl)
theorem dX1_gainOf_75 : decode cX1_gainOf 75 = .ok (.invokevirtual 236, 3) := dk_182 0 236 (dk_at dksX1_gainOf_3 8 rfl rfl)
theorem dX1_gainOf_78 : decode cX1_gainOf 78 = .ok (.invokevirtual 81, 3) := dk_182 0 81 (dk_at dksX1_gainOf_3 11 rfl rfl)
theorem dX1_gainOf_81 : decode cX1_gainOf 81 = .ok (.checkcast 85, 3) := dk_192 0 85 (dk_at dksX1_gainOf_3 14 rfl rfl)
theorem dX1_gainOf_84 : decode cX1_gainOf 84 = .ok (.astore 5, 2) := dk_58 5 (dk_at dksX1_gainOf_3 17 rfl rfl)
theorem dX1_gainOf_86 : decode cX1_gainOf 86 = .ok (.aload 5, 2) := dk_25 5 (dk_at dksX1_gainOf_3 19 rfl rfl)
theorem dX1_gainOf_88 : decode cX1_gainOf 88 = .ok (.invokevirtual 167, 3) := dk_182 0 167 (dk_at dksX1_gainOf_3 21 rfl rfl)
theorem dX1_gainOf_91 : decode cX1_gainOf 91 = .ok (.iload_n 1, 1) := dk_27 (dk_at dksX1_gainOf_4 0 rfl rfl)
theorem dX1_gainOf_92 : decode cX1_gainOf 92 = .ok (.if_icmp .ne 6, 3) := dk_160 0 6 (dk_at dksX1_gainOf_4 1 rfl rfl)
theorem dX1_gainOf_95 : decode cX1_gainOf 95 = .ok (.iinc 3 10, 3) := dk_132 3 10 (dk_at dksX1_gainOf_4 4 rfl rfl)
theorem dX1_gainOf_98 : decode cX1_gainOf 98 = .ok (.iinc 4 1, 3) := dk_132 4 1 (dk_at dksX1_gainOf_4 7 rfl rfl)
theorem dX1_gainOf_101 : decode cX1_gainOf 101 = .ok (.goto (-78), 3) := dk_167 255 178 (dk_at dksX1_gainOf_4 10 rfl rfl)
theorem dX1_gainOf_104 : decode cX1_gainOf 104 = .ok (.iload_n 3, 1) := dk_29 (dk_at dksX1_gainOf_4 13 rfl rfl)
theorem dX1_gainOf_105 : decode cX1_gainOf 105 = .ok (.ireturn, 1) := dk_172 (dk_at dksX1_gainOf_4 14 rfl rfl)
abbrev cX1_shone : ByteArray := prog_1_method_37_code
def yX1_shone : MethodName := ⟨RX1, "shone", "(III)I"⟩
def dkwX1_shone_4 : List UInt8 := [180, 0, 135, 172]
abbrev dktX1_shone_4 : List UInt8 := dkwX1_shone_4 ++ []
def dkwX1_shone_3 : List UInt8 := [180, 1, 34, 21, 4, 29, 79, 42, 180, 0, 10, 89, 180, 0, 135, 4, 96, 181, 0, 135, 42, 180, 0, 10]
abbrev dktX1_shone_3 : List UInt8 := dkwX1_shone_3 ++ dktX1_shone_4
def dkwX1_shone_2 : List UInt8 := [180, 1, 31, 21, 4, 27, 79, 42, 180, 0, 10, 180, 1, 33, 21, 4, 28, 79, 42, 180, 0, 10]
abbrev dktX1_shone_2 : List UInt8 := dkwX1_shone_2 ++ dktX1_shone_3
def dkwX1_shone_1 : List UInt8 := [159, 0, 14, 29, 3, 17, 0, 255, 184, 0, 57, 154, 0, 9, 42, 5, 182, 0, 204, 172, 42, 180, 0, 10]
abbrev dktX1_shone_1 : List UInt8 := dkwX1_shone_1 ++ dktX1_shone_2
def dkwX1_shone_0 : List UInt8 := [42, 27, 182, 0, 158, 87, 28, 184, 0, 201, 42, 180, 0, 10, 180, 0, 135, 54, 4, 21, 4, 16, 12]
abbrev dktX1_shone_0 : List UInt8 := dkwX1_shone_0 ++ dktX1_shone_1
theorem dksX1_shone_0 : cX1_shone.data.toList.drop 0 = dktX1_shone_0 := by decide +kernel
theorem dksX1_shone_1 : cX1_shone.data.toList.drop 23 = dktX1_shone_1 := dk_seg dksX1_shone_0 23 rfl rfl
theorem dksX1_shone_2 : cX1_shone.data.toList.drop 47 = dktX1_shone_2 := dk_seg dksX1_shone_1 24 rfl rfl
theorem dksX1_shone_3 : cX1_shone.data.toList.drop 69 = dktX1_shone_3 := dk_seg dksX1_shone_2 22 rfl rfl
theorem dksX1_shone_4 : cX1_shone.data.toList.drop 93 = dktX1_shone_4 := dk_seg dksX1_shone_3 24 rfl rfl
theorem dX1_shone_0 : decode cX1_shone 0 = .ok (.aload_n 0, 1) := dk_42 (dk_at dksX1_shone_0 0 rfl rfl)
theorem dX1_shone_1 : decode cX1_shone 1 = .ok (.iload_n 1, 1) := dk_27 (dk_at dksX1_shone_0 1 rfl rfl)
theorem dX1_shone_2 : decode cX1_shone 2 = .ok (.invokevirtual 158, 3) := dk_182 0 158 (dk_at dksX1_shone_0 2 rfl rfl)
theorem dX1_shone_5 : decode cX1_shone 5 = .ok (.pop, 1) := dk_87 (dk_at dksX1_shone_0 5 rfl rfl)
theorem dX1_shone_6 : decode cX1_shone 6 = .ok (.iload_n 2, 1) := dk_28 (dk_at dksX1_shone_0 6 rfl rfl)
theorem dX1_shone_7 : decode cX1_shone 7 = .ok (.invokestatic 201, 3) := dk_184 0 201 (dk_at dksX1_shone_0 7 rfl rfl)
theorem dX1_shone_10 : decode cX1_shone 10 = .ok (.aload_n 0, 1) := dk_42 (dk_at dksX1_shone_0 10 rfl rfl)
theorem dX1_shone_11 : decode cX1_shone 11 = .ok (.getfield 10, 3) := dk_180 0 10 (dk_at dksX1_shone_0 11 rfl rfl)
theorem dX1_shone_14 : decode cX1_shone 14 = .ok (.getfield 135, 3) := dk_180 0 135 (dk_at dksX1_shone_0 14 rfl rfl)
theorem dX1_shone_17 : decode cX1_shone 17 = .ok (.istore 4, 2) := dk_54 4 (dk_at dksX1_shone_0 17 rfl rfl)
theorem dX1_shone_19 : decode cX1_shone 19 = .ok (.iload 4, 2) := dk_21 4 (dk_at dksX1_shone_0 19 rfl rfl)
theorem dX1_shone_21 : decode cX1_shone 21 = .ok (.bipush 12, 2) := dk_16 12 (dk_at dksX1_shone_0 21 rfl rfl)
theorem dX1_shone_23 : decode cX1_shone 23 = .ok (.if_icmp .eq 14, 3) := dk_159 0 14 (dk_at dksX1_shone_1 0 rfl rfl)
theorem dX1_shone_26 : decode cX1_shone 26 = .ok (.iload_n 3, 1) := dk_29 (dk_at dksX1_shone_1 3 rfl rfl)
theorem dX1_shone_27 : decode cX1_shone 27 = .ok (.iconst 0, 1) := dk_3 (dk_at dksX1_shone_1 4 rfl rfl)
theorem dX1_shone_28 : decode cX1_shone 28 = .ok (.sipush 255, 3) := dk_17 0 255 (dk_at dksX1_shone_1 5 rfl rfl)
theorem dX1_shone_31 : decode cX1_shone 31 = .ok (.invokestatic 57, 3) := dk_184 0 57 (dk_at dksX1_shone_1 8 rfl rfl)
theorem dX1_shone_34 : decode cX1_shone 34 = .ok (.ifCond .ne 9, 3) := dk_154 0 9 (dk_at dksX1_shone_1 11 rfl rfl)
theorem dX1_shone_37 : decode cX1_shone 37 = .ok (.aload_n 0, 1) := dk_42 (dk_at dksX1_shone_1 14 rfl rfl)
theorem dX1_shone_38 : decode cX1_shone 38 = .ok (.iconst 2, 1) := dk_5 (dk_at dksX1_shone_1 15 rfl rfl)
theorem dX1_shone_39 : decode cX1_shone 39 = .ok (.invokevirtual 204, 3) := dk_182 0 204 (dk_at dksX1_shone_1 16 rfl rfl)
theorem dX1_shone_42 : decode cX1_shone 42 = .ok (.ireturn, 1) := dk_172 (dk_at dksX1_shone_1 19 rfl rfl)
theorem dX1_shone_43 : decode cX1_shone 43 = .ok (.aload_n 0, 1) := dk_42 (dk_at dksX1_shone_1 20 rfl rfl)
theorem dX1_shone_44 : decode cX1_shone 44 = .ok (.getfield 10, 3) := dk_180 0 10 (dk_at dksX1_shone_1 21 rfl rfl)
theorem dX1_shone_47 : decode cX1_shone 47 = .ok (.getfield 287, 3) := dk_180 1 31 (dk_at dksX1_shone_2 0 rfl rfl)
theorem dX1_shone_50 : decode cX1_shone 50 = .ok (.iload 4, 2) := dk_21 4 (dk_at dksX1_shone_2 3 rfl rfl)
theorem dX1_shone_52 : decode cX1_shone 52 = .ok (.iload_n 1, 1) := dk_27 (dk_at dksX1_shone_2 5 rfl rfl)
theorem dX1_shone_53 : decode cX1_shone 53 = .ok (.iastore, 1) := dk_79 (dk_at dksX1_shone_2 6 rfl rfl)
theorem dX1_shone_54 : decode cX1_shone 54 = .ok (.aload_n 0, 1) := dk_42 (dk_at dksX1_shone_2 7 rfl rfl)
theorem dX1_shone_55 : decode cX1_shone 55 = .ok (.getfield 10, 3) := dk_180 0 10 (dk_at dksX1_shone_2 8 rfl rfl)
theorem dX1_shone_58 : decode cX1_shone 58 = .ok (.getfield 289, 3) := dk_180 1 33 (dk_at dksX1_shone_2 11 rfl rfl)
theorem dX1_shone_61 : decode cX1_shone 61 = .ok (.iload 4, 2) := dk_21 4 (dk_at dksX1_shone_2 14 rfl rfl)
theorem dX1_shone_63 : decode cX1_shone 63 = .ok (.iload_n 2, 1) := dk_28 (dk_at dksX1_shone_2 16 rfl rfl)
theorem dX1_shone_64 : decode cX1_shone 64 = .ok (.iastore, 1) := dk_79 (dk_at dksX1_shone_2 17 rfl rfl)
theorem dX1_shone_65 : decode cX1_shone 65 = .ok (.aload_n 0, 1) := dk_42 (dk_at dksX1_shone_2 18 rfl rfl)
theorem dX1_shone_66 : decode cX1_shone 66 = .ok (.getfield 10, 3) := dk_180 0 10 (dk_at dksX1_shone_2 19 rfl rfl)
theorem dX1_shone_69 : decode cX1_shone 69 = .ok (.getfield 290, 3) := dk_180 1 34 (dk_at dksX1_shone_3 0 rfl rfl)
theorem dX1_shone_72 : decode cX1_shone 72 = .ok (.iload 4, 2) := dk_21 4 (dk_at dksX1_shone_3 3 rfl rfl)
theorem dX1_shone_74 : decode cX1_shone 74 = .ok (.iload_n 3, 1) := dk_29 (dk_at dksX1_shone_3 5 rfl rfl)
theorem dX1_shone_75 : decode cX1_shone 75 = .ok (.iastore, 1) := dk_79 (dk_at dksX1_shone_3 6 rfl rfl)
theorem dX1_shone_76 : decode cX1_shone 76 = .ok (.aload_n 0, 1) := dk_42 (dk_at dksX1_shone_3 7 rfl rfl)
theorem dX1_shone_77 : decode cX1_shone 77 = .ok (.getfield 10, 3) := dk_180 0 10 (dk_at dksX1_shone_3 8 rfl rfl)
theorem dX1_shone_80 : decode cX1_shone 80 = .ok (.dup, 1) := dk_89 (dk_at dksX1_shone_3 11 rfl rfl)
theorem dX1_shone_81 : decode cX1_shone 81 = .ok (.getfield 135, 3) := dk_180 0 135 (dk_at dksX1_shone_3 12 rfl rfl)
theorem dX1_shone_84 : decode cX1_shone 84 = .ok (.iconst 1, 1) := dk_4 (dk_at dksX1_shone_3 15 rfl rfl)
theorem dX1_shone_85 : decode cX1_shone 85 = .ok (.iadd, 1) := dk_96 (dk_at dksX1_shone_3 16 rfl rfl)
theorem dX1_shone_86 : decode cX1_shone 86 = .ok (.putfield 135, 3) := dk_181 0 135 (dk_at dksX1_shone_3 17 rfl rfl)
theorem dX1_shone_89 : decode cX1_shone 89 = .ok (.aload_n 0, 1) := dk_42 (dk_at dksX1_shone_3 20 rfl rfl)
theorem dX1_shone_90 : decode cX1_shone 90 = .ok (.getfield 10, 3) := dk_180 0 10 (dk_at dksX1_shone_3 21 rfl rfl)
theorem dX1_shone_93 : decode cX1_shone 93 = .ok (.getfield 135, 3) := dk_180 0 135 (dk_at dksX1_shone_4 0 rfl rfl)
theorem dX1_shone_96 : decode cX1_shone 96 = .ok (.ireturn, 1) := dk_172 (dk_at dksX1_shone_4 3 rfl rfl)
abbrev cX1_where : ByteArray := prog_1_method_41_code
def yX1_where : MethodName := ⟨RX1, "where", "(I)I"⟩
def dkwX1_where_5 : List UInt8 := [27, 2, 160, 0, 7, 29, 167, 0, 5, 21, 4, 172]
abbrev dktX1_where_5 : List UInt8 := dkwX1_where_5 ++ []
def dkwX1_where_4 : List UInt8 := [2, 159, 0, 17, 21, 4, 4, 42, 27, 21, 5, 182, 1, 38, 120, 128, 54, 4, 132, 5, 1, 167, 255, 213]
abbrev dktX1_where_4 : List UInt8 := dkwX1_where_4 ++ dktX1_where_5
def dkwX1_where_3 : List UInt8 := [54, 5, 21, 5, 28, 162, 0, 43, 42, 21, 5, 182, 1, 41, 154, 0, 6, 167, 0, 25, 132, 3, 1, 27]
abbrev dktX1_where_3 : List UInt8 := dkwX1_where_3 ++ dktX1_where_4
def dkwX1_where_2 : List UInt8 := [61, 132, 3, 1, 167, 255, 220, 28, 17, 31, 64, 164, 0, 6, 16, 254, 172, 3, 62, 3, 54, 4, 3]
abbrev dktX1_where_2 : List UInt8 := dkwX1_where_2 ++ dktX1_where_3
def dkwX1_where_1 : List UInt8 := [180, 0, 87, 182, 0, 75, 162, 0, 25, 28, 42, 180, 0, 23, 180, 0, 65, 180, 0, 69, 182, 0, 75, 104]
abbrev dktX1_where_1 : List UInt8 := dkwX1_where_1 ++ dktX1_where_2
def dkwX1_where_0 : List UInt8 := [27, 2, 159, 0, 9, 42, 27, 182, 0, 176, 87, 4, 61, 3, 62, 29, 42, 180, 0, 23, 180, 0, 65]
abbrev dktX1_where_0 : List UInt8 := dkwX1_where_0 ++ dktX1_where_1
theorem dksX1_where_0 : cX1_where.data.toList.drop 0 = dktX1_where_0 := by decide +kernel
theorem dksX1_where_1 : cX1_where.data.toList.drop 23 = dktX1_where_1 := dk_seg dksX1_where_0 23 rfl rfl
theorem dksX1_where_2 : cX1_where.data.toList.drop 47 = dktX1_where_2 := dk_seg dksX1_where_1 24 rfl rfl
theorem dksX1_where_3 : cX1_where.data.toList.drop 70 = dktX1_where_3 := dk_seg dksX1_where_2 23 rfl rfl
theorem dksX1_where_4 : cX1_where.data.toList.drop 94 = dktX1_where_4 := dk_seg dksX1_where_3 24 rfl rfl
theorem dksX1_where_5 : cX1_where.data.toList.drop 118 = dktX1_where_5 := dk_seg dksX1_where_4 24 rfl rfl
theorem dX1_where_0 : decode cX1_where 0 = .ok (.iload_n 1, 1) := dk_27 (dk_at dksX1_where_0 0 rfl rfl)
theorem dX1_where_1 : decode cX1_where 1 = .ok (.iconst (-1), 1) := dk_2 (dk_at dksX1_where_0 1 rfl rfl)
theorem dX1_where_2 : decode cX1_where 2 = .ok (.if_icmp .eq 9, 3) := dk_159 0 9 (dk_at dksX1_where_0 2 rfl rfl)
theorem dX1_where_5 : decode cX1_where 5 = .ok (.aload_n 0, 1) := dk_42 (dk_at dksX1_where_0 5 rfl rfl)
theorem dX1_where_6 : decode cX1_where 6 = .ok (.iload_n 1, 1) := dk_27 (dk_at dksX1_where_0 6 rfl rfl)
theorem dX1_where_7 : decode cX1_where 7 = .ok (.invokevirtual 176, 3) := dk_182 0 176 (dk_at dksX1_where_0 7 rfl rfl)
theorem dX1_where_10 : decode cX1_where 10 = .ok (.pop, 1) := dk_87 (dk_at dksX1_where_0 10 rfl rfl)
theorem dX1_where_11 : decode cX1_where 11 = .ok (.iconst 1, 1) := dk_4 (dk_at dksX1_where_0 11 rfl rfl)
theorem dX1_where_12 : decode cX1_where 12 = .ok (.istore_n 2, 1) := dk_61 (dk_at dksX1_where_0 12 rfl rfl)
theorem dX1_where_13 : decode cX1_where 13 = .ok (.iconst 0, 1) := dk_3 (dk_at dksX1_where_0 13 rfl rfl)
theorem dX1_where_14 : decode cX1_where 14 = .ok (.istore_n 3, 1) := dk_62 (dk_at dksX1_where_0 14 rfl rfl)
theorem dX1_where_15 : decode cX1_where 15 = .ok (.iload_n 3, 1) := dk_29 (dk_at dksX1_where_0 15 rfl rfl)
theorem dX1_where_16 : decode cX1_where 16 = .ok (.aload_n 0, 1) := dk_42 (dk_at dksX1_where_0 16 rfl rfl)
theorem dX1_where_17 : decode cX1_where 17 = .ok (.getfield 23, 3) := dk_180 0 23 (dk_at dksX1_where_0 17 rfl rfl)
theorem dX1_where_20 : decode cX1_where 20 = .ok (.getfield 65, 3) := dk_180 0 65 (dk_at dksX1_where_0 20 rfl rfl)
theorem dX1_where_23 : decode cX1_where 23 = .ok (.getfield 87, 3) := dk_180 0 87 (dk_at dksX1_where_1 0 rfl rfl)
theorem dX1_where_26 : decode cX1_where 26 = .ok (.invokevirtual 75, 3) := dk_182 0 75 (dk_at dksX1_where_1 3 rfl rfl)
theorem dX1_where_29 : decode cX1_where 29 = .ok (.if_icmp .ge 25, 3) := dk_162 0 25 (dk_at dksX1_where_1 6 rfl rfl)
theorem dX1_where_32 : decode cX1_where 32 = .ok (.iload_n 2, 1) := dk_28 (dk_at dksX1_where_1 9 rfl rfl)
theorem dX1_where_33 : decode cX1_where 33 = .ok (.aload_n 0, 1) := dk_42 (dk_at dksX1_where_1 10 rfl rfl)
theorem dX1_where_34 : decode cX1_where 34 = .ok (.getfield 23, 3) := dk_180 0 23 (dk_at dksX1_where_1 11 rfl rfl)
theorem dX1_where_37 : decode cX1_where 37 = .ok (.getfield 65, 3) := dk_180 0 65 (dk_at dksX1_where_1 14 rfl rfl)
theorem dX1_where_40 : decode cX1_where 40 = .ok (.getfield 69, 3) := dk_180 0 69 (dk_at dksX1_where_1 17 rfl rfl)
theorem dX1_where_43 : decode cX1_where 43 = .ok (.invokevirtual 75, 3) := dk_182 0 75 (dk_at dksX1_where_1 20 rfl rfl)
theorem dX1_where_46 : decode cX1_where 46 = .ok (.imul, 1) := dk_104 (dk_at dksX1_where_1 23 rfl rfl)
theorem dX1_where_47 : decode cX1_where 47 = .ok (.istore_n 2, 1) := dk_61 (dk_at dksX1_where_2 0 rfl rfl)
theorem dX1_where_48 : decode cX1_where 48 = .ok (.iinc 3 1, 3) := dk_132 3 1 (dk_at dksX1_where_2 1 rfl rfl)
theorem dX1_where_51 : decode cX1_where 51 = .ok (.goto (-36), 3) := dk_167 255 220 (dk_at dksX1_where_2 4 rfl rfl)
theorem dX1_where_54 : decode cX1_where 54 = .ok (.iload_n 2, 1) := dk_28 (dk_at dksX1_where_2 7 rfl rfl)
theorem dX1_where_55 : decode cX1_where 55 = .ok (.sipush 8000, 3) := dk_17 31 64 (dk_at dksX1_where_2 8 rfl rfl)
theorem dX1_where_58 : decode cX1_where 58 = .ok (.if_icmp .le 6, 3) := dk_164 0 6 (dk_at dksX1_where_2 11 rfl rfl)
theorem dX1_where_61 : decode cX1_where 61 = .ok (.bipush (-2), 2) := dk_16 254 (dk_at dksX1_where_2 14 rfl rfl)
theorem dX1_where_63 : decode cX1_where 63 = .ok (.ireturn, 1) := dk_172 (dk_at dksX1_where_2 16 rfl rfl)
theorem dX1_where_64 : decode cX1_where 64 = .ok (.iconst 0, 1) := dk_3 (dk_at dksX1_where_2 17 rfl rfl)
theorem dX1_where_65 : decode cX1_where 65 = .ok (.istore_n 3, 1) := dk_62 (dk_at dksX1_where_2 18 rfl rfl)
theorem dX1_where_66 : decode cX1_where 66 = .ok (.iconst 0, 1) := dk_3 (dk_at dksX1_where_2 19 rfl rfl)
theorem dX1_where_67 : decode cX1_where 67 = .ok (.istore 4, 2) := dk_54 4 (dk_at dksX1_where_2 20 rfl rfl)
theorem dX1_where_69 : decode cX1_where 69 = .ok (.iconst 0, 1) := dk_3 (dk_at dksX1_where_2 22 rfl rfl)
theorem dX1_where_70 : decode cX1_where 70 = .ok (.istore 5, 2) := dk_54 5 (dk_at dksX1_where_3 0 rfl rfl)
theorem dX1_where_72 : decode cX1_where 72 = .ok (.iload 5, 2) := dk_21 5 (dk_at dksX1_where_3 2 rfl rfl)
theorem dX1_where_74 : decode cX1_where 74 = .ok (.iload_n 2, 1) := dk_28 (dk_at dksX1_where_3 4 rfl rfl)
theorem dX1_where_75 : decode cX1_where 75 = .ok (.if_icmp .ge 43, 3) := dk_162 0 43 (dk_at dksX1_where_3 5 rfl rfl)
theorem dX1_where_78 : decode cX1_where 78 = .ok (.aload_n 0, 1) := dk_42 (dk_at dksX1_where_3 8 rfl rfl)
theorem dX1_where_79 : decode cX1_where 79 = .ok (.iload 5, 2) := dk_21 5 (dk_at dksX1_where_3 9 rfl rfl)
theorem dX1_where_81 : decode cX1_where 81 = .ok (.invokevirtual 297, 3) := dk_182 1 41 (dk_at dksX1_where_3 11 rfl rfl)
theorem dX1_where_84 : decode cX1_where 84 = .ok (.ifCond .ne 6, 3) := dk_154 0 6 (dk_at dksX1_where_3 14 rfl rfl)
theorem dX1_where_87 : decode cX1_where 87 = .ok (.goto 25, 3) := dk_167 0 25 (dk_at dksX1_where_3 17 rfl rfl)
theorem dX1_where_90 : decode cX1_where 90 = .ok (.iinc 3 1, 3) := dk_132 3 1 (dk_at dksX1_where_3 20 rfl rfl)
theorem dX1_where_93 : decode cX1_where 93 = .ok (.iload_n 1, 1) := dk_27 (dk_at dksX1_where_3 23 rfl rfl)
theorem dX1_where_94 : decode cX1_where 94 = .ok (.iconst (-1), 1) := dk_2 (dk_at dksX1_where_4 0 rfl rfl)
theorem dX1_where_95 : decode cX1_where 95 = .ok (.if_icmp .eq 17, 3) := dk_159 0 17 (dk_at dksX1_where_4 1 rfl rfl)
theorem dX1_where_98 : decode cX1_where 98 = .ok (.iload 4, 2) := dk_21 4 (dk_at dksX1_where_4 4 rfl rfl)
theorem dX1_where_100 : decode cX1_where 100 = .ok (.iconst 1, 1) := dk_4 (dk_at dksX1_where_4 6 rfl rfl)
theorem dX1_where_101 : decode cX1_where 101 = .ok (.aload_n 0, 1) := dk_42 (dk_at dksX1_where_4 7 rfl rfl)
theorem dX1_where_102 : decode cX1_where 102 = .ok (.iload_n 1, 1) := dk_27 (dk_at dksX1_where_4 8 rfl rfl)
theorem dX1_where_103 : decode cX1_where 103 = .ok (.iload 5, 2) := dk_21 5 (dk_at dksX1_where_4 9 rfl rfl)
theorem dX1_where_105 : decode cX1_where 105 = .ok (.invokevirtual 294, 3) := dk_182 1 38 (dk_at dksX1_where_4 11 rfl rfl)
theorem dX1_where_108 : decode cX1_where 108 = .ok (.ishl, 1) := dk_120 (dk_at dksX1_where_4 14 rfl rfl)
theorem dX1_where_109 : decode cX1_where 109 = .ok (.ior, 1) := dk_128 (dk_at dksX1_where_4 15 rfl rfl)
theorem dX1_where_110 : decode cX1_where 110 = .ok (.istore 4, 2) := dk_54 4 (dk_at dksX1_where_4 16 rfl rfl)
theorem dX1_where_112 : decode cX1_where 112 = .ok (.iinc 5 1, 3) := dk_132 5 1 (dk_at dksX1_where_4 18 rfl rfl)
theorem dX1_where_115 : decode cX1_where 115 = .ok (.goto (-43), 3) := dk_167 255 213 (dk_at dksX1_where_4 21 rfl rfl)
theorem dX1_where_118 : decode cX1_where 118 = .ok (.iload_n 1, 1) := dk_27 (dk_at dksX1_where_5 0 rfl rfl)
theorem dX1_where_119 : decode cX1_where 119 = .ok (.iconst (-1), 1) := dk_2 (dk_at dksX1_where_5 1 rfl rfl)
theorem dX1_where_120 : decode cX1_where 120 = .ok (.if_icmp .ne 7, 3) := dk_160 0 7 (dk_at dksX1_where_5 2 rfl rfl)
theorem dX1_where_123 : decode cX1_where 123 = .ok (.iload_n 3, 1) := dk_29 (dk_at dksX1_where_5 5 rfl rfl)
theorem dX1_where_124 : decode cX1_where 124 = .ok (.goto 5, 3) := dk_167 0 5 (dk_at dksX1_where_5 6 rfl rfl)
theorem dX1_where_127 : decode cX1_where 127 = .ok (.iload 4, 2) := dk_21 4 (dk_at dksX1_where_5 9 rfl rfl)
theorem dX1_where_129 : decode cX1_where 129 = .ok (.ireturn, 1) := dk_172 (dk_at dksX1_where_5 11 rfl rfl)
abbrev cX1_isCase : ByteArray := prog_1_method_40_code
def yX1_isCase : MethodName := ⟨RX1, "isCase", "(I)Z"⟩
def dkwX1_isCase_6 : List UInt8 := [42, 180, 0, 10, 180, 1, 34, 28, 46, 159, 0, 5, 3, 172, 132, 2, 1, 167, 255, 99, 4, 172]
abbrev dktX1_isCase_6 : List UInt8 := dkwX1_isCase_6 ++ []
def dkwX1_isCase_5 : List UInt8 := [96, 46, 96, 54, 5, 132, 6, 1, 167, 255, 190, 21, 5, 16, 100, 45, 180, 0, 170, 100, 104, 16, 100, 108]
abbrev dktX1_isCase_5 : List UInt8 := dkwX1_isCase_5 ++ dktX1_isCase_6
def dkwX1_isCase_4 : List UInt8 := [180, 1, 31, 28, 46, 160, 0, 24, 21, 5, 42, 180, 0, 23, 180, 0, 213, 16, 24, 21, 6, 104, 21, 4]
abbrev dktX1_isCase_4 : List UInt8 := dkwX1_isCase_4 ++ dktX1_isCase_5
def dkwX1_isCase_3 : List UInt8 := [182, 0, 75, 162, 0, 54, 21, 4, 155, 0, 49, 42, 21, 6, 27, 182, 1, 38, 42, 180, 0, 10]
abbrev dktX1_isCase_3 : List UInt8 := dkwX1_isCase_3 ++ dktX1_isCase_4
def dkwX1_isCase_2 : List UInt8 := [46, 182, 1, 36, 54, 4, 3, 54, 5, 3, 54, 6, 21, 6, 42, 180, 0, 23, 180, 0, 65, 180, 0, 87]
abbrev dktX1_isCase_2 : List UInt8 := dkwX1_isCase_2 ++ dktX1_isCase_3
def dkwX1_isCase_1 : List UInt8 := [180, 0, 10, 180, 1, 31, 28, 46, 182, 0, 81, 192, 0, 85, 78, 45, 42, 180, 0, 10, 180, 1, 33, 28]
abbrev dktX1_isCase_1 : List UInt8 := dkwX1_isCase_1 ++ dktX1_isCase_2
def dkwX1_isCase_0 : List UInt8 := [3, 61, 28, 42, 180, 0, 10, 180, 0, 135, 162, 0, 152, 42, 180, 0, 23, 180, 0, 65, 180, 0, 69, 42]
abbrev dktX1_isCase_0 : List UInt8 := dkwX1_isCase_0 ++ dktX1_isCase_1
theorem dksX1_isCase_0 : cX1_isCase.data.toList.drop 0 = dktX1_isCase_0 := by decide +kernel
theorem dksX1_isCase_1 : cX1_isCase.data.toList.drop 24 = dktX1_isCase_1 := dk_seg dksX1_isCase_0 24 rfl rfl
theorem dksX1_isCase_2 : cX1_isCase.data.toList.drop 48 = dktX1_isCase_2 := dk_seg dksX1_isCase_1 24 rfl rfl
theorem dksX1_isCase_3 : cX1_isCase.data.toList.drop 72 = dktX1_isCase_3 := dk_seg dksX1_isCase_2 24 rfl rfl
theorem dksX1_isCase_4 : cX1_isCase.data.toList.drop 94 = dktX1_isCase_4 := dk_seg dksX1_isCase_3 22 rfl rfl
theorem dksX1_isCase_5 : cX1_isCase.data.toList.drop 118 = dktX1_isCase_5 := dk_seg dksX1_isCase_4 24 rfl rfl
theorem dksX1_isCase_6 : cX1_isCase.data.toList.drop 142 = dktX1_isCase_6 := dk_seg dksX1_isCase_5 24 rfl rfl
theorem dX1_isCase_0 : decode cX1_isCase 0 = .ok (.iconst 0, 1) := dk_3 (dk_at dksX1_isCase_0 0 rfl rfl)
theorem dX1_isCase_1 : decode cX1_isCase 1 = .ok (.istore_n 2, 1) := dk_61 (dk_at dksX1_isCase_0 1 rfl rfl)
theorem dX1_isCase_2 : decode cX1_isCase 2 = .ok (.iload_n 2, 1) := dk_28 (dk_at dksX1_isCase_0 2 rfl rfl)
theorem dX1_isCase_3 : decode cX1_isCase 3 = .ok (.aload_n 0, 1) := dk_42 (dk_at dksX1_isCase_0 3 rfl rfl)
theorem dX1_isCase_4 : decode cX1_isCase 4 = .ok (.getfield 10, 3) := dk_180 0 10 (dk_at dksX1_isCase_0 4 rfl rfl)
theorem dX1_isCase_7 : decode cX1_isCase 7 = .ok (.getfield 135, 3) := dk_180 0 135 (dk_at dksX1_isCase_0 7 rfl rfl)
theorem dX1_isCase_10 : decode cX1_isCase 10 = .ok (.if_icmp .ge 152, 3) := dk_162 0 152 (dk_at dksX1_isCase_0 10 rfl rfl)
theorem dX1_isCase_13 : decode cX1_isCase 13 = .ok (.aload_n 0, 1) := dk_42 (dk_at dksX1_isCase_0 13 rfl rfl)
theorem dX1_isCase_14 : decode cX1_isCase 14 = .ok (.getfield 23, 3) := dk_180 0 23 (dk_at dksX1_isCase_0 14 rfl rfl)
theorem dX1_isCase_17 : decode cX1_isCase 17 = .ok (.getfield 65, 3) := dk_180 0 65 (dk_at dksX1_isCase_0 17 rfl rfl)
theorem dX1_isCase_20 : decode cX1_isCase 20 = .ok (.getfield 69, 3) := dk_180 0 69 (dk_at dksX1_isCase_0 20 rfl rfl)
theorem dX1_isCase_23 : decode cX1_isCase 23 = .ok (.aload_n 0, 1) := dk_42 (dk_at dksX1_isCase_0 23 rfl rfl)
theorem dX1_isCase_24 : decode cX1_isCase 24 = .ok (.getfield 10, 3) := dk_180 0 10 (dk_at dksX1_isCase_1 0 rfl rfl)
theorem dX1_isCase_27 : decode cX1_isCase 27 = .ok (.getfield 287, 3) := dk_180 1 31 (dk_at dksX1_isCase_1 3 rfl rfl)
theorem dX1_isCase_30 : decode cX1_isCase 30 = .ok (.iload_n 2, 1) := dk_28 (dk_at dksX1_isCase_1 6 rfl rfl)
theorem dX1_isCase_31 : decode cX1_isCase 31 = .ok (.iaload, 1) := dk_46 (dk_at dksX1_isCase_1 7 rfl rfl)
theorem dX1_isCase_32 : decode cX1_isCase 32 = .ok (.invokevirtual 81, 3) := dk_182 0 81 (dk_at dksX1_isCase_1 8 rfl rfl)
theorem dX1_isCase_35 : decode cX1_isCase 35 = .ok (.checkcast 85, 3) := dk_192 0 85 (dk_at dksX1_isCase_1 11 rfl rfl)
theorem dX1_isCase_38 : decode cX1_isCase 38 = .ok (.astore_n 3, 1) := dk_78 (dk_at dksX1_isCase_1 14 rfl rfl)
theorem dX1_isCase_39 : decode cX1_isCase 39 = .ok (.aload_n 3, 1) := dk_45 (dk_at dksX1_isCase_1 15 rfl rfl)
theorem dX1_isCase_40 : decode cX1_isCase 40 = .ok (.aload_n 0, 1) := dk_42 (dk_at dksX1_isCase_1 16 rfl rfl)
theorem dX1_isCase_41 : decode cX1_isCase 41 = .ok (.getfield 10, 3) := dk_180 0 10 (dk_at dksX1_isCase_1 17 rfl rfl)
theorem dX1_isCase_44 : decode cX1_isCase 44 = .ok (.getfield 289, 3) := dk_180 1 33 (dk_at dksX1_isCase_1 20 rfl rfl)
theorem dX1_isCase_47 : decode cX1_isCase 47 = .ok (.iload_n 2, 1) := dk_28 (dk_at dksX1_isCase_1 23 rfl rfl)
theorem dX1_isCase_48 : decode cX1_isCase 48 = .ok (.iaload, 1) := dk_46 (dk_at dksX1_isCase_2 0 rfl rfl)
theorem dX1_isCase_49 : decode cX1_isCase 49 = .ok (.invokevirtual 292, 3) := dk_182 1 36 (dk_at dksX1_isCase_2 1 rfl rfl)
theorem dX1_isCase_52 : decode cX1_isCase 52 = .ok (.istore 4, 2) := dk_54 4 (dk_at dksX1_isCase_2 4 rfl rfl)
theorem dX1_isCase_54 : decode cX1_isCase 54 = .ok (.iconst 0, 1) := dk_3 (dk_at dksX1_isCase_2 6 rfl rfl)
theorem dX1_isCase_55 : decode cX1_isCase 55 = .ok (.istore 5, 2) := dk_54 5 (dk_at dksX1_isCase_2 7 rfl rfl)
theorem dX1_isCase_57 : decode cX1_isCase 57 = .ok (.iconst 0, 1) := dk_3 (dk_at dksX1_isCase_2 9 rfl rfl)
theorem dX1_isCase_58 : decode cX1_isCase 58 = .ok (.istore 6, 2) := dk_54 6 (dk_at dksX1_isCase_2 10 rfl rfl)
theorem dX1_isCase_60 : decode cX1_isCase 60 = .ok (.iload 6, 2) := dk_21 6 (dk_at dksX1_isCase_2 12 rfl rfl)
theorem dX1_isCase_62 : decode cX1_isCase 62 = .ok (.aload_n 0, 1) := dk_42 (dk_at dksX1_isCase_2 14 rfl rfl)
theorem dX1_isCase_63 : decode cX1_isCase 63 = .ok (.getfield 23, 3) := dk_180 0 23 (dk_at dksX1_isCase_2 15 rfl rfl)
theorem dX1_isCase_66 : decode cX1_isCase 66 = .ok (.getfield 65, 3) := dk_180 0 65 (dk_at dksX1_isCase_2 18 rfl rfl)
theorem dX1_isCase_69 : decode cX1_isCase 69 = .ok (.getfield 87, 3) := dk_180 0 87 (dk_at dksX1_isCase_2 21 rfl rfl)
theorem dX1_isCase_72 : decode cX1_isCase 72 = .ok (.invokevirtual 75, 3) := dk_182 0 75 (dk_at dksX1_isCase_3 0 rfl rfl)
theorem dX1_isCase_75 : decode cX1_isCase 75 = .ok (.if_icmp .ge 54, 3) := dk_162 0 54 (dk_at dksX1_isCase_3 3 rfl rfl)
theorem dX1_isCase_78 : decode cX1_isCase 78 = .ok (.iload 4, 2) := dk_21 4 (dk_at dksX1_isCase_3 6 rfl rfl)
theorem dX1_isCase_80 : decode cX1_isCase 80 = .ok (.ifCond .lt 49, 3) := dk_155 0 49 (dk_at dksX1_isCase_3 8 rfl rfl)
theorem dX1_isCase_83 : decode cX1_isCase 83 = .ok (.aload_n 0, 1) := dk_42 (dk_at dksX1_isCase_3 11 rfl rfl)
theorem dX1_isCase_84 : decode cX1_isCase 84 = .ok (.iload 6, 2) := dk_21 6 (dk_at dksX1_isCase_3 12 rfl rfl)
theorem dX1_isCase_86 : decode cX1_isCase 86 = .ok (.iload_n 1, 1) := dk_27 (dk_at dksX1_isCase_3 14 rfl rfl)
theorem dX1_isCase_87 : decode cX1_isCase 87 = .ok (.invokevirtual 294, 3) := dk_182 1 38 (dk_at dksX1_isCase_3 15 rfl rfl)
theorem dX1_isCase_90 : decode cX1_isCase 90 = .ok (.aload_n 0, 1) := dk_42 (dk_at dksX1_isCase_3 18 rfl rfl)
theorem dX1_isCase_91 : decode cX1_isCase 91 = .ok (.getfield 10, 3) := dk_180 0 10 (dk_at dksX1_isCase_3 19 rfl rfl)
theorem dX1_isCase_94 : decode cX1_isCase 94 = .ok (.getfield 287, 3) := dk_180 1 31 (dk_at dksX1_isCase_4 0 rfl rfl)
theorem dX1_isCase_97 : decode cX1_isCase 97 = .ok (.iload_n 2, 1) := dk_28 (dk_at dksX1_isCase_4 3 rfl rfl)
theorem dX1_isCase_98 : decode cX1_isCase 98 = .ok (.iaload, 1) := dk_46 (dk_at dksX1_isCase_4 4 rfl rfl)
theorem dX1_isCase_99 : decode cX1_isCase 99 = .ok (.if_icmp .ne 24, 3) := dk_160 0 24 (dk_at dksX1_isCase_4 5 rfl rfl)
theorem dX1_isCase_102 : decode cX1_isCase 102 = .ok (.iload 5, 2) := dk_21 5 (dk_at dksX1_isCase_4 8 rfl rfl)
theorem dX1_isCase_104 : decode cX1_isCase 104 = .ok (.aload_n 0, 1) := dk_42 (dk_at dksX1_isCase_4 10 rfl rfl)
theorem dX1_isCase_105 : decode cX1_isCase 105 = .ok (.getfield 23, 3) := dk_180 0 23 (dk_at dksX1_isCase_4 11 rfl rfl)
theorem dX1_isCase_108 : decode cX1_isCase 108 = .ok (.getfield 213, 3) := dk_180 0 213 (dk_at dksX1_isCase_4 14 rfl rfl)
theorem dX1_isCase_111 : decode cX1_isCase 111 = .ok (.bipush 24, 2) := dk_16 24 (dk_at dksX1_isCase_4 17 rfl rfl)
theorem dX1_isCase_113 : decode cX1_isCase 113 = .ok (.iload 6, 2) := dk_21 6 (dk_at dksX1_isCase_4 19 rfl rfl)
theorem dX1_isCase_115 : decode cX1_isCase 115 = .ok (.imul, 1) := dk_104 (dk_at dksX1_isCase_4 21 rfl rfl)
theorem dX1_isCase_116 : decode cX1_isCase 116 = .ok (.iload 4, 2) := dk_21 4 (dk_at dksX1_isCase_4 22 rfl rfl)
theorem dX1_isCase_118 : decode cX1_isCase 118 = .ok (.iadd, 1) := dk_96 (dk_at dksX1_isCase_5 0 rfl rfl)
theorem dX1_isCase_119 : decode cX1_isCase 119 = .ok (.iaload, 1) := dk_46 (dk_at dksX1_isCase_5 1 rfl rfl)
theorem dX1_isCase_120 : decode cX1_isCase 120 = .ok (.iadd, 1) := dk_96 (dk_at dksX1_isCase_5 2 rfl rfl)
theorem dX1_isCase_121 : decode cX1_isCase 121 = .ok (.istore 5, 2) := dk_54 5 (dk_at dksX1_isCase_5 3 rfl rfl)
theorem dX1_isCase_123 : decode cX1_isCase 123 = .ok (.iinc 6 1, 3) := dk_132 6 1 (dk_at dksX1_isCase_5 5 rfl rfl)
theorem dX1_isCase_126 : decode cX1_isCase 126 = .ok (.goto (-66), 3) := dk_167 255 190 (dk_at dksX1_isCase_5 8 rfl rfl)
theorem dX1_isCase_129 : decode cX1_isCase 129 = .ok (.iload 5, 2) := dk_21 5 (dk_at dksX1_isCase_5 11 rfl rfl)
theorem dX1_isCase_131 : decode cX1_isCase 131 = .ok (.bipush 100, 2) := dk_16 100 (dk_at dksX1_isCase_5 13 rfl rfl)
theorem dX1_isCase_133 : decode cX1_isCase 133 = .ok (.aload_n 3, 1) := dk_45 (dk_at dksX1_isCase_5 15 rfl rfl)
theorem dX1_isCase_134 : decode cX1_isCase 134 = .ok (.getfield 170, 3) := dk_180 0 170 (dk_at dksX1_isCase_5 16 rfl rfl)
theorem dX1_isCase_137 : decode cX1_isCase 137 = .ok (.isub, 1) := dk_100 (dk_at dksX1_isCase_5 19 rfl rfl)
theorem dX1_isCase_138 : decode cX1_isCase 138 = .ok (.imul, 1) := dk_104 (dk_at dksX1_isCase_5 20 rfl rfl)
theorem dX1_isCase_139 : decode cX1_isCase 139 = .ok (.bipush 100, 2) := dk_16 100 (dk_at dksX1_isCase_5 21 rfl rfl)
theorem dX1_isCase_141 : decode cX1_isCase 141 = .ok (.idiv, 1) := dk_108 (dk_at dksX1_isCase_5 23 rfl rfl)
theorem dX1_isCase_142 : decode cX1_isCase 142 = .ok (.aload_n 0, 1) := dk_42 (dk_at dksX1_isCase_6 0 rfl rfl)
theorem dX1_isCase_143 : decode cX1_isCase 143 = .ok (.getfield 10, 3) := dk_180 0 10 (dk_at dksX1_isCase_6 1 rfl rfl)
theorem dX1_isCase_146 : decode cX1_isCase 146 = .ok (.getfield 290, 3) := dk_180 1 34 (dk_at dksX1_isCase_6 4 rfl rfl)
theorem dX1_isCase_149 : decode cX1_isCase 149 = .ok (.iload_n 2, 1) := dk_28 (dk_at dksX1_isCase_6 7 rfl rfl)
theorem dX1_isCase_150 : decode cX1_isCase 150 = .ok (.iaload, 1) := dk_46 (dk_at dksX1_isCase_6 8 rfl rfl)
theorem dX1_isCase_151 : decode cX1_isCase 151 = .ok (.if_icmp .eq 5, 3) := dk_159 0 5 (dk_at dksX1_isCase_6 9 rfl rfl)
theorem dX1_isCase_154 : decode cX1_isCase 154 = .ok (.iconst 0, 1) := dk_3 (dk_at dksX1_isCase_6 12 rfl rfl)
theorem dX1_isCase_155 : decode cX1_isCase 155 = .ok (.ireturn, 1) := dk_172 (dk_at dksX1_isCase_6 13 rfl rfl)
theorem dX1_isCase_156 : decode cX1_isCase 156 = .ok (.iinc 2 1, 3) := dk_132 2 1 (dk_at dksX1_isCase_6 14 rfl rfl)
theorem dX1_isCase_159 : decode cX1_isCase 159 = .ok (.goto (-157), 3) := dk_167 255 99 (dk_at dksX1_isCase_6 17 rfl rfl)
theorem dX1_isCase_162 : decode cX1_isCase 162 = .ok (.iconst 1, 1) := dk_4 (dk_at dksX1_isCase_6 20 rfl rfl)
theorem dX1_isCase_163 : decode cX1_isCase 163 = .ok (.ireturn, 1) := dk_172 (dk_at dksX1_isCase_6 21 rfl rfl)
abbrev cX1_placed : ByteArray := prog_1_method_39_code
def yX1_placed : MethodName := ⟨RX1, "placed", "(II)I"⟩
def dkwX1_placed_2 : List UInt8 := [167, 255, 231, 29, 42, 180, 0, 23, 180, 0, 65, 180, 0, 69, 182, 0, 75, 112, 172]
abbrev dktX1_placed_2 : List UInt8 := dkwX1_placed_2 ++ []
def dkwX1_placed_1 : List UInt8 := [164, 0, 25, 29, 42, 180, 0, 23, 180, 0, 65, 180, 0, 69, 182, 0, 75, 108, 62, 132, 4, 255]
abbrev dktX1_placed_1 : List UInt8 := dkwX1_placed_1 ++ dktX1_placed_2
def dkwX1_placed_0 : List UInt8 := [28, 62, 42, 180, 0, 23, 180, 0, 65, 180, 0, 87, 182, 0, 75, 4, 100, 54, 4, 21, 4, 27]
abbrev dktX1_placed_0 : List UInt8 := dkwX1_placed_0 ++ dktX1_placed_1
theorem dksX1_placed_0 : cX1_placed.data.toList.drop 0 = dktX1_placed_0 := by decide +kernel
theorem dksX1_placed_1 : cX1_placed.data.toList.drop 22 = dktX1_placed_1 := dk_seg dksX1_placed_0 22 rfl rfl
theorem dksX1_placed_2 : cX1_placed.data.toList.drop 44 = dktX1_placed_2 := dk_seg dksX1_placed_1 22 rfl rfl
theorem dX1_placed_0 : decode cX1_placed 0 = .ok (.iload_n 2, 1) := dk_28 (dk_at dksX1_placed_0 0 rfl rfl)
theorem dX1_placed_1 : decode cX1_placed 1 = .ok (.istore_n 3, 1) := dk_62 (dk_at dksX1_placed_0 1 rfl rfl)
theorem dX1_placed_2 : decode cX1_placed 2 = .ok (.aload_n 0, 1) := dk_42 (dk_at dksX1_placed_0 2 rfl rfl)
theorem dX1_placed_3 : decode cX1_placed 3 = .ok (.getfield 23, 3) := dk_180 0 23 (dk_at dksX1_placed_0 3 rfl rfl)
theorem dX1_placed_6 : decode cX1_placed 6 = .ok (.getfield 65, 3) := dk_180 0 65 (dk_at dksX1_placed_0 6 rfl rfl)
theorem dX1_placed_9 : decode cX1_placed 9 = .ok (.getfield 87, 3) := dk_180 0 87 (dk_at dksX1_placed_0 9 rfl rfl)
theorem dX1_placed_12 : decode cX1_placed 12 = .ok (.invokevirtual 75, 3) := dk_182 0 75 (dk_at dksX1_placed_0 12 rfl rfl)
theorem dX1_placed_15 : decode cX1_placed 15 = .ok (.iconst 1, 1) := dk_4 (dk_at dksX1_placed_0 15 rfl rfl)
theorem dX1_placed_16 : decode cX1_placed 16 = .ok (.isub, 1) := dk_100 (dk_at dksX1_placed_0 16 rfl rfl)
theorem dX1_placed_17 : decode cX1_placed 17 = .ok (.istore 4, 2) := dk_54 4 (dk_at dksX1_placed_0 17 rfl rfl)
theorem dX1_placed_19 : decode cX1_placed 19 = .ok (.iload 4, 2) := dk_21 4 (dk_at dksX1_placed_0 19 rfl rfl)
theorem dX1_placed_21 : decode cX1_placed 21 = .ok (.iload_n 1, 1) := dk_27 (dk_at dksX1_placed_0 21 rfl rfl)
theorem dX1_placed_22 : decode cX1_placed 22 = .ok (.if_icmp .le 25, 3) := dk_164 0 25 (dk_at dksX1_placed_1 0 rfl rfl)
theorem dX1_placed_25 : decode cX1_placed 25 = .ok (.iload_n 3, 1) := dk_29 (dk_at dksX1_placed_1 3 rfl rfl)
theorem dX1_placed_26 : decode cX1_placed 26 = .ok (.aload_n 0, 1) := dk_42 (dk_at dksX1_placed_1 4 rfl rfl)
theorem dX1_placed_27 : decode cX1_placed 27 = .ok (.getfield 23, 3) := dk_180 0 23 (dk_at dksX1_placed_1 5 rfl rfl)
theorem dX1_placed_30 : decode cX1_placed 30 = .ok (.getfield 65, 3) := dk_180 0 65 (dk_at dksX1_placed_1 8 rfl rfl)
theorem dX1_placed_33 : decode cX1_placed 33 = .ok (.getfield 69, 3) := dk_180 0 69 (dk_at dksX1_placed_1 11 rfl rfl)
theorem dX1_placed_36 : decode cX1_placed 36 = .ok (.invokevirtual 75, 3) := dk_182 0 75 (dk_at dksX1_placed_1 14 rfl rfl)
theorem dX1_placed_39 : decode cX1_placed 39 = .ok (.idiv, 1) := dk_108 (dk_at dksX1_placed_1 17 rfl rfl)
theorem dX1_placed_40 : decode cX1_placed 40 = .ok (.istore_n 3, 1) := dk_62 (dk_at dksX1_placed_1 18 rfl rfl)
theorem dX1_placed_41 : decode cX1_placed 41 = .ok (.iinc 4 (-1), 3) := dk_132 4 255 (dk_at dksX1_placed_1 19 rfl rfl)
theorem dX1_placed_44 : decode cX1_placed 44 = .ok (.goto (-25), 3) := dk_167 255 231 (dk_at dksX1_placed_2 0 rfl rfl)
theorem dX1_placed_47 : decode cX1_placed 47 = .ok (.iload_n 3, 1) := dk_29 (dk_at dksX1_placed_2 3 rfl rfl)
theorem dX1_placed_48 : decode cX1_placed 48 = .ok (.aload_n 0, 1) := dk_42 (dk_at dksX1_placed_2 4 rfl rfl)
theorem dX1_placed_49 : decode cX1_placed 49 = .ok (.getfield 23, 3) := dk_180 0 23 (dk_at dksX1_placed_2 5 rfl rfl)
theorem dX1_placed_52 : decode cX1_placed 52 = .ok (.getfield 65, 3) := dk_180 0 65 (dk_at dksX1_placed_2 8 rfl rfl)
theorem dX1_placed_55 : decode cX1_placed 55 = .ok (.getfield 69, 3) := dk_180 0 69 (dk_at dksX1_placed_2 11 rfl rfl)
theorem dX1_placed_58 : decode cX1_placed 58 = .ok (.invokevirtual 75, 3) := dk_182 0 75 (dk_at dksX1_placed_2 14 rfl rfl)
theorem dX1_placed_61 : decode cX1_placed 61 = .ok (.irem, 1) := dk_112 (dk_at dksX1_placed_2 17 rfl rfl)
theorem dX1_placed_62 : decode cX1_placed 62 = .ok (.ireturn, 1) := dk_172 (dk_at dksX1_placed_2 18 rfl rfl)
abbrev cX1_nights : ByteArray := prog_1_method_42_code
def yX1_nights : MethodName := ⟨RX1, "nights", "(III)I"⟩
def dkwX1_nights_7 : List UInt8 := [132, 8, 1, 167, 255, 139, 21, 7, 172]
abbrev dktX1_nights_7 : List UInt8 := dkwX1_nights_7 ++ []
def dkwX1_nights_6 : List UInt8 := [42, 180, 0, 27, 182, 0, 132, 42, 180, 0, 27, 25, 4, 182, 0, 240, 4, 160, 0, 6, 132, 7, 1]
abbrev dktX1_nights_6 : List UInt8 := dkwX1_nights_6 ++ dktX1_nights_7
def dkwX1_nights_5 : List UInt8 := [180, 0, 145, 21, 9, 46, 100, 54, 10, 132, 9, 1, 167, 255, 217, 42, 180, 0, 27, 21, 9, 181, 0, 129]
abbrev dktX1_nights_5 : List UInt8 := dkwX1_nights_5 ++ dktX1_nights_6
def dkwX1_nights_4 : List UInt8 := [180, 0, 23, 180, 0, 65, 180, 0, 145, 21, 9, 46, 161, 0, 27, 21, 10, 42, 180, 0, 23, 180, 0, 65]
abbrev dktX1_nights_4 : List UInt8 := dkwX1_nights_4 ++ dktX1_nights_5
def dkwX1_nights_3 : List UInt8 := [17, 48, 57, 96, 54, 5, 21, 5, 16, 16, 122, 17, 127, 255, 126, 21, 6, 112, 54, 10, 21, 10, 42]
abbrev dktX1_nights_3 : List UInt8 := dkwX1_nights_3 ++ dktX1_nights_4
def dkwX1_nights_2 : List UInt8 := [54, 8, 21, 8, 29, 162, 0, 117, 3, 54, 9, 21, 6, 158, 0, 71, 21, 5, 19, 1, 45, 104]
abbrev dktX1_nights_2 : List UInt8 := dkwX1_nights_2 ++ dktX1_nights_3
def dkwX1_nights_1 : List UInt8 := [180, 0, 65, 182, 1, 5, 54, 6, 3, 54, 7, 42, 180, 0, 27, 42, 180, 0, 23, 182, 1, 1, 3]
abbrev dktX1_nights_1 : List UInt8 := dkwX1_nights_1 ++ dktX1_nights_2
def dkwX1_nights_0 : List UInt8 := [42, 27, 182, 0, 189, 58, 4, 29, 3, 16, 60, 184, 0, 57, 184, 0, 104, 28, 54, 5, 42, 180, 0, 23]
abbrev dktX1_nights_0 : List UInt8 := dkwX1_nights_0 ++ dktX1_nights_1
theorem dksX1_nights_0 : cX1_nights.data.toList.drop 0 = dktX1_nights_0 := by decide +kernel
theorem dksX1_nights_1 : cX1_nights.data.toList.drop 24 = dktX1_nights_1 := dk_seg dksX1_nights_0 24 rfl rfl
theorem dksX1_nights_2 : cX1_nights.data.toList.drop 47 = dktX1_nights_2 := dk_seg dksX1_nights_1 23 rfl rfl
theorem dksX1_nights_3 : cX1_nights.data.toList.drop 69 = dktX1_nights_3 := dk_seg dksX1_nights_2 22 rfl rfl
theorem dksX1_nights_4 : cX1_nights.data.toList.drop 92 = dktX1_nights_4 := dk_seg dksX1_nights_3 23 rfl rfl
theorem dksX1_nights_5 : cX1_nights.data.toList.drop 116 = dktX1_nights_5 := dk_seg dksX1_nights_4 24 rfl rfl
theorem dksX1_nights_6 : cX1_nights.data.toList.drop 140 = dktX1_nights_6 := dk_seg dksX1_nights_5 24 rfl rfl
theorem dksX1_nights_7 : cX1_nights.data.toList.drop 163 = dktX1_nights_7 := dk_seg dksX1_nights_6 23 rfl rfl
theorem dX1_nights_0 : decode cX1_nights 0 = .ok (.aload_n 0, 1) := dk_42 (dk_at dksX1_nights_0 0 rfl rfl)
theorem dX1_nights_1 : decode cX1_nights 1 = .ok (.iload_n 1, 1) := dk_27 (dk_at dksX1_nights_0 1 rfl rfl)
theorem dX1_nights_2 : decode cX1_nights 2 = .ok (.invokevirtual 189, 3) := dk_182 0 189 (dk_at dksX1_nights_0 2 rfl rfl)
theorem dX1_nights_5 : decode cX1_nights 5 = .ok (.astore 4, 2) := dk_58 4 (dk_at dksX1_nights_0 5 rfl rfl)
theorem dX1_nights_7 : decode cX1_nights 7 = .ok (.iload_n 3, 1) := dk_29 (dk_at dksX1_nights_0 7 rfl rfl)
theorem dX1_nights_8 : decode cX1_nights 8 = .ok (.iconst 0, 1) := dk_3 (dk_at dksX1_nights_0 8 rfl rfl)
theorem dX1_nights_9 : decode cX1_nights 9 = .ok (.bipush 60, 2) := dk_16 60 (dk_at dksX1_nights_0 9 rfl rfl)
theorem dX1_nights_11 : decode cX1_nights 11 = .ok (.invokestatic 57, 3) := dk_184 0 57 (dk_at dksX1_nights_0 11 rfl rfl)
theorem dX1_nights_14 : decode cX1_nights 14 = .ok (.invokestatic 104, 3) := dk_184 0 104 (dk_at dksX1_nights_0 14 rfl rfl)
theorem dX1_nights_17 : decode cX1_nights 17 = .ok (.iload_n 2, 1) := dk_28 (dk_at dksX1_nights_0 17 rfl rfl)
theorem dX1_nights_18 : decode cX1_nights 18 = .ok (.istore 5, 2) := dk_54 5 (dk_at dksX1_nights_0 18 rfl rfl)
theorem dX1_nights_20 : decode cX1_nights 20 = .ok (.aload_n 0, 1) := dk_42 (dk_at dksX1_nights_0 20 rfl rfl)
theorem dX1_nights_21 : decode cX1_nights 21 = .ok (.getfield 23, 3) := dk_180 0 23 (dk_at dksX1_nights_0 21 rfl rfl)
theorem dX1_nights_24 : decode cX1_nights 24 = .ok (.getfield 65, 3) := dk_180 0 65 (dk_at dksX1_nights_1 0 rfl rfl)
theorem dX1_nights_27 : decode cX1_nights 27 = .ok (.invokevirtual 261, 3) := dk_182 1 5 (dk_at dksX1_nights_1 3 rfl rfl)
theorem dX1_nights_30 : decode cX1_nights 30 = .ok (.istore 6, 2) := dk_54 6 (dk_at dksX1_nights_1 6 rfl rfl)
theorem dX1_nights_32 : decode cX1_nights 32 = .ok (.iconst 0, 1) := dk_3 (dk_at dksX1_nights_1 8 rfl rfl)
theorem dX1_nights_33 : decode cX1_nights 33 = .ok (.istore 7, 2) := dk_54 7 (dk_at dksX1_nights_1 9 rfl rfl)
theorem dX1_nights_35 : decode cX1_nights 35 = .ok (.aload_n 0, 1) := dk_42 (dk_at dksX1_nights_1 11 rfl rfl)
theorem dX1_nights_36 : decode cX1_nights 36 = .ok (.getfield 27, 3) := dk_180 0 27 (dk_at dksX1_nights_1 12 rfl rfl)
theorem dX1_nights_39 : decode cX1_nights 39 = .ok (.aload_n 0, 1) := dk_42 (dk_at dksX1_nights_1 15 rfl rfl)
theorem dX1_nights_40 : decode cX1_nights 40 = .ok (.getfield 23, 3) := dk_180 0 23 (dk_at dksX1_nights_1 16 rfl rfl)
theorem dX1_nights_43 : decode cX1_nights 43 = .ok (.invokevirtual 257, 3) := dk_182 1 1 (dk_at dksX1_nights_1 19 rfl rfl)
theorem dX1_nights_46 : decode cX1_nights 46 = .ok (.iconst 0, 1) := dk_3 (dk_at dksX1_nights_1 22 rfl rfl)
theorem dX1_nights_47 : decode cX1_nights 47 = .ok (.istore 8, 2) := dk_54 8 (dk_at dksX1_nights_2 0 rfl rfl)
theorem dX1_nights_49 : decode cX1_nights 49 = .ok (.iload 8, 2) := dk_21 8 (dk_at dksX1_nights_2 2 rfl rfl)
theorem dX1_nights_51 : decode cX1_nights 51 = .ok (.iload_n 3, 1) := dk_29 (dk_at dksX1_nights_2 4 rfl rfl)
theorem dX1_nights_52 : decode cX1_nights 52 = .ok (.if_icmp .ge 117, 3) := dk_162 0 117 (dk_at dksX1_nights_2 5 rfl rfl)
theorem dX1_nights_55 : decode cX1_nights 55 = .ok (.iconst 0, 1) := dk_3 (dk_at dksX1_nights_2 8 rfl rfl)
theorem dX1_nights_56 : decode cX1_nights 56 = .ok (.istore 9, 2) := dk_54 9 (dk_at dksX1_nights_2 9 rfl rfl)
theorem dX1_nights_58 : decode cX1_nights 58 = .ok (.iload 6, 2) := dk_21 6 (dk_at dksX1_nights_2 11 rfl rfl)
theorem dX1_nights_60 : decode cX1_nights 60 = .ok (.ifCond .le 71, 3) := dk_158 0 71 (dk_at dksX1_nights_2 13 rfl rfl)
theorem dX1_nights_63 : decode cX1_nights 63 = .ok (.iload 5, 2) := dk_21 5 (dk_at dksX1_nights_2 16 rfl rfl)
theorem dX1_nights_65 : decode cX1_nights 65 = .ok (.ldc_w 301, 3) := dk_19 1 45 (dk_at dksX1_nights_2 18 rfl rfl)
theorem dX1_nights_68 : decode cX1_nights 68 = .ok (.imul, 1) := dk_104 (dk_at dksX1_nights_2 21 rfl rfl)
theorem dX1_nights_69 : decode cX1_nights 69 = .ok (.sipush 12345, 3) := dk_17 48 57 (dk_at dksX1_nights_3 0 rfl rfl)
theorem dX1_nights_72 : decode cX1_nights 72 = .ok (.iadd, 1) := dk_96 (dk_at dksX1_nights_3 3 rfl rfl)
theorem dX1_nights_73 : decode cX1_nights 73 = .ok (.istore 5, 2) := dk_54 5 (dk_at dksX1_nights_3 4 rfl rfl)
theorem dX1_nights_75 : decode cX1_nights 75 = .ok (.iload 5, 2) := dk_21 5 (dk_at dksX1_nights_3 6 rfl rfl)
theorem dX1_nights_77 : decode cX1_nights 77 = .ok (.bipush 16, 2) := dk_16 16 (dk_at dksX1_nights_3 8 rfl rfl)
theorem dX1_nights_79 : decode cX1_nights 79 = .ok (.ishr, 1) := dk_122 (dk_at dksX1_nights_3 10 rfl rfl)
theorem dX1_nights_80 : decode cX1_nights 80 = .ok (.sipush 32767, 3) := dk_17 127 255 (dk_at dksX1_nights_3 11 rfl rfl)
theorem dX1_nights_83 : decode cX1_nights 83 = .ok (.iand, 1) := dk_126 (dk_at dksX1_nights_3 14 rfl rfl)
theorem dX1_nights_84 : decode cX1_nights 84 = .ok (.iload 6, 2) := dk_21 6 (dk_at dksX1_nights_3 15 rfl rfl)
theorem dX1_nights_86 : decode cX1_nights 86 = .ok (.irem, 1) := dk_112 (dk_at dksX1_nights_3 17 rfl rfl)
theorem dX1_nights_87 : decode cX1_nights 87 = .ok (.istore 10, 2) := dk_54 10 (dk_at dksX1_nights_3 18 rfl rfl)
theorem dX1_nights_89 : decode cX1_nights 89 = .ok (.iload 10, 2) := dk_21 10 (dk_at dksX1_nights_3 20 rfl rfl)
theorem dX1_nights_91 : decode cX1_nights 91 = .ok (.aload_n 0, 1) := dk_42 (dk_at dksX1_nights_3 22 rfl rfl)
theorem dX1_nights_92 : decode cX1_nights 92 = .ok (.getfield 23, 3) := dk_180 0 23 (dk_at dksX1_nights_4 0 rfl rfl)
theorem dX1_nights_95 : decode cX1_nights 95 = .ok (.getfield 65, 3) := dk_180 0 65 (dk_at dksX1_nights_4 3 rfl rfl)
theorem dX1_nights_98 : decode cX1_nights 98 = .ok (.getfield 145, 3) := dk_180 0 145 (dk_at dksX1_nights_4 6 rfl rfl)
theorem dX1_nights_101 : decode cX1_nights 101 = .ok (.iload 9, 2) := dk_21 9 (dk_at dksX1_nights_4 9 rfl rfl)
theorem dX1_nights_103 : decode cX1_nights 103 = .ok (.iaload, 1) := dk_46 (dk_at dksX1_nights_4 11 rfl rfl)
theorem dX1_nights_104 : decode cX1_nights 104 = .ok (.if_icmp .lt 27, 3) := dk_161 0 27 (dk_at dksX1_nights_4 12 rfl rfl)
theorem dX1_nights_107 : decode cX1_nights 107 = .ok (.iload 10, 2) := dk_21 10 (dk_at dksX1_nights_4 15 rfl rfl)
theorem dX1_nights_109 : decode cX1_nights 109 = .ok (.aload_n 0, 1) := dk_42 (dk_at dksX1_nights_4 17 rfl rfl)
theorem dX1_nights_110 : decode cX1_nights 110 = .ok (.getfield 23, 3) := dk_180 0 23 (dk_at dksX1_nights_4 18 rfl rfl)
theorem dX1_nights_113 : decode cX1_nights 113 = .ok (.getfield 65, 3) := dk_180 0 65 (dk_at dksX1_nights_4 21 rfl rfl)
theorem dX1_nights_116 : decode cX1_nights 116 = .ok (.getfield 145, 3) := dk_180 0 145 (dk_at dksX1_nights_5 0 rfl rfl)
theorem dX1_nights_119 : decode cX1_nights 119 = .ok (.iload 9, 2) := dk_21 9 (dk_at dksX1_nights_5 3 rfl rfl)
theorem dX1_nights_121 : decode cX1_nights 121 = .ok (.iaload, 1) := dk_46 (dk_at dksX1_nights_5 5 rfl rfl)
theorem dX1_nights_122 : decode cX1_nights 122 = .ok (.isub, 1) := dk_100 (dk_at dksX1_nights_5 6 rfl rfl)
theorem dX1_nights_123 : decode cX1_nights 123 = .ok (.istore 10, 2) := dk_54 10 (dk_at dksX1_nights_5 7 rfl rfl)
theorem dX1_nights_125 : decode cX1_nights 125 = .ok (.iinc 9 1, 3) := dk_132 9 1 (dk_at dksX1_nights_5 9 rfl rfl)
theorem dX1_nights_128 : decode cX1_nights 128 = .ok (.goto (-39), 3) := dk_167 255 217 (dk_at dksX1_nights_5 12 rfl rfl)
theorem dX1_nights_131 : decode cX1_nights 131 = .ok (.aload_n 0, 1) := dk_42 (dk_at dksX1_nights_5 15 rfl rfl)
theorem dX1_nights_132 : decode cX1_nights 132 = .ok (.getfield 27, 3) := dk_180 0 27 (dk_at dksX1_nights_5 16 rfl rfl)
theorem dX1_nights_135 : decode cX1_nights 135 = .ok (.iload 9, 2) := dk_21 9 (dk_at dksX1_nights_5 19 rfl rfl)
theorem dX1_nights_137 : decode cX1_nights 137 = .ok (.putfield 129, 3) := dk_181 0 129 (dk_at dksX1_nights_5 21 rfl rfl)
theorem dX1_nights_140 : decode cX1_nights 140 = .ok (.aload_n 0, 1) := dk_42 (dk_at dksX1_nights_6 0 rfl rfl)
theorem dX1_nights_141 : decode cX1_nights 141 = .ok (.getfield 27, 3) := dk_180 0 27 (dk_at dksX1_nights_6 1 rfl rfl)
theorem dX1_nights_144 : decode cX1_nights 144 = .ok (.invokevirtual 132, 3) := dk_182 0 132 (dk_at dksX1_nights_6 4 rfl rfl)
theorem dX1_nights_147 : decode cX1_nights 147 = .ok (.aload_n 0, 1) := dk_42 (dk_at dksX1_nights_6 7 rfl rfl)
theorem dX1_nights_148 : decode cX1_nights 148 = .ok (.getfield 27, 3) := dk_180 0 27 (dk_at dksX1_nights_6 8 rfl rfl)
theorem dX1_nights_151 : decode cX1_nights 151 = .ok (.aload 4, 2) := dk_25 4 (dk_at dksX1_nights_6 11 rfl rfl)
theorem dX1_nights_153 : decode cX1_nights 153 = .ok (.invokevirtual 240, 3) := dk_182 0 240 (dk_at dksX1_nights_6 13 rfl rfl)
theorem dX1_nights_156 : decode cX1_nights 156 = .ok (.iconst 1, 1) := dk_4 (dk_at dksX1_nights_6 16 rfl rfl)
theorem dX1_nights_157 : decode cX1_nights 157 = .ok (.if_icmp .ne 6, 3) := dk_160 0 6 (dk_at dksX1_nights_6 17 rfl rfl)
theorem dX1_nights_160 : decode cX1_nights 160 = .ok (.iinc 7 1, 3) := dk_132 7 1 (dk_at dksX1_nights_6 20 rfl rfl)
theorem dX1_nights_163 : decode cX1_nights 163 = .ok (.iinc 8 1, 3) := dk_132 8 1 (dk_at dksX1_nights_7 0 rfl rfl)
theorem dX1_nights_166 : decode cX1_nights 166 = .ok (.goto (-117), 3) := dk_167 255 139 (dk_at dksX1_nights_7 3 rfl rfl)
theorem dX1_nights_169 : decode cX1_nights 169 = .ok (.iload 7, 2) := dk_21 7 (dk_at dksX1_nights_7 6 rfl rfl)
theorem dX1_nights_171 : decode cX1_nights 171 = .ok (.ireturn, 1) := dk_172 (dk_at dksX1_nights_7 8 rfl rfl)
theorem q78 : (Jvm.Cond.initialized "EelPort") ∈ lw_all := lw_g (lw_at lw_m1 1 rfl) rfl
theorem q123 : (Jvm.Cond.instantiable "EelPort" (14 : Nat)) ∈ lw_all := lw_g (lw_at lw_m1 46 rfl) rfl
theorem q125 : (Jvm.Cond.instanceMethod ({ cls := "EelPort", name := "<init>", desc := "()V" } : Jvm.MethodName)) ∈ lw_all := lw_g (lw_at lw_m1 48 rfl) rfl
theorem q126 : (Jvm.Cond.code ({ cls := "EelPort", name := "<init>", desc := "()V" } : Jvm.MethodName) prog_1_method_1_code (1 : Nat) (Option.none : Option Jvm.ClassFile.FieldType)) ∈ lw_all := lw_g (lw_at lw_m1 49 rfl) rfl
theorem q127 : (Jvm.Cond.methodLink "EelPort" (1 : Nat) ({ cls := "java/lang/Object", name := "<init>", desc := "()V" } : Jvm.MethodName)) ∈ lw_all := lw_g (lw_at lw_m1 50 rfl) rfl
theorem q130 : (Jvm.Cond.classLink "EelPort" (7 : Nat) "EelPort$Book") ∈ lw_all := lw_g (lw_at lw_m1 53 rfl) rfl
theorem q132 : (Jvm.Cond.methodLinkNest "EelPort" (9 : Nat) ({ cls := "EelPort$Book", name := "<init>", desc := "()V" } : Jvm.MethodName) "EelPort") ∈ lw_tbl := lw_at lw_m1 55 rfl
theorem q489 : (Jvm.Cond.fieldLinkNest "EelPort" (155 : Nat) "EelPort$Port" "hoods" "I" "EelPort") ∈ lw_tbl := lw_at lw_m2 172 rfl
theorem q493 : (Jvm.Cond.fieldLinkNest "EelPort" (277 : Nat) "EelPort$Port" "liver" "I" "EelPort") ∈ lw_tbl := lw_at lw_m2 176 rfl
theorem q502 : (Jvm.Cond.fieldLinkNest "EelPort" (69 : Nat) "EelPort$Port" "quays" "Ljava/util/ArrayList;" "EelPort") ∈ lw_tbl := lw_at lw_m2 185 rfl
theorem q506 : (Jvm.Cond.fieldLinkNest "EelPort" (87 : Nat) "EelPort$Port" "eels" "Ljava/util/ArrayList;" "EelPort") ∈ lw_tbl := lw_at lw_m2 189 rfl
theorem q509 : (Jvm.Cond.fieldLinkNest "EelPort" (92 : Nat) "EelPort$Port" "ships" "Ljava/util/ArrayList;" "EelPort") ∈ lw_tbl := lw_at lw_m2 192 rfl
theorem q513 : (Jvm.Cond.fieldLinkNest "EelPort" (142 : Nat) "EelPort$Port" "moon" "[I" "EelPort") ∈ lw_tbl := lw_at lw_m2 196 rfl
theorem q516 : (Jvm.Cond.fieldLinkNest "EelPort" (145 : Nat) "EelPort$Port" "weight" "[I" "EelPort") ∈ lw_tbl := lw_at lw_m2 199 rfl
theorem q553 : (Jvm.Cond.fieldLinkNest "EelPort" (65 : Nat) "EelPort$Lit" "port" "LEelPort$Port;" "EelPort") ∈ lw_tbl := lw_at lw_m2 236 rfl
theorem q555 : (Jvm.Cond.fieldLinkNest "EelPort" (126 : Nat) "EelPort$Lit" "meals" "I" "EelPort") ∈ lw_tbl := lw_at lw_m2 238 rfl
theorem q557 : (Jvm.Cond.fieldLinkNest "EelPort" (129 : Nat) "EelPort$Lit" "cold" "I" "EelPort") ∈ lw_tbl := lw_at lw_m3 0 rfl
theorem q559 : (Jvm.Cond.fieldLinkNest "EelPort" (216 : Nat) "EelPort$Lit" "eel" "[I" "EelPort") ∈ lw_tbl := lw_at lw_m3 2 rfl
theorem q561 : (Jvm.Cond.fieldLinkNest "EelPort" (219 : Nat) "EelPort$Lit" "hour" "[I" "EelPort") ∈ lw_tbl := lw_at lw_m3 4 rfl
theorem q563 : (Jvm.Cond.fieldLinkNest "EelPort" (148 : Nat) "EelPort$Lit" "sort" "[I" "EelPort") ∈ lw_tbl := lw_at lw_m3 6 rfl
theorem q565 : (Jvm.Cond.fieldLinkNest "EelPort" (211 : Nat) "EelPort$Lit" "hunger" "[I" "EelPort") ∈ lw_tbl := lw_at lw_m3 8 rfl
theorem q567 : (Jvm.Cond.fieldLinkNest "EelPort" (213 : Nat) "EelPort$Lit" "glow" "[I" "EelPort") ∈ lw_tbl := lw_at lw_m3 10 rfl
theorem q589 : (Jvm.Cond.fieldLinkNest "EelPort" (19 : Nat) "EelPort$Book" "lit" "LEelPort$Lit;" "EelPort") ∈ lw_tbl := lw_at lw_m3 32 rfl
theorem q591 : (Jvm.Cond.fieldLinkNest "EelPort" (287 : Nat) "EelPort$Book" "quay" "[I" "EelPort") ∈ lw_tbl := lw_at lw_m3 34 rfl
theorem q593 : (Jvm.Cond.fieldLinkNest "EelPort" (289 : Nat) "EelPort$Book" "hour" "[I" "EelPort") ∈ lw_tbl := lw_at lw_m3 36 rfl
theorem q595 : (Jvm.Cond.fieldLinkNest "EelPort" (290 : Nat) "EelPort$Book" "light" "[I" "EelPort") ∈ lw_tbl := lw_at lw_m3 38 rfl
theorem q597 : (Jvm.Cond.fieldLinkNest "EelPort" (120 : Nat) "EelPort$Book" "refused" "[I" "EelPort") ∈ lw_tbl := lw_at lw_m3 40 rfl
theorem q599 : (Jvm.Cond.fieldLinkNest "EelPort" (135 : Nat) "EelPort$Book" "shone" "I" "EelPort") ∈ lw_tbl := lw_at lw_m3 42 rfl
theorem q613 : (Jvm.Cond.classLink "EelPort" (24 : Nat) "EelPort$Lit") ∈ lw_all := lw_g (lw_at lw_m3 56 rfl) rfl
theorem q614 : (Jvm.Cond.methodLinkNest "EelPort" (26 : Nat) ({ cls := "EelPort$Lit", name := "<init>", desc := "()V" } : Jvm.MethodName) "EelPort") ∈ lw_tbl := lw_at lw_m3 57 rfl
theorem q615 : (Jvm.Cond.fieldLink "EelPort" (10 : Nat) "EelPort" "book" "LEelPort$Book;") ∈ lw_all := lw_g (lw_at lw_m3 58 rfl) rfl
theorem q616 : (Jvm.Cond.fieldLink "EelPort" (16 : Nat) "EelPort" "image" "LEelPort$Book;") ∈ lw_all := lw_g (lw_at lw_m3 59 rfl) rfl
theorem q617 : (Jvm.Cond.fieldLink "EelPort" (23 : Nat) "EelPort" "lit" "LEelPort$Lit;") ∈ lw_all := lw_g (lw_at lw_m3 60 rfl) rfl
theorem q618 : (Jvm.Cond.fieldLink "EelPort" (27 : Nat) "EelPort" "tried" "LEelPort$Lit;") ∈ lw_all := lw_g (lw_at lw_m3 61 rfl) rfl
theorem q619 : (Jvm.Cond.fieldLink "EelPort" (138 : Nat) "EelPort" "hasImage" "Z") ∈ lw_all := lw_g (lw_at lw_m3 62 rfl) rfl
theorem q620 : (Jvm.Cond.fieldLink "EelPort" (30 : Nat) "EelPort" "tape" "[B") ∈ lw_all := lw_g (lw_at lw_m3 63 rfl) rfl
theorem q621 : (Jvm.Cond.fieldLink "EelPort" (97 : Nat) "EelPort" "taped" "I") ∈ lw_all := lw_g (lw_at lw_m3 64 rfl) rfl
theorem q622 : (Jvm.Cond.fieldLink "EelPort" (34 : Nat) "EelPort" "faultPlace" "I") ∈ lw_all := lw_g (lw_at lw_m3 65 rfl) rfl
theorem q623 : (Jvm.Cond.fieldLink "EelPort" (38 : Nat) "EelPort" "row" "[I") ∈ lw_all := lw_g (lw_at lw_m3 66 rfl) rfl
theorem q624 : (Jvm.Cond.fieldLink "EelPort" (42 : Nat) "EelPort" "plan" "[I") ∈ lw_all := lw_g (lw_at lw_m3 67 rfl) rfl
theorem q625 : (Jvm.Cond.fieldLink "EelPort" (45 : Nat) "EelPort" "planLong" "I") ∈ lw_all := lw_g (lw_at lw_m3 68 rfl) rfl
theorem q626 : (Jvm.Cond.fieldLink "EelPort" (244 : Nat) "EelPort" "bestPrice" "I") ∈ lw_all := lw_g (lw_at lw_m3 69 rfl) rfl
theorem q627 : (Jvm.Cond.fieldLink "EelPort" (267 : Nat) "EelPort" "found" "I") ∈ lw_all := lw_g (lw_at lw_m3 70 rfl) rfl
theorem q628 : (Jvm.Cond.fieldLink "EelPort" (48 : Nat) "EelPort" "gain" "[I") ∈ lw_all := lw_g (lw_at lw_m3 71 rfl) rfl
theorem q629 : (Jvm.Cond.laysFinal "EelPort" "EelPort" "book" "LEelPort$Book;") ∈ lw_all := lw_g (lw_at lw_m3 72 rfl) rfl
theorem q630 : (Jvm.Cond.soleField "EelPort" "book") ∈ lw_all := lw_g (lw_at lw_m3 73 rfl) rfl
theorem q631 : (Jvm.Cond.laysFinal "EelPort" "EelPort" "image" "LEelPort$Book;") ∈ lw_all := lw_g (lw_at lw_m3 74 rfl) rfl
theorem q632 : (Jvm.Cond.soleField "EelPort" "image") ∈ lw_all := lw_g (lw_at lw_m3 75 rfl) rfl
theorem q633 : (Jvm.Cond.laysFinal "EelPort" "EelPort" "lit" "LEelPort$Lit;") ∈ lw_all := lw_g (lw_at lw_m3 76 rfl) rfl
theorem q634 : (Jvm.Cond.soleField "EelPort" "lit") ∈ lw_all := lw_g (lw_at lw_m3 77 rfl) rfl
theorem q635 : (Jvm.Cond.laysFinal "EelPort" "EelPort" "tried" "LEelPort$Lit;") ∈ lw_all := lw_g (lw_at lw_m3 78 rfl) rfl
theorem q636 : (Jvm.Cond.soleField "EelPort" "tried") ∈ lw_all := lw_g (lw_at lw_m3 79 rfl) rfl
theorem q637 : (Jvm.Cond.lays "EelPort" "EelPort" "hasImage" "Z") ∈ lw_all := lw_g (lw_at lw_m3 80 rfl) rfl
theorem q638 : (Jvm.Cond.soleField "EelPort" "hasImage") ∈ lw_all := lw_g (lw_at lw_m3 81 rfl) rfl
theorem q639 : (Jvm.Cond.laysFinal "EelPort" "EelPort" "tape" "[B") ∈ lw_all := lw_g (lw_at lw_m3 82 rfl) rfl
theorem q640 : (Jvm.Cond.soleField "EelPort" "tape") ∈ lw_all := lw_g (lw_at lw_m3 83 rfl) rfl
theorem q641 : (Jvm.Cond.lays "EelPort" "EelPort" "taped" "I") ∈ lw_all := lw_g (lw_at lw_m3 84 rfl) rfl
theorem q642 : (Jvm.Cond.soleField "EelPort" "taped") ∈ lw_all := lw_g (lw_at lw_m3 85 rfl) rfl
theorem q643 : (Jvm.Cond.lays "EelPort" "EelPort" "faultPlace" "I") ∈ lw_all := lw_g (lw_at lw_m3 86 rfl) rfl
theorem q644 : (Jvm.Cond.soleField "EelPort" "faultPlace") ∈ lw_all := lw_g (lw_at lw_m3 87 rfl) rfl
theorem q645 : (Jvm.Cond.laysFinal "EelPort" "EelPort" "row" "[I") ∈ lw_all := lw_g (lw_at lw_m3 88 rfl) rfl
theorem q646 : (Jvm.Cond.soleField "EelPort" "row") ∈ lw_all := lw_g (lw_at lw_m3 89 rfl) rfl
theorem q647 : (Jvm.Cond.laysFinal "EelPort" "EelPort" "plan" "[I") ∈ lw_all := lw_g (lw_at lw_m3 90 rfl) rfl
theorem q648 : (Jvm.Cond.soleField "EelPort" "plan") ∈ lw_all := lw_g (lw_at lw_m3 91 rfl) rfl
theorem q649 : (Jvm.Cond.lays "EelPort" "EelPort" "planLong" "I") ∈ lw_all := lw_g (lw_at lw_m3 92 rfl) rfl
theorem q650 : (Jvm.Cond.soleField "EelPort" "planLong") ∈ lw_all := lw_g (lw_at lw_m3 93 rfl) rfl
theorem q651 : (Jvm.Cond.lays "EelPort" "EelPort" "bestPrice" "I") ∈ lw_all := lw_g (lw_at lw_m3 94 rfl) rfl
theorem q652 : (Jvm.Cond.soleField "EelPort" "bestPrice") ∈ lw_all := lw_g (lw_at lw_m3 95 rfl) rfl
theorem q653 : (Jvm.Cond.lays "EelPort" "EelPort" "found" "I") ∈ lw_all := lw_g (lw_at lw_m3 96 rfl) rfl
theorem q654 : (Jvm.Cond.soleField "EelPort" "found") ∈ lw_all := lw_g (lw_at lw_m3 97 rfl) rfl
theorem q655 : (Jvm.Cond.laysFinal "EelPort" "EelPort" "gain" "[I") ∈ lw_all := lw_g (lw_at lw_m3 98 rfl) rfl
theorem q656 : (Jvm.Cond.soleField "EelPort" "gain") ∈ lw_all := lw_g (lw_at lw_m3 99 rfl) rfl
theorem q657 : (Jvm.Cond.superclass "EelPort" "java/lang/Object") ∈ lw_all := lw_g (lw_at lw_m3 100 rfl) rfl
theorem q659 : (Jvm.Cond.instanceMethod ({ cls := "EelPort", name := "feed", desc := "(IIIII)I" } : Jvm.MethodName)) ∈ lw_all := lw_g (lw_at lw_m3 102 rfl) rfl
theorem q660 : (Jvm.Cond.selects "EelPort" ({ cls := "EelPort", name := "feed", desc := "(IIIII)I" } : Jvm.MethodName) ({ cls := "EelPort", name := "feed", desc := "(IIIII)I" } : Jvm.MethodName)) ∈ lw_all := lw_g (lw_at lw_m3 103 rfl) rfl
theorem q661 : (Jvm.Cond.code ({ cls := "EelPort", name := "feed", desc := "(IIIII)I" } : Jvm.MethodName) prog_1_method_9_code (6 : Nat) (Option.some Jvm.ClassFile.FieldType.int)) ∈ lw_all := lw_g (lw_at lw_m3 104 rfl) rfl
theorem q662 : (Jvm.Cond.methodLink "EelPort" (100 : Nat) ({ cls := "EelPort", name := "lay", desc := "(I)V" } : Jvm.MethodName)) ∈ lw_all := lw_g (lw_at lw_m3 105 rfl) rfl
theorem q663 : (Jvm.Cond.privateMethod ({ cls := "EelPort", name := "lay", desc := "(I)V" } : Jvm.MethodName)) ∈ lw_tbl := lw_at lw_m3 106 rfl
theorem q664 : (Jvm.Cond.instanceMethod ({ cls := "EelPort", name := "lay", desc := "(I)V" } : Jvm.MethodName)) ∈ lw_all := lw_g (lw_at lw_m3 107 rfl) rfl
theorem q665 : (Jvm.Cond.code ({ cls := "EelPort", name := "lay", desc := "(I)V" } : Jvm.MethodName) prog_1_method_10_code (3 : Nat) (Option.none : Option Jvm.ClassFile.FieldType)) ∈ lw_all := lw_g (lw_at lw_m3 108 rfl) rfl
theorem q667 : (Jvm.Cond.instanceMethod ({ cls := "EelPort", name := "fault", desc := "()I" } : Jvm.MethodName)) ∈ lw_all := lw_g (lw_at lw_m3 110 rfl) rfl
theorem q668 : (Jvm.Cond.selects "EelPort" ({ cls := "EelPort", name := "fault", desc := "()I" } : Jvm.MethodName) ({ cls := "EelPort", name := "fault", desc := "()I" } : Jvm.MethodName)) ∈ lw_all := lw_g (lw_at lw_m3 111 rfl) rfl
theorem q669 : (Jvm.Cond.code ({ cls := "EelPort", name := "fault", desc := "()I" } : Jvm.MethodName) prog_1_method_12_code (1 : Nat) (Option.some Jvm.ClassFile.FieldType.int)) ∈ lw_all := lw_g (lw_at lw_m3 112 rfl) rfl
theorem q671 : (Jvm.Cond.instanceMethod ({ cls := "EelPort", name := "undo", desc := "()I" } : Jvm.MethodName)) ∈ lw_all := lw_g (lw_at lw_m3 114 rfl) rfl
theorem q672 : (Jvm.Cond.selects "EelPort" ({ cls := "EelPort", name := "undo", desc := "()I" } : Jvm.MethodName) ({ cls := "EelPort", name := "undo", desc := "()I" } : Jvm.MethodName)) ∈ lw_all := lw_g (lw_at lw_m3 115 rfl) rfl
theorem q673 : (Jvm.Cond.code ({ cls := "EelPort", name := "undo", desc := "()I" } : Jvm.MethodName) prog_1_method_19_code (1 : Nat) (Option.some Jvm.ClassFile.FieldType.int)) ∈ lw_all := lw_g (lw_at lw_m3 116 rfl) rfl
theorem q674 : (Jvm.Cond.methodLink "EelPort" (132 : Nat) ({ cls := "EelPort$Lit", name := "shines", desc := "()V" } : Jvm.MethodName)) ∈ lw_all := lw_g (lw_at lw_m3 117 rfl) rfl
theorem q750 : (Jvm.Cond.instanceMethod ({ cls := "EelPort", name := "cold", desc := "(I)I" } : Jvm.MethodName)) ∈ lw_all := lw_g (lw_at lw_m3 193 rfl) rfl
theorem q751 : (Jvm.Cond.selects "EelPort" ({ cls := "EelPort", name := "cold", desc := "(I)I" } : Jvm.MethodName) ({ cls := "EelPort", name := "cold", desc := "(I)I" } : Jvm.MethodName)) ∈ lw_all := lw_g (lw_at lw_m3 194 rfl) rfl
theorem q752 : (Jvm.Cond.code ({ cls := "EelPort", name := "cold", desc := "(I)I" } : Jvm.MethodName) prog_1_method_20_code (3 : Nat) (Option.some Jvm.ClassFile.FieldType.int)) ∈ lw_all := lw_g (lw_at lw_m3 195 rfl) rfl
theorem q753 : (Jvm.Cond.methodLink "EelPort" (57 : Nat) ({ cls := "EelPort", name := "within", desc := "(III)Z" } : Jvm.MethodName)) ∈ lw_all := lw_g (lw_at lw_m3 196 rfl) rfl
theorem q754 : (Jvm.Cond.static ({ cls := "EelPort", name := "within", desc := "(III)Z" } : Jvm.MethodName)) ∈ lw_all := lw_g (lw_at lw_m3 197 rfl) rfl
theorem q755 : (Jvm.Cond.code ({ cls := "EelPort", name := "within", desc := "(III)Z" } : Jvm.MethodName) prog_1_method_4_code (3 : Nat) (Option.some Jvm.ClassFile.FieldType.boolean)) ∈ lw_all := lw_g (lw_at lw_m3 198 rfl) rfl
theorem q757 : (Jvm.Cond.instanceMethod ({ cls := "EelPort", name := "forget", desc := "()I" } : Jvm.MethodName)) ∈ lw_all := lw_g (lw_at lw_m3 200 rfl) rfl
theorem q758 : (Jvm.Cond.selects "EelPort" ({ cls := "EelPort", name := "forget", desc := "()I" } : Jvm.MethodName) ({ cls := "EelPort", name := "forget", desc := "()I" } : Jvm.MethodName)) ∈ lw_all := lw_g (lw_at lw_m3 201 rfl) rfl
theorem q759 : (Jvm.Cond.code ({ cls := "EelPort", name := "forget", desc := "()I" } : Jvm.MethodName) prog_1_method_38_code (1 : Nat) (Option.some Jvm.ClassFile.FieldType.int)) ∈ lw_all := lw_g (lw_at lw_m3 202 rfl) rfl
theorem q761 : (Jvm.Cond.instanceMethod ({ cls := "EelPort", name := "image", desc := "()V" } : Jvm.MethodName)) ∈ lw_all := lw_g (lw_at lw_m3 204 rfl) rfl
theorem q762 : (Jvm.Cond.selects "EelPort" ({ cls := "EelPort", name := "image", desc := "()V" } : Jvm.MethodName) ({ cls := "EelPort", name := "image", desc := "()V" } : Jvm.MethodName)) ∈ lw_all := lw_g (lw_at lw_m3 205 rfl) rfl
theorem q763 : (Jvm.Cond.code ({ cls := "EelPort", name := "image", desc := "()V" } : Jvm.MethodName) prog_1_method_43_code (1 : Nat) (Option.none : Option Jvm.ClassFile.FieldType)) ∈ lw_all := lw_g (lw_at lw_m3 206 rfl) rfl
theorem q764 : (Jvm.Cond.methodLink "EelPort" (302 : Nat) ({ cls := "EelPort$Book", name := "like", desc := "(LEelPort$Book;)V" } : Jvm.MethodName)) ∈ lw_all := lw_g (lw_at lw_m3 207 rfl) rfl
theorem q775 : (Jvm.Cond.instanceMethod ({ cls := "EelPort", name := "restore", desc := "()Z" } : Jvm.MethodName)) ∈ lw_all := lw_g (lw_at lw_m3 218 rfl) rfl
theorem q776 : (Jvm.Cond.selects "EelPort" ({ cls := "EelPort", name := "restore", desc := "()Z" } : Jvm.MethodName) ({ cls := "EelPort", name := "restore", desc := "()Z" } : Jvm.MethodName)) ∈ lw_all := lw_g (lw_at lw_m3 219 rfl) rfl
theorem q777 : (Jvm.Cond.code ({ cls := "EelPort", name := "restore", desc := "()Z" } : Jvm.MethodName) prog_1_method_44_code (1 : Nat) (Option.some Jvm.ClassFile.FieldType.boolean)) ∈ lw_all := lw_g (lw_at lw_m3 220 rfl) rfl
theorem q783 : (Jvm.Cond.instanceMethod ({ cls := "EelPort", name := "port", desc := "(I)I" } : Jvm.MethodName)) ∈ lw_all := lw_g (lw_at lw_m3 226 rfl) rfl
theorem q784 : (Jvm.Cond.selects "EelPort" ({ cls := "EelPort", name := "port", desc := "(I)I" } : Jvm.MethodName) ({ cls := "EelPort", name := "port", desc := "(I)I" } : Jvm.MethodName)) ∈ lw_all := lw_g (lw_at lw_m3 227 rfl) rfl
theorem q785 : (Jvm.Cond.codeWith ({ cls := "EelPort", name := "port", desc := "(I)I" } : Jvm.MethodName) prog_1_method_11_code (3 : Nat) (Option.some Jvm.ClassFile.FieldType.int) [((30 : Nat), (52 : Nat), (55 : Nat), (115 : Nat))]) ∈ lw_all := lw_g (lw_at lw_m3 228 rfl) rfl
theorem q786 : (Jvm.Cond.classLink "EelPort" (115 : Nat) "EelPort$Fault") ∈ lw_all := lw_g (lw_at lw_m3 229 rfl) rfl
theorem q787 : (Jvm.Cond.methodLink "EelPort" (104 : Nat) ({ cls := "EelPort", name := "right", desc := "(Z)V" } : Jvm.MethodName)) ∈ lw_all := lw_g (lw_at lw_m3 230 rfl) rfl
theorem q788 : (Jvm.Cond.static ({ cls := "EelPort", name := "right", desc := "(Z)V" } : Jvm.MethodName)) ∈ lw_all := lw_g (lw_at lw_m3 231 rfl) rfl
theorem q789 : (Jvm.Cond.code ({ cls := "EelPort", name := "right", desc := "(Z)V" } : Jvm.MethodName) prog_1_method_2_code (1 : Nat) (Option.none : Option Jvm.ClassFile.FieldType)) ∈ lw_all := lw_g (lw_at lw_m3 232 rfl) rfl
theorem q790 : (Jvm.Cond.classLink "EelPort" (51 : Nat) "java/lang/IllegalArgumentException") ∈ lw_all := lw_g (lw_at lw_m3 233 rfl) rfl
theorem q791 : (Jvm.Cond.methodLink "EelPort" (53 : Nat) ({ cls := "java/lang/IllegalArgumentException", name := "<init>", desc := "()V" } : Jvm.MethodName)) ∈ lw_all := lw_g (lw_at lw_m3 234 rfl) rfl
theorem q801 : (Jvm.Cond.classLink "EelPort" (107 : Nat) "EelPort$Reader") ∈ lw_all := lw_g (lw_at lw_m4 4 rfl) rfl
theorem q803 : (Jvm.Cond.methodLink "EelPort" (109 : Nat) ({ cls := "EelPort$Reader", name := "<init>", desc := "([BI)V" } : Jvm.MethodName)) ∈ lw_all := lw_g (lw_at lw_m4 6 rfl) rfl
theorem q894 : (Jvm.Cond.methodLink "EelPort" (112 : Nat) ({ cls := "EelPort$Reader", name := "port", desc := "()LEelPort$Port;" } : Jvm.MethodName)) ∈ lw_all := lw_g (lw_at lw_m4 97 rfl) rfl
theorem q918 : (Jvm.Cond.fieldLinkNest "EelPort" (181 : Nat) "EelPort$Eel" "owner" "I" "EelPort") ∈ lw_tbl := lw_at lw_m4 121 rfl
theorem q921 : (Jvm.Cond.fieldLinkNest "EelPort" (162 : Nat) "EelPort$Eel" "quay" "I" "EelPort") ∈ lw_tbl := lw_at lw_m4 124 rfl
theorem q924 : (Jvm.Cond.fieldLinkNest "EelPort" (183 : Nat) "EelPort$Eel" "bright" "I" "EelPort") ∈ lw_tbl := lw_at lw_m4 127 rfl
theorem q927 : (Jvm.Cond.fieldLinkNest "EelPort" (186 : Nat) "EelPort$Eel" "hunger" "I" "EelPort") ∈ lw_tbl := lw_at lw_m4 130 rfl
theorem q985 : (Jvm.Cond.fieldLink "EelPort" (194 : Nat) "EelPort$Ship" "quay" "I") ∈ lw_all := lw_g (lw_at lw_m4 188 rfl) rfl
theorem q988 : (Jvm.Cond.fieldLink "EelPort" (195 : Nat) "EelPort$Ship" "hour" "I") ∈ lw_all := lw_g (lw_at lw_m4 191 rfl) rfl
theorem q991 : (Jvm.Cond.fieldLink "EelPort" (198 : Nat) "EelPort$Ship" "sees" "I") ∈ lw_all := lw_g (lw_at lw_m4 194 rfl) rfl
theorem q1052 : (Jvm.Cond.fieldLinkNest "EelPort" (123 : Nat) "EelPort$Fault" "kind" "I" "EelPort") ∈ lw_tbl := lw_at lw_m5 15 rfl
theorem q1054 : (Jvm.Cond.fieldLinkNest "EelPort" (117 : Nat) "EelPort$Fault" "place" "I" "EelPort") ∈ lw_tbl := lw_at lw_m5 17 rfl
theorem q1102 : (Jvm.Cond.selects "EelPort" ({ cls := "java/lang/Object", name := "getClass", desc := "()Ljava/lang/Class;" } : Jvm.MethodName) ({ cls := "java/lang/Object", name := "getClass", desc := "()Ljava/lang/Class;" } : Jvm.MethodName)) ∈ lw_all := lw_g (lw_at lw_m5 65 rfl) rfl
theorem q1167 : (Jvm.Cond.fieldLink "EelPort" (170 : Nat) "EelPort$Quay" "salt" "I") ∈ lw_all := lw_g (lw_at lw_m5 130 rfl) rfl
theorem q1170 : (Jvm.Cond.fieldLink "EelPort" (173 : Nat) "EelPort$Quay" "ways" "I") ∈ lw_all := lw_g (lw_at lw_m5 133 rfl) rfl
theorem q1217 : (Jvm.Cond.instanceMethod ({ cls := "EelPort", name := "count", desc := "(I)I" } : Jvm.MethodName)) ∈ lw_all := lw_g (lw_at lw_m5 180 rfl) rfl
theorem q1218 : (Jvm.Cond.selects "EelPort" ({ cls := "EelPort", name := "count", desc := "(I)I" } : Jvm.MethodName) ({ cls := "EelPort", name := "count", desc := "(I)I" } : Jvm.MethodName)) ∈ lw_all := lw_g (lw_at lw_m5 181 rfl) rfl
theorem q1219 : (Jvm.Cond.code ({ cls := "EelPort", name := "count", desc := "(I)I" } : Jvm.MethodName) prog_1_method_13_code (4 : Nat) (Option.some Jvm.ClassFile.FieldType.int)) ∈ lw_all := lw_g (lw_at lw_m5 182 rfl) rfl
theorem q1220 : (Jvm.Cond.methodLink "EelPort" (61 : Nat) ({ cls := "EelPort", name := "there", desc := "(Z)V" } : Jvm.MethodName)) ∈ lw_all := lw_g (lw_at lw_m5 183 rfl) rfl
theorem q1221 : (Jvm.Cond.static ({ cls := "EelPort", name := "there", desc := "(Z)V" } : Jvm.MethodName)) ∈ lw_all := lw_g (lw_at lw_m5 184 rfl) rfl
theorem q1222 : (Jvm.Cond.code ({ cls := "EelPort", name := "there", desc := "(Z)V" } : Jvm.MethodName) prog_1_method_3_code (1 : Nat) (Option.none : Option Jvm.ClassFile.FieldType)) ∈ lw_all := lw_g (lw_at lw_m5 185 rfl) rfl
theorem q1223 : (Jvm.Cond.classLink "EelPort" (54 : Nat) "java/util/NoSuchElementException") ∈ lw_all := lw_g (lw_at lw_m5 186 rfl) rfl
theorem q1232 : (Jvm.Cond.methodLink "EelPort" (56 : Nat) ({ cls := "java/util/NoSuchElementException", name := "<init>", desc := "()V" } : Jvm.MethodName)) ∈ lw_all := lw_g (lw_at lw_m5 195 rfl) rfl
theorem q1238 : (Jvm.Cond.methodLink "EelPort" (151 : Nat) ({ cls := "EelPort$Port", name := "price", desc := "(I)I" } : Jvm.MethodName)) ∈ lw_all := lw_g (lw_at lw_m5 201 rfl) rfl
theorem q1242 : (Jvm.Cond.methodLink "EelPort" (75 : Nat) ({ cls := "java/util/ArrayList", name := "size", desc := "()I" } : Jvm.MethodName)) ∈ lw_all := lw_g (lw_at lw_m5 205 rfl) rfl
theorem q1247 : (Jvm.Cond.instanceMethod ({ cls := "EelPort", name := "quay", desc := "(II)I" } : Jvm.MethodName)) ∈ lw_all := lw_g (lw_at lw_m5 210 rfl) rfl
theorem q1248 : (Jvm.Cond.selects "EelPort" ({ cls := "EelPort", name := "quay", desc := "(II)I" } : Jvm.MethodName) ({ cls := "EelPort", name := "quay", desc := "(II)I" } : Jvm.MethodName)) ∈ lw_all := lw_g (lw_at lw_m5 211 rfl) rfl
theorem q1249 : (Jvm.Cond.code ({ cls := "EelPort", name := "quay", desc := "(II)I" } : Jvm.MethodName) prog_1_method_14_code (6 : Nat) (Option.some Jvm.ClassFile.FieldType.int)) ∈ lw_all := lw_g (lw_at lw_m5 212 rfl) rfl
theorem q1250 : (Jvm.Cond.methodLink "EelPort" (158 : Nat) ({ cls := "EelPort", name := "quayAt", desc := "(I)LEelPort$Quay;" } : Jvm.MethodName)) ∈ lw_all := lw_g (lw_at lw_m5 213 rfl) rfl
theorem q1251 : (Jvm.Cond.privateMethod ({ cls := "EelPort", name := "quayAt", desc := "(I)LEelPort$Quay;" } : Jvm.MethodName)) ∈ lw_tbl := lw_at lw_m5 214 rfl
theorem q1252 : (Jvm.Cond.instanceMethod ({ cls := "EelPort", name := "quayAt", desc := "(I)LEelPort$Quay;" } : Jvm.MethodName)) ∈ lw_all := lw_g (lw_at lw_m5 215 rfl) rfl
theorem q1253 : (Jvm.Cond.code ({ cls := "EelPort", name := "quayAt", desc := "(I)LEelPort$Quay;" } : Jvm.MethodName) prog_1_method_6_code (2 : Nat) (Option.some (Jvm.ClassFile.FieldType.object "EelPort$Quay"))) ∈ lw_all := lw_g (lw_at lw_m5 216 rfl) rfl
theorem q1254 : (Jvm.Cond.methodLink "EelPort" (81 : Nat) ({ cls := "java/util/ArrayList", name := "get", desc := "(I)Ljava/lang/Object;" } : Jvm.MethodName)) ∈ lw_all := lw_g (lw_at lw_m5 217 rfl) rfl
theorem q1255 : (Jvm.Cond.classLink "EelPort" (85 : Nat) "EelPort$Quay") ∈ lw_all := lw_g (lw_at lw_m5 218 rfl) rfl
theorem q1256 : (Jvm.Cond.classLink "EelPort" (90 : Nat) "EelPort$Eel") ∈ lw_all := lw_g (lw_at lw_m5 219 rfl) rfl
theorem q1257 : (Jvm.Cond.methodLink "EelPort" (165 : Nat) ({ cls := "EelPort$Quay", name := "kind", desc := "()I" } : Jvm.MethodName)) ∈ lw_all := lw_g (lw_at lw_m5 220 rfl) rfl
theorem q1272 : (Jvm.Cond.methodLink "EelPort" (167 : Nat) ({ cls := "EelPort$Quay", name := "owner", desc := "()I" } : Jvm.MethodName)) ∈ lw_all := lw_g (lw_at lw_m5 235 rfl) rfl
theorem q1286 : (Jvm.Cond.instanceMethod ({ cls := "EelPort", name := "eel", desc := "(II)I" } : Jvm.MethodName)) ∈ lw_all := lw_g (lw_at lw_m6 9 rfl) rfl
theorem q1287 : (Jvm.Cond.selects "EelPort" ({ cls := "EelPort", name := "eel", desc := "(II)I" } : Jvm.MethodName) ({ cls := "EelPort", name := "eel", desc := "(II)I" } : Jvm.MethodName)) ∈ lw_all := lw_g (lw_at lw_m6 10 rfl) rfl
theorem q1288 : (Jvm.Cond.code ({ cls := "EelPort", name := "eel", desc := "(II)I" } : Jvm.MethodName) prog_1_method_15_code (4 : Nat) (Option.some Jvm.ClassFile.FieldType.int)) ∈ lw_all := lw_g (lw_at lw_m6 11 rfl) rfl
theorem q1289 : (Jvm.Cond.methodLink "EelPort" (176 : Nat) ({ cls := "EelPort", name := "eelAt", desc := "(I)LEelPort$Eel;" } : Jvm.MethodName)) ∈ lw_all := lw_g (lw_at lw_m6 12 rfl) rfl
theorem q1290 : (Jvm.Cond.privateMethod ({ cls := "EelPort", name := "eelAt", desc := "(I)LEelPort$Eel;" } : Jvm.MethodName)) ∈ lw_tbl := lw_at lw_m6 13 rfl
theorem q1291 : (Jvm.Cond.instanceMethod ({ cls := "EelPort", name := "eelAt", desc := "(I)LEelPort$Eel;" } : Jvm.MethodName)) ∈ lw_all := lw_g (lw_at lw_m6 14 rfl) rfl
theorem q1292 : (Jvm.Cond.code ({ cls := "EelPort", name := "eelAt", desc := "(I)LEelPort$Eel;" } : Jvm.MethodName) prog_1_method_7_code (2 : Nat) (Option.some (Jvm.ClassFile.FieldType.object "EelPort$Eel"))) ∈ lw_all := lw_g (lw_at lw_m6 15 rfl) rfl
theorem q1293 : (Jvm.Cond.methodLink "EelPort" (180 : Nat) ({ cls := "EelPort$Eel", name := "kind", desc := "()I" } : Jvm.MethodName)) ∈ lw_all := lw_g (lw_at lw_m6 16 rfl) rfl
theorem q1311 : (Jvm.Cond.instanceMethod ({ cls := "EelPort", name := "ship", desc := "(II)I" } : Jvm.MethodName)) ∈ lw_all := lw_g (lw_at lw_m6 34 rfl) rfl
theorem q1312 : (Jvm.Cond.selects "EelPort" ({ cls := "EelPort", name := "ship", desc := "(II)I" } : Jvm.MethodName) ({ cls := "EelPort", name := "ship", desc := "(II)I" } : Jvm.MethodName)) ∈ lw_all := lw_g (lw_at lw_m6 35 rfl) rfl
theorem q1313 : (Jvm.Cond.code ({ cls := "EelPort", name := "ship", desc := "(II)I" } : Jvm.MethodName) prog_1_method_16_code (4 : Nat) (Option.some Jvm.ClassFile.FieldType.int)) ∈ lw_all := lw_g (lw_at lw_m6 36 rfl) rfl
theorem q1314 : (Jvm.Cond.methodLink "EelPort" (189 : Nat) ({ cls := "EelPort", name := "shipAt", desc := "(I)LEelPort$Ship;" } : Jvm.MethodName)) ∈ lw_all := lw_g (lw_at lw_m6 37 rfl) rfl
theorem q1315 : (Jvm.Cond.privateMethod ({ cls := "EelPort", name := "shipAt", desc := "(I)LEelPort$Ship;" } : Jvm.MethodName)) ∈ lw_tbl := lw_at lw_m6 38 rfl
theorem q1316 : (Jvm.Cond.instanceMethod ({ cls := "EelPort", name := "shipAt", desc := "(I)LEelPort$Ship;" } : Jvm.MethodName)) ∈ lw_all := lw_g (lw_at lw_m6 39 rfl) rfl
theorem q1317 : (Jvm.Cond.code ({ cls := "EelPort", name := "shipAt", desc := "(I)LEelPort$Ship;" } : Jvm.MethodName) prog_1_method_8_code (2 : Nat) (Option.some (Jvm.ClassFile.FieldType.object "EelPort$Ship"))) ∈ lw_all := lw_g (lw_at lw_m6 40 rfl) rfl
theorem q1318 : (Jvm.Cond.classLink "EelPort" (95 : Nat) "EelPort$Ship") ∈ lw_all := lw_g (lw_at lw_m6 41 rfl) rfl
theorem q1319 : (Jvm.Cond.methodLink "EelPort" (193 : Nat) ({ cls := "EelPort$Ship", name := "kind", desc := "()I" } : Jvm.MethodName)) ∈ lw_all := lw_g (lw_at lw_m6 42 rfl) rfl
theorem q1338 : (Jvm.Cond.instanceMethod ({ cls := "EelPort", name := "meal", desc := "(III)I" } : Jvm.MethodName)) ∈ lw_all := lw_g (lw_at lw_m6 61 rfl) rfl
theorem q1339 : (Jvm.Cond.selects "EelPort" ({ cls := "EelPort", name := "meal", desc := "(III)I" } : Jvm.MethodName) ({ cls := "EelPort", name := "meal", desc := "(III)I" } : Jvm.MethodName)) ∈ lw_all := lw_g (lw_at lw_m6 62 rfl) rfl
theorem q1340 : (Jvm.Cond.code ({ cls := "EelPort", name := "meal", desc := "(III)I" } : Jvm.MethodName) prog_1_method_18_code (4 : Nat) (Option.some Jvm.ClassFile.FieldType.int)) ∈ lw_all := lw_g (lw_at lw_m6 63 rfl) rfl
theorem q1341 : (Jvm.Cond.methodLink "EelPort" (201 : Nat) ({ cls := "EelPort", name := "hourAt", desc := "(I)V" } : Jvm.MethodName)) ∈ lw_all := lw_g (lw_at lw_m6 64 rfl) rfl
theorem q1342 : (Jvm.Cond.static ({ cls := "EelPort", name := "hourAt", desc := "(I)V" } : Jvm.MethodName)) ∈ lw_all := lw_g (lw_at lw_m6 65 rfl) rfl
theorem q1343 : (Jvm.Cond.code ({ cls := "EelPort", name := "hourAt", desc := "(I)V" } : Jvm.MethodName) prog_1_method_5_code (1 : Nat) (Option.none : Option Jvm.ClassFile.FieldType)) ∈ lw_all := lw_g (lw_at lw_m6 66 rfl) rfl
theorem q1344 : (Jvm.Cond.methodLink "EelPort" (204 : Nat) ({ cls := "EelPort", name := "refuses", desc := "(I)I" } : Jvm.MethodName)) ∈ lw_all := lw_g (lw_at lw_m6 67 rfl) rfl
theorem q1345 : (Jvm.Cond.privateMethod ({ cls := "EelPort", name := "refuses", desc := "(I)I" } : Jvm.MethodName)) ∈ lw_tbl := lw_at lw_m6 68 rfl
theorem q1346 : (Jvm.Cond.instanceMethod ({ cls := "EelPort", name := "refuses", desc := "(I)I" } : Jvm.MethodName)) ∈ lw_all := lw_g (lw_at lw_m6 69 rfl) rfl
theorem q1347 : (Jvm.Cond.code ({ cls := "EelPort", name := "refuses", desc := "(I)I" } : Jvm.MethodName) prog_1_method_17_code (2 : Nat) (Option.some Jvm.ClassFile.FieldType.int)) ∈ lw_all := lw_g (lw_at lw_m6 70 rfl) rfl
theorem q1348 : (Jvm.Cond.methodLink "EelPort" (207 : Nat) ({ cls := "EelPort$Lit", name := "adds", desc := "(III)V" } : Jvm.MethodName)) ∈ lw_all := lw_g (lw_at lw_m6 71 rfl) rfl
theorem q1356 : (Jvm.Cond.instanceMethod ({ cls := "EelPort", name := "hunger", desc := "(II)I" } : Jvm.MethodName)) ∈ lw_all := lw_g (lw_at lw_m6 79 rfl) rfl
theorem q1357 : (Jvm.Cond.selects "EelPort" ({ cls := "EelPort", name := "hunger", desc := "(II)I" } : Jvm.MethodName) ({ cls := "EelPort", name := "hunger", desc := "(II)I" } : Jvm.MethodName)) ∈ lw_all := lw_g (lw_at lw_m6 80 rfl) rfl
theorem q1358 : (Jvm.Cond.code ({ cls := "EelPort", name := "hunger", desc := "(II)I" } : Jvm.MethodName) prog_1_method_21_code (3 : Nat) (Option.some Jvm.ClassFile.FieldType.int)) ∈ lw_all := lw_g (lw_at lw_m6 81 rfl) rfl
theorem q1363 : (Jvm.Cond.instanceMethod ({ cls := "EelPort", name := "glow", desc := "(II)I" } : Jvm.MethodName)) ∈ lw_all := lw_g (lw_at lw_m6 86 rfl) rfl
theorem q1364 : (Jvm.Cond.selects "EelPort" ({ cls := "EelPort", name := "glow", desc := "(II)I" } : Jvm.MethodName) ({ cls := "EelPort", name := "glow", desc := "(II)I" } : Jvm.MethodName)) ∈ lw_all := lw_g (lw_at lw_m6 87 rfl) rfl
theorem q1365 : (Jvm.Cond.code ({ cls := "EelPort", name := "glow", desc := "(II)I" } : Jvm.MethodName) prog_1_method_22_code (3 : Nat) (Option.some Jvm.ClassFile.FieldType.int)) ∈ lw_all := lw_g (lw_at lw_m6 88 rfl) rfl
theorem q1370 : (Jvm.Cond.instanceMethod ({ cls := "EelPort", name := "led", desc := "(II)I" } : Jvm.MethodName)) ∈ lw_all := lw_g (lw_at lw_m6 93 rfl) rfl
theorem q1371 : (Jvm.Cond.selects "EelPort" ({ cls := "EelPort", name := "led", desc := "(II)I" } : Jvm.MethodName) ({ cls := "EelPort", name := "led", desc := "(II)I" } : Jvm.MethodName)) ∈ lw_all := lw_g (lw_at lw_m6 94 rfl) rfl
theorem q1372 : (Jvm.Cond.code ({ cls := "EelPort", name := "led", desc := "(II)I" } : Jvm.MethodName) prog_1_method_23_code (9 : Nat) (Option.some Jvm.ClassFile.FieldType.int)) ∈ lw_all := lw_g (lw_at lw_m6 95 rfl) rfl
theorem q1373 : (Jvm.Cond.methodLink "EelPort" (221 : Nat) ({ cls := "java/lang/Math", name := "max", desc := "(II)I" } : Jvm.MethodName)) ∈ lw_all := lw_g (lw_at lw_m6 96 rfl) rfl
theorem q1374 : (Jvm.Cond.methodLink "EelPort" (227 : Nat) ({ cls := "EelPort$Eel", name := "grows", desc := "()I" } : Jvm.MethodName)) ∈ lw_all := lw_g (lw_at lw_m6 97 rfl) rfl
theorem q1375 : (Jvm.Cond.methodLink "EelPort" (230 : Nat) ({ cls := "java/lang/Math", name := "min", desc := "(II)I" } : Jvm.MethodName)) ∈ lw_all := lw_g (lw_at lw_m6 98 rfl) rfl
theorem q1380 : (Jvm.Cond.instanceMethod ({ cls := "EelPort", name := "light", desc := "(II)I" } : Jvm.MethodName)) ∈ lw_all := lw_g (lw_at lw_m6 103 rfl) rfl
theorem q1381 : (Jvm.Cond.selects "EelPort" ({ cls := "EelPort", name := "light", desc := "(II)I" } : Jvm.MethodName) ({ cls := "EelPort", name := "light", desc := "(II)I" } : Jvm.MethodName)) ∈ lw_all := lw_g (lw_at lw_m6 104 rfl) rfl
theorem q1382 : (Jvm.Cond.code ({ cls := "EelPort", name := "light", desc := "(II)I" } : Jvm.MethodName) prog_1_method_24_code (3 : Nat) (Option.some Jvm.ClassFile.FieldType.int)) ∈ lw_all := lw_g (lw_at lw_m6 105 rfl) rfl
theorem q1383 : (Jvm.Cond.methodLink "EelPort" (233 : Nat) ({ cls := "EelPort$Lit", name := "light", desc := "(II)I" } : Jvm.MethodName)) ∈ lw_all := lw_g (lw_at lw_m6 106 rfl) rfl
theorem q1402 : (Jvm.Cond.instanceMethod ({ cls := "EelPort", name := "at", desc := "(II)I" } : Jvm.MethodName)) ∈ lw_all := lw_g (lw_at lw_m6 125 rfl) rfl
theorem q1403 : (Jvm.Cond.selects "EelPort" ({ cls := "EelPort", name := "at", desc := "(II)I" } : Jvm.MethodName) ({ cls := "EelPort", name := "at", desc := "(II)I" } : Jvm.MethodName)) ∈ lw_all := lw_g (lw_at lw_m6 126 rfl) rfl
theorem q1404 : (Jvm.Cond.code ({ cls := "EelPort", name := "at", desc := "(II)I" } : Jvm.MethodName) prog_1_method_25_code (4 : Nat) (Option.some Jvm.ClassFile.FieldType.int)) ∈ lw_all := lw_g (lw_at lw_m6 127 rfl) rfl
theorem q1405 : (Jvm.Cond.methodLink "EelPort" (236 : Nat) ({ cls := "EelPort$Lit", name := "at", desc := "(LEelPort$Ship;I)I" } : Jvm.MethodName)) ∈ lw_all := lw_g (lw_at lw_m6 128 rfl) rfl
theorem q1471 : (Jvm.Cond.instanceMethod ({ cls := "EelPort", name := "end", desc := "(II)I" } : Jvm.MethodName)) ∈ lw_all := lw_g (lw_at lw_m6 194 rfl) rfl
theorem q1472 : (Jvm.Cond.selects "EelPort" ({ cls := "EelPort", name := "end", desc := "(II)I" } : Jvm.MethodName) ({ cls := "EelPort", name := "end", desc := "(II)I" } : Jvm.MethodName)) ∈ lw_all := lw_g (lw_at lw_m6 195 rfl) rfl
theorem q1473 : (Jvm.Cond.code ({ cls := "EelPort", name := "end", desc := "(II)I" } : Jvm.MethodName) prog_1_method_26_code (6 : Nat) (Option.some Jvm.ClassFile.FieldType.int)) ∈ lw_all := lw_g (lw_at lw_m6 196 rfl) rfl
theorem q1474 : (Jvm.Cond.methodLink "EelPort" (240 : Nat) ({ cls := "EelPort$Lit", name := "end", desc := "(LEelPort$Ship;)I" } : Jvm.MethodName)) ∈ lw_all := lw_g (lw_at lw_m6 197 rfl) rfl
theorem q1483 : (Jvm.Cond.instanceMethod ({ cls := "EelPort", name := "plan", desc := "(IIII)I" } : Jvm.MethodName)) ∈ lw_all := lw_g (lw_at lw_m6 206 rfl) rfl
theorem q1484 : (Jvm.Cond.selects "EelPort" ({ cls := "EelPort", name := "plan", desc := "(IIII)I" } : Jvm.MethodName) ({ cls := "EelPort", name := "plan", desc := "(IIII)I" } : Jvm.MethodName)) ∈ lw_all := lw_g (lw_at lw_m6 207 rfl) rfl
theorem q1485 : (Jvm.Cond.code ({ cls := "EelPort", name := "plan", desc := "(IIII)I" } : Jvm.MethodName) prog_1_method_28_code (7 : Nat) (Option.some Jvm.ClassFile.FieldType.int)) ∈ lw_all := lw_g (lw_at lw_m6 208 rfl) rfl
theorem q1486 : (Jvm.Cond.methodLink "EelPort" (257 : Nat) ({ cls := "EelPort$Lit", name := "like", desc := "(LEelPort$Lit;)V" } : Jvm.MethodName)) ∈ lw_all := lw_g (lw_at lw_m6 209 rfl) rfl
theorem q1487 : (Jvm.Cond.methodLink "EelPort" (253 : Nat) ({ cls := "EelPort", name := "plans", desc := "(LEelPort$Ship;LEelPort$Ship;IIII)V" } : Jvm.MethodName)) ∈ lw_all := lw_g (lw_at lw_m6 210 rfl) rfl
theorem q1488 : (Jvm.Cond.privateMethod ({ cls := "EelPort", name := "plans", desc := "(LEelPort$Ship;LEelPort$Ship;IIII)V" } : Jvm.MethodName)) ∈ lw_tbl := lw_at lw_m6 211 rfl
theorem q1489 : (Jvm.Cond.instanceMethod ({ cls := "EelPort", name := "plans", desc := "(LEelPort$Ship;LEelPort$Ship;IIII)V" } : Jvm.MethodName)) ∈ lw_all := lw_g (lw_at lw_m6 212 rfl) rfl
theorem q1490 : (Jvm.Cond.code ({ cls := "EelPort", name := "plans", desc := "(LEelPort$Ship;LEelPort$Ship;IIII)V" } : Jvm.MethodName) prog_1_method_27_code (8 : Nat) (Option.none : Option Jvm.ClassFile.FieldType)) ∈ lw_all := lw_g (lw_at lw_m6 213 rfl) rfl
theorem q1491 : (Jvm.Cond.methodLink "EelPort" (247 : Nat) ({ cls := "java/lang/System", name := "arraycopy", desc := "(Ljava/lang/Object;ILjava/lang/Object;II)V" } : Jvm.MethodName)) ∈ lw_all := lw_g (lw_at lw_m6 214 rfl) rfl
theorem q1496 : (Jvm.Cond.instanceMethod ({ cls := "EelPort", name := "planned", desc := "(I)I" } : Jvm.MethodName)) ∈ lw_all := lw_g (lw_at lw_m6 219 rfl) rfl
theorem q1497 : (Jvm.Cond.selects "EelPort" ({ cls := "EelPort", name := "planned", desc := "(I)I" } : Jvm.MethodName) ({ cls := "EelPort", name := "planned", desc := "(I)I" } : Jvm.MethodName)) ∈ lw_all := lw_g (lw_at lw_m6 220 rfl) rfl
theorem q1498 : (Jvm.Cond.code ({ cls := "EelPort", name := "planned", desc := "(I)I" } : Jvm.MethodName) prog_1_method_29_code (2 : Nat) (Option.some Jvm.ClassFile.FieldType.int)) ∈ lw_all := lw_g (lw_at lw_m6 221 rfl) rfl
theorem q1503 : (Jvm.Cond.instanceMethod ({ cls := "EelPort", name := "odds", desc := "(II)I" } : Jvm.MethodName)) ∈ lw_all := lw_g (lw_at lw_m6 226 rfl) rfl
theorem q1504 : (Jvm.Cond.selects "EelPort" ({ cls := "EelPort", name := "odds", desc := "(II)I" } : Jvm.MethodName) ({ cls := "EelPort", name := "odds", desc := "(II)I" } : Jvm.MethodName)) ∈ lw_all := lw_g (lw_at lw_m6 227 rfl) rfl
theorem q1505 : (Jvm.Cond.code ({ cls := "EelPort", name := "odds", desc := "(II)I" } : Jvm.MethodName) prog_1_method_31_code (7 : Nat) (Option.some Jvm.ClassFile.FieldType.int)) ∈ lw_all := lw_g (lw_at lw_m6 228 rfl) rfl
theorem q1506 : (Jvm.Cond.methodLink "EelPort" (261 : Nat) ({ cls := "EelPort$Port", name := "weights", desc := "()I" } : Jvm.MethodName)) ∈ lw_all := lw_g (lw_at lw_m6 229 rfl) rfl
theorem q1510 : (Jvm.Cond.methodLink "EelPort" (264 : Nat) ({ cls := "EelPort", name := "common", desc := "(II)I" } : Jvm.MethodName)) ∈ lw_all := lw_g (lw_at lw_m6 233 rfl) rfl
theorem q1511 : (Jvm.Cond.static ({ cls := "EelPort", name := "common", desc := "(II)I" } : Jvm.MethodName)) ∈ lw_all := lw_g (lw_at lw_m6 234 rfl) rfl
theorem q1512 : (Jvm.Cond.code ({ cls := "EelPort", name := "common", desc := "(II)I" } : Jvm.MethodName) prog_1_method_30_code (5 : Nat) (Option.some Jvm.ClassFile.FieldType.int)) ∈ lw_all := lw_g (lw_at lw_m6 235 rfl) rfl
theorem q1517 : (Jvm.Cond.instanceMethod ({ cls := "EelPort", name := "bright", desc := "(IIIII)I" } : Jvm.MethodName)) ∈ lw_all := lw_g (lw_at lw_m7 0 rfl) rfl
theorem q1518 : (Jvm.Cond.selects "EelPort" ({ cls := "EelPort", name := "bright", desc := "(IIIII)I" } : Jvm.MethodName) ({ cls := "EelPort", name := "bright", desc := "(IIIII)I" } : Jvm.MethodName)) ∈ lw_all := lw_g (lw_at lw_m7 1 rfl) rfl
theorem q1519 : (Jvm.Cond.code ({ cls := "EelPort", name := "bright", desc := "(IIIII)I" } : Jvm.MethodName) prog_1_method_33_code (7 : Nat) (Option.some Jvm.ClassFile.FieldType.int)) ∈ lw_all := lw_g (lw_at lw_m7 2 rfl) rfl
theorem q1520 : (Jvm.Cond.methodLink "EelPort" (273 : Nat) ({ cls := "EelPort", name := "keeps", desc := "(IIIIII)Z" } : Jvm.MethodName)) ∈ lw_all := lw_g (lw_at lw_m7 3 rfl) rfl
theorem q1521 : (Jvm.Cond.privateMethod ({ cls := "EelPort", name := "keeps", desc := "(IIIIII)Z" } : Jvm.MethodName)) ∈ lw_tbl := lw_at lw_m7 4 rfl
theorem q1522 : (Jvm.Cond.instanceMethod ({ cls := "EelPort", name := "keeps", desc := "(IIIIII)Z" } : Jvm.MethodName)) ∈ lw_all := lw_g (lw_at lw_m7 5 rfl) rfl
theorem q1523 : (Jvm.Cond.code ({ cls := "EelPort", name := "keeps", desc := "(IIIIII)Z" } : Jvm.MethodName) prog_1_method_32_code (9 : Nat) (Option.some Jvm.ClassFile.FieldType.boolean)) ∈ lw_all := lw_g (lw_at lw_m7 6 rfl) rfl
theorem q1524 : (Jvm.Cond.methodLink "EelPort" (270 : Nat) ({ cls := "EelPort$Lit", name := "shinesAt", desc := "(I)V" } : Jvm.MethodName)) ∈ lw_all := lw_g (lw_at lw_m7 7 rfl) rfl
theorem q1532 : (Jvm.Cond.instanceMethod ({ cls := "EelPort", name := "rivals", desc := "(II)I" } : Jvm.MethodName)) ∈ lw_all := lw_g (lw_at lw_m7 15 rfl) rfl
theorem q1533 : (Jvm.Cond.selects "EelPort" ({ cls := "EelPort", name := "rivals", desc := "(II)I" } : Jvm.MethodName) ({ cls := "EelPort", name := "rivals", desc := "(II)I" } : Jvm.MethodName)) ∈ lw_all := lw_g (lw_at lw_m7 16 rfl) rfl
theorem q1534 : (Jvm.Cond.code ({ cls := "EelPort", name := "rivals", desc := "(II)I" } : Jvm.MethodName) prog_1_method_36_code (9 : Nat) (Option.some Jvm.ClassFile.FieldType.int)) ∈ lw_all := lw_g (lw_at lw_m7 17 rfl) rfl
theorem q1535 : (Jvm.Cond.methodLink "EelPort" (280 : Nat) ({ cls := "EelPort", name := "isHis", desc := "(II)Z" } : Jvm.MethodName)) ∈ lw_all := lw_g (lw_at lw_m7 18 rfl) rfl
theorem q1536 : (Jvm.Cond.privateMethod ({ cls := "EelPort", name := "isHis", desc := "(II)Z" } : Jvm.MethodName)) ∈ lw_tbl := lw_at lw_m7 19 rfl
theorem q1537 : (Jvm.Cond.instanceMethod ({ cls := "EelPort", name := "isHis", desc := "(II)Z" } : Jvm.MethodName)) ∈ lw_all := lw_g (lw_at lw_m7 20 rfl) rfl
theorem q1538 : (Jvm.Cond.code ({ cls := "EelPort", name := "isHis", desc := "(II)Z" } : Jvm.MethodName) prog_1_method_34_code (3 : Nat) (Option.some Jvm.ClassFile.FieldType.boolean)) ∈ lw_all := lw_g (lw_at lw_m7 21 rfl) rfl
theorem q1539 : (Jvm.Cond.methodLink "EelPort" (284 : Nat) ({ cls := "EelPort", name := "gainOf", desc := "(II)I" } : Jvm.MethodName)) ∈ lw_all := lw_g (lw_at lw_m7 22 rfl) rfl
theorem q1540 : (Jvm.Cond.privateMethod ({ cls := "EelPort", name := "gainOf", desc := "(II)I" } : Jvm.MethodName)) ∈ lw_tbl := lw_at lw_m7 23 rfl
theorem q1541 : (Jvm.Cond.instanceMethod ({ cls := "EelPort", name := "gainOf", desc := "(II)I" } : Jvm.MethodName)) ∈ lw_all := lw_g (lw_at lw_m7 24 rfl) rfl
theorem q1542 : (Jvm.Cond.code ({ cls := "EelPort", name := "gainOf", desc := "(II)I" } : Jvm.MethodName) prog_1_method_35_code (6 : Nat) (Option.some Jvm.ClassFile.FieldType.int)) ∈ lw_all := lw_g (lw_at lw_m7 25 rfl) rfl
theorem q1547 : (Jvm.Cond.instanceMethod ({ cls := "EelPort", name := "shone", desc := "(III)I" } : Jvm.MethodName)) ∈ lw_all := lw_g (lw_at lw_m7 30 rfl) rfl
theorem q1548 : (Jvm.Cond.selects "EelPort" ({ cls := "EelPort", name := "shone", desc := "(III)I" } : Jvm.MethodName) ({ cls := "EelPort", name := "shone", desc := "(III)I" } : Jvm.MethodName)) ∈ lw_all := lw_g (lw_at lw_m7 31 rfl) rfl
theorem q1549 : (Jvm.Cond.code ({ cls := "EelPort", name := "shone", desc := "(III)I" } : Jvm.MethodName) prog_1_method_37_code (5 : Nat) (Option.some Jvm.ClassFile.FieldType.int)) ∈ lw_all := lw_g (lw_at lw_m7 32 rfl) rfl
theorem q1554 : (Jvm.Cond.instanceMethod ({ cls := "EelPort", name := "where", desc := "(I)I" } : Jvm.MethodName)) ∈ lw_all := lw_g (lw_at lw_m7 37 rfl) rfl
theorem q1555 : (Jvm.Cond.selects "EelPort" ({ cls := "EelPort", name := "where", desc := "(I)I" } : Jvm.MethodName) ({ cls := "EelPort", name := "where", desc := "(I)I" } : Jvm.MethodName)) ∈ lw_all := lw_g (lw_at lw_m7 38 rfl) rfl
theorem q1556 : (Jvm.Cond.code ({ cls := "EelPort", name := "where", desc := "(I)I" } : Jvm.MethodName) prog_1_method_41_code (6 : Nat) (Option.some Jvm.ClassFile.FieldType.int)) ∈ lw_all := lw_g (lw_at lw_m7 39 rfl) rfl
theorem q1557 : (Jvm.Cond.methodLink "EelPort" (297 : Nat) ({ cls := "EelPort", name := "isCase", desc := "(I)Z" } : Jvm.MethodName)) ∈ lw_all := lw_g (lw_at lw_m7 40 rfl) rfl
theorem q1558 : (Jvm.Cond.privateMethod ({ cls := "EelPort", name := "isCase", desc := "(I)Z" } : Jvm.MethodName)) ∈ lw_tbl := lw_at lw_m7 41 rfl
theorem q1559 : (Jvm.Cond.instanceMethod ({ cls := "EelPort", name := "isCase", desc := "(I)Z" } : Jvm.MethodName)) ∈ lw_all := lw_g (lw_at lw_m7 42 rfl) rfl
theorem q1560 : (Jvm.Cond.code ({ cls := "EelPort", name := "isCase", desc := "(I)Z" } : Jvm.MethodName) prog_1_method_40_code (7 : Nat) (Option.some Jvm.ClassFile.FieldType.boolean)) ∈ lw_all := lw_g (lw_at lw_m7 43 rfl) rfl
theorem q1561 : (Jvm.Cond.methodLink "EelPort" (292 : Nat) ({ cls := "EelPort$Quay", name := "lit", desc := "(I)I" } : Jvm.MethodName)) ∈ lw_all := lw_g (lw_at lw_m7 44 rfl) rfl
theorem q1562 : (Jvm.Cond.methodLink "EelPort" (294 : Nat) ({ cls := "EelPort", name := "placed", desc := "(II)I" } : Jvm.MethodName)) ∈ lw_all := lw_g (lw_at lw_m7 45 rfl) rfl
theorem q1563 : (Jvm.Cond.privateMethod ({ cls := "EelPort", name := "placed", desc := "(II)I" } : Jvm.MethodName)) ∈ lw_tbl := lw_at lw_m7 46 rfl
theorem q1564 : (Jvm.Cond.instanceMethod ({ cls := "EelPort", name := "placed", desc := "(II)I" } : Jvm.MethodName)) ∈ lw_all := lw_g (lw_at lw_m7 47 rfl) rfl
theorem q1565 : (Jvm.Cond.code ({ cls := "EelPort", name := "placed", desc := "(II)I" } : Jvm.MethodName) prog_1_method_39_code (5 : Nat) (Option.some Jvm.ClassFile.FieldType.int)) ∈ lw_all := lw_g (lw_at lw_m7 48 rfl) rfl
theorem q1570 : (Jvm.Cond.instanceMethod ({ cls := "EelPort", name := "nights", desc := "(III)I" } : Jvm.MethodName)) ∈ lw_all := lw_g (lw_at lw_m7 53 rfl) rfl
theorem q1571 : (Jvm.Cond.selects "EelPort" ({ cls := "EelPort", name := "nights", desc := "(III)I" } : Jvm.MethodName) ({ cls := "EelPort", name := "nights", desc := "(III)I" } : Jvm.MethodName)) ∈ lw_all := lw_g (lw_at lw_m7 54 rfl) rfl
theorem q1572 : (Jvm.Cond.code ({ cls := "EelPort", name := "nights", desc := "(III)I" } : Jvm.MethodName) prog_1_method_42_code (11 : Nat) (Option.some Jvm.ClassFile.FieldType.int)) ∈ lw_all := lw_g (lw_at lw_m7 55 rfl) rfl
theorem q1573 : (Jvm.Cond.constant "EelPort" (301 : Nat) (1103515245 : Int32)) ∈ lw_all := lw_g (lw_at lw_m7 56 rfl) rfl
theorem q2197 : (Jvm.Cond.castable "EelPort" "java/lang/Object") ∈ lw_tbl := lw_at lw_m9 200 rfl
theorem in_X1 : ∀ w ∈ wsX10, w ∈ lw_all := lw_in wsX10 [629, 631, 633, 635, 637, 639, 641, 643, 645, 647, 649, 651, 653, 655] (by decide +kernel) (by decide +kernel)
