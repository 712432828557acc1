/-! EelPort$Eel -/
set_option maxRecDepth 100000
def RX7 : String := "EelPort$Eel"
def TX7 : u_T := fun k => match k with
  | 0 => ("EelPort$Eel", "owner", "I", false)
  | 1 => ("EelPort$Eel", "quay", "I", false)
  | 2 => ("EelPort$Eel", "bright", "I", false)
  | _ => ("EelPort$Eel", "hunger", "I", false)
def tyX7 : Nat → FieldType := fun k => match k with
  | 0 => .int
  | 1 => .int
  | 2 => .int
  | _ => .int
abbrev wsX70 : List Cond := u_ws RX7 TX7 4
theorem nmX7 : ∀ a, a < 4 → ∀ b, b < 4 → a ≠ b → (TX7 a).2.1 ≠ (TX7 b).2.1 := by decide +kernel
theorem tyX7_ok : ∀ k, k < 4 → parseFieldDescriptor (TX7 k).2.2.1 = some (tyX7 k) := by decide +kernel
abbrev cX7_glow : ByteArray := prog_5_method_5_code
def yX7_glow : MethodName := ⟨RX7, "glow", "(III)I"⟩
def dkwX7_glow_0 : List UInt8 := [3, 42, 180, 0, 7, 42, 27, 182, 0, 13, 100, 28, 100, 184, 0, 17, 172]
abbrev dktX7_glow_0 : List UInt8 := dkwX7_glow_0 ++ []
theorem dksX7_glow_0 : cX7_glow.data.toList.drop 0 = dktX7_glow_0 := by decide +kernel
theorem dX7_glow_0 : decode cX7_glow 0 = .ok (.iconst 0, 1) := dk_3 (dk_at dksX7_glow_0 0 rfl rfl)
theorem dX7_glow_1 : decode cX7_glow 1 = .ok (.aload_n 0, 1) := dk_42 (dk_at dksX7_glow_0 1 rfl rfl)
theorem dX7_glow_2 : decode cX7_glow 2 = .ok (.getfield 7, 3) := dk_180 0 7 (dk_at dksX7_glow_0 2 rfl rfl)
theorem dX7_glow_5 : decode cX7_glow 5 = .ok (.aload_n 0, 1) := dk_42 (dk_at dksX7_glow_0 5 rfl rfl)
theorem dX7_glow_6 : decode cX7_glow 6 = .ok (.iload_n 1, 1) := dk_27 (dk_at dksX7_glow_0 6 rfl rfl)
theorem dX7_glow_7 : decode cX7_glow 7 = .ok (.invokevirtual 13, 3) := dk_182 0 13 (dk_at dksX7_glow_0 7 rfl rfl)
theorem dX7_glow_10 : decode cX7_glow 10 = .ok (.isub, 1) := dk_100 (dk_at dksX7_glow_0 10 rfl rfl)
theorem dX7_glow_11 : decode cX7_glow 11 = .ok (.iload_n 2, 1) := dk_28 (dk_at dksX7_glow_0 11 rfl rfl)
theorem dX7_glow_12 : decode cX7_glow 12 = .ok (.isub, 1) := dk_100 (dk_at dksX7_glow_0 12 rfl rfl)
theorem dX7_glow_13 : decode cX7_glow 13 = .ok (.invokestatic 17, 3) := dk_184 0 17 (dk_at dksX7_glow_0 13 rfl rfl)
theorem dX7_glow_16 : decode cX7_glow 16 = .ok (.ireturn, 1) := dk_172 (dk_at dksX7_glow_0 16 rfl rfl)
abbrev cX7_counts : ByteArray := prog_5_method_4_code
def yX7_counts : MethodName := ⟨RX7, "counts", "(I)I"⟩
theorem dX7_counts_0 : decode cX7_counts 0 = .ok (.iload_n 1, 1) := by decide +kernel
theorem dX7_counts_1 : decode cX7_counts 1 = .ok (.ireturn, 1) := by decide +kernel
abbrev cX7_grows : ByteArray := prog_5_method_3_code
def yX7_grows : MethodName := ⟨RX7, "grows", "()I"⟩
theorem dX7_grows_0 : decode cX7_grows 0 = .ok (.iconst 1, 1) := by decide +kernel
theorem dX7_grows_1 : decode cX7_grows 1 = .ok (.ireturn, 1) := by decide +kernel
abbrev cX7_init : ByteArray := prog_5_method_1_code
def yX7_init : MethodName := ⟨RX7, "<init>", "()V"⟩
theorem dX7_init_0 : decode cX7_init 0 = .ok (.aload_n 0, 1) := by decide +kernel
theorem dX7_init_1 : decode cX7_init 1 = .ok (.invokespecial 1, 3) := by decide +kernel
theorem dX7_init_4 : decode cX7_init 4 = .ok (.return_, 1) := by decide +kernel
abbrev cX7_kind : ByteArray := prog_5_method_2_code
def yX7_kind : MethodName := ⟨RX7, "kind", "()I"⟩
theorem dX7_kind_0 : decode cX7_kind 0 = .ok (.iconst 0, 1) := by decide +kernel
theorem dX7_kind_1 : decode cX7_kind 1 = .ok (.ireturn, 1) := by decide +kernel
theorem q105 : (Jvm.Cond.initialized "EelPort$Eel") ∈ lw_all := lw_g (lw_at lw_m1 28 rfl) rfl
theorem q707 : (Jvm.Cond.instanceMethod ({ cls := "EelPort$Eel", name := "glow", desc := "(III)I" } : Jvm.MethodName)) ∈ lw_all := lw_g (lw_at lw_m3 150 rfl) rfl
theorem q708 : (Jvm.Cond.selects "EelPort$Eel" ({ cls := "EelPort$Eel", name := "glow", desc := "(III)I" } : Jvm.MethodName) ({ cls := "EelPort$Eel", name := "glow", desc := "(III)I" } : Jvm.MethodName)) ∈ lw_all := lw_g (lw_at lw_m3 151 rfl) rfl
theorem q709 : (Jvm.Cond.sameMethod "EelPort$Eel" "EelPort$Eel" "glow" "(III)I") ∈ lw_all := lw_g (lw_at lw_m3 152 rfl) rfl
theorem q717 : (Jvm.Cond.code ({ cls := "EelPort$Eel", name := "glow", desc := "(III)I" } : Jvm.MethodName) prog_5_method_5_code (4 : Nat) (Option.some Jvm.ClassFile.FieldType.int)) ∈ lw_all := lw_g (lw_at lw_m3 160 rfl) rfl
theorem q718 : (Jvm.Cond.methodLink "EelPort$Eel" (13 : Nat) ({ cls := "EelPort$Eel", name := "counts", desc := "(I)I" } : Jvm.MethodName)) ∈ lw_all := lw_g (lw_at lw_m3 161 rfl) rfl
theorem q719 : (Jvm.Cond.instanceMethod ({ cls := "EelPort$Eel", name := "counts", desc := "(I)I" } : Jvm.MethodName)) ∈ lw_all := lw_g (lw_at lw_m3 162 rfl) rfl
theorem q720 : (Jvm.Cond.selects "EelPort$Eel" ({ cls := "EelPort$Eel", name := "counts", desc := "(I)I" } : Jvm.MethodName) ({ cls := "EelPort$Eel", name := "counts", desc := "(I)I" } : Jvm.MethodName)) ∈ lw_all := lw_g (lw_at lw_m3 163 rfl) rfl
theorem q721 : (Jvm.Cond.sameMethod "EelPort$Eel" "EelPort$Eel" "counts" "(I)I") ∈ lw_all := lw_g (lw_at lw_m3 164 rfl) rfl
theorem q728 : (Jvm.Cond.code ({ cls := "EelPort$Eel", name := "counts", desc := "(I)I" } : Jvm.MethodName) prog_5_method_4_code (2 : Nat) (Option.some Jvm.ClassFile.FieldType.int)) ∈ lw_all := lw_g (lw_at lw_m3 171 rfl) rfl
theorem q730 : (Jvm.Cond.methodLink "EelPort$Eel" (17 : Nat) ({ cls := "java/lang/Math", name := "max", desc := "(II)I" } : Jvm.MethodName)) ∈ lw_all := lw_g (lw_at lw_m3 173 rfl) rfl
theorem q732 : (Jvm.Cond.instanceMethod ({ cls := "EelPort$Eel", name := "grows", desc := "()I" } : Jvm.MethodName)) ∈ lw_all := lw_g (lw_at lw_m3 175 rfl) rfl
theorem q733 : (Jvm.Cond.selects "EelPort$Eel" ({ cls := "EelPort$Eel", name := "grows", desc := "()I" } : Jvm.MethodName) ({ cls := "EelPort$Eel", name := "grows", desc := "()I" } : Jvm.MethodName)) ∈ lw_all := lw_g (lw_at lw_m3 176 rfl) rfl
theorem q734 : (Jvm.Cond.sameMethod "EelPort$Eel" "EelPort$Eel" "grows" "()I") ∈ lw_all := lw_g (lw_at lw_m3 177 rfl) rfl
theorem q740 : (Jvm.Cond.code ({ cls := "EelPort$Eel", name := "grows", desc := "()I" } : Jvm.MethodName) prog_5_method_3_code (1 : Nat) (Option.some Jvm.ClassFile.FieldType.int)) ∈ lw_all := lw_g (lw_at lw_m3 183 rfl) rfl
theorem q913 : (Jvm.Cond.instantiable "EelPort$Eel" (4 : Nat)) ∈ lw_all := lw_g (lw_at lw_m4 116 rfl) rfl
theorem q915 : (Jvm.Cond.instanceMethod ({ cls := "EelPort$Eel", name := "<init>", desc := "()V" } : Jvm.MethodName)) ∈ lw_all := lw_g (lw_at lw_m4 118 rfl) rfl
theorem q916 : (Jvm.Cond.code ({ cls := "EelPort$Eel", name := "<init>", desc := "()V" } : Jvm.MethodName) prog_5_method_1_code (1 : Nat) (Option.none : Option Jvm.ClassFile.FieldType)) ∈ lw_all := lw_g (lw_at lw_m4 119 rfl) rfl
theorem q917 : (Jvm.Cond.methodLink "EelPort$Eel" (1 : Nat) ({ cls := "java/lang/Object", name := "<init>", desc := "()V" } : Jvm.MethodName)) ∈ lw_all := lw_g (lw_at lw_m4 120 rfl) rfl
theorem q923 : (Jvm.Cond.fieldLink "EelPort$Eel" (7 : Nat) "EelPort$Eel" "bright" "I") ∈ lw_all := lw_g (lw_at lw_m4 126 rfl) rfl
theorem q929 : (Jvm.Cond.lays "EelPort$Eel" "EelPort$Eel" "owner" "I") ∈ lw_all := lw_g (lw_at lw_m4 132 rfl) rfl
theorem q930 : (Jvm.Cond.soleField "EelPort$Eel" "owner") ∈ lw_all := lw_g (lw_at lw_m4 133 rfl) rfl
theorem q931 : (Jvm.Cond.lays "EelPort$Eel" "EelPort$Eel" "quay" "I") ∈ lw_all := lw_g (lw_at lw_m4 134 rfl) rfl
theorem q932 : (Jvm.Cond.soleField "EelPort$Eel" "quay") ∈ lw_all := lw_g (lw_at lw_m4 135 rfl) rfl
theorem q933 : (Jvm.Cond.lays "EelPort$Eel" "EelPort$Eel" "bright" "I") ∈ lw_all := lw_g (lw_at lw_m4 136 rfl) rfl
theorem q934 : (Jvm.Cond.soleField "EelPort$Eel" "bright") ∈ lw_all := lw_g (lw_at lw_m4 137 rfl) rfl
theorem q935 : (Jvm.Cond.lays "EelPort$Eel" "EelPort$Eel" "hunger" "I") ∈ lw_all := lw_g (lw_at lw_m4 138 rfl) rfl
theorem q936 : (Jvm.Cond.soleField "EelPort$Eel" "hunger") ∈ lw_all := lw_g (lw_at lw_m4 139 rfl) rfl
theorem q937 : (Jvm.Cond.superclass "EelPort$Eel" "java/lang/Object") ∈ lw_all := lw_g (lw_at lw_m4 140 rfl) rfl
theorem q1106 : (Jvm.Cond.selects "EelPort$Eel" ({ cls := "java/lang/Object", name := "getClass", desc := "()Ljava/lang/Class;" } : Jvm.MethodName) ({ cls := "java/lang/Object", name := "getClass", desc := "()Ljava/lang/Class;" } : Jvm.MethodName)) ∈ lw_all := lw_g (lw_at lw_m5 69 rfl) rfl
theorem q1294 : (Jvm.Cond.instanceMethod ({ cls := "EelPort$Eel", name := "kind", desc := "()I" } : Jvm.MethodName)) ∈ lw_all := lw_g (lw_at lw_m6 17 rfl) rfl
theorem q1295 : (Jvm.Cond.selects "EelPort$Eel" ({ cls := "EelPort$Eel", name := "kind", desc := "()I" } : Jvm.MethodName) ({ cls := "EelPort$Eel", name := "kind", desc := "()I" } : Jvm.MethodName)) ∈ lw_all := lw_g (lw_at lw_m6 18 rfl) rfl
theorem q1296 : (Jvm.Cond.sameMethod "EelPort$Eel" "EelPort$Eel" "kind" "()I") ∈ lw_all := lw_g (lw_at lw_m6 19 rfl) rfl
theorem q1306 : (Jvm.Cond.code ({ cls := "EelPort$Eel", name := "kind", desc := "()I" } : Jvm.MethodName) prog_5_method_2_code (1 : Nat) (Option.some Jvm.ClassFile.FieldType.int)) ∈ lw_all := lw_g (lw_at lw_m6 29 rfl) rfl
theorem q2207 : (Jvm.Cond.castable "EelPort$Eel" "java/lang/Object") ∈ lw_tbl := lw_at lw_m9 210 rfl
theorem in_X7 : ∀ w ∈ wsX70, w ∈ lw_all := lw_in wsX70 [929, 931, 933, 935] (by decide +kernel) (by decide +kernel)

/-! EelPort$Greedy -/
set_option maxRecDepth 100000
def RX8 : String := "EelPort$Greedy"
def TX8 : u_T := fun k => match k with
  | 0 => ("EelPort$Eel", "owner", "I", false)
  | 1 => ("EelPort$Eel", "quay", "I", false)
  | 2 => ("EelPort$Eel", "bright", "I", false)
  | _ => ("EelPort$Eel", "hunger", "I", false)
def tyX8 : Nat → FieldType := fun k => match k with
  | 0 => .int
  | 1 => .int
  | 2 => .int
  | _ => .int
abbrev wsX80 : List Cond := u_ws RX8 TX8 4
theorem nmX8 : ∀ a, a < 4 → ∀ b, b < 4 → a ≠ b → (TX8 a).2.1 ≠ (TX8 b).2.1 := by decide +kernel
theorem tyX8_ok : ∀ k, k < 4 → parseFieldDescriptor (TX8 k).2.2.1 = some (tyX8 k) := by decide +kernel
abbrev cX8_grows : ByteArray := prog_7_method_3_code
def yX8_grows : MethodName := ⟨RX8, "grows", "()I"⟩
def dkwX8_grows_0 : List UInt8 := [42, 183, 0, 7, 4, 96, 172]
abbrev dktX8_grows_0 : List UInt8 := dkwX8_grows_0 ++ []
theorem dksX8_grows_0 : cX8_grows.data.toList.drop 0 = dktX8_grows_0 := by decide +kernel
theorem dX8_grows_0 : decode cX8_grows 0 = .ok (.aload_n 0, 1) := dk_42 (dk_at dksX8_grows_0 0 rfl rfl)
theorem dX8_grows_1 : decode cX8_grows 1 = .ok (.invokespecial 7, 3) := dk_183 0 7 (dk_at dksX8_grows_0 1 rfl rfl)
theorem dX8_grows_4 : decode cX8_grows 4 = .ok (.iconst 1, 1) := dk_4 (dk_at dksX8_grows_0 4 rfl rfl)
theorem dX8_grows_5 : decode cX8_grows 5 = .ok (.iadd, 1) := dk_96 (dk_at dksX8_grows_0 5 rfl rfl)
theorem dX8_grows_6 : decode cX8_grows 6 = .ok (.ireturn, 1) := dk_172 (dk_at dksX8_grows_0 6 rfl rfl)
abbrev cX8_init : ByteArray := prog_7_method_1_code
def yX8_init : MethodName := ⟨RX8, "<init>", "()V"⟩
theorem dX8_init_0 : decode cX8_init 0 = .ok (.aload_n 0, 1) := by decide +kernel
theorem dX8_init_1 : decode cX8_init 1 = .ok (.invokespecial 1, 3) := by decide +kernel
theorem dX8_init_4 : decode cX8_init 4 = .ok (.return_, 1) := by decide +kernel
abbrev cX8_kind : ByteArray := prog_7_method_2_code
def yX8_kind : MethodName := ⟨RX8, "kind", "()I"⟩
theorem dX8_kind_0 : decode cX8_kind 0 = .ok (.iconst 1, 1) := by decide +kernel
theorem dX8_kind_1 : decode cX8_kind 1 = .ok (.ireturn, 1) := by decide +kernel
theorem q106 : (Jvm.Cond.initialized "EelPort$Greedy") ∈ lw_all := lw_g (lw_at lw_m1 29 rfl) rfl
theorem q710 : (Jvm.Cond.selects "EelPort$Greedy" ({ cls := "EelPort$Eel", name := "glow", desc := "(III)I" } : Jvm.MethodName) ({ cls := "EelPort$Eel", name := "glow", desc := "(III)I" } : Jvm.MethodName)) ∈ lw_all := lw_g (lw_at lw_m3 153 rfl) rfl
theorem q722 : (Jvm.Cond.selects "EelPort$Greedy" ({ cls := "EelPort$Eel", name := "counts", desc := "(I)I" } : Jvm.MethodName) ({ cls := "EelPort$Eel", name := "counts", desc := "(I)I" } : Jvm.MethodName)) ∈ lw_all := lw_g (lw_at lw_m3 165 rfl) rfl
theorem q735 : (Jvm.Cond.selects "EelPort$Greedy" ({ cls := "EelPort$Eel", name := "grows", desc := "()I" } : Jvm.MethodName) ({ cls := "EelPort$Greedy", name := "grows", desc := "()I" } : Jvm.MethodName)) ∈ lw_all := lw_g (lw_at lw_m3 178 rfl) rfl
theorem q736 : (Jvm.Cond.instanceMethod ({ cls := "EelPort$Greedy", name := "grows", desc := "()I" } : Jvm.MethodName)) ∈ lw_all := lw_g (lw_at lw_m3 179 rfl) rfl
theorem q737 : (Jvm.Cond.code ({ cls := "EelPort$Greedy", name := "grows", desc := "()I" } : Jvm.MethodName) prog_7_method_3_code (1 : Nat) (Option.some Jvm.ClassFile.FieldType.int)) ∈ lw_all := lw_g (lw_at lw_m3 180 rfl) rfl
theorem q738 : (Jvm.Cond.methodLink "EelPort$Greedy" (7 : Nat) ({ cls := "EelPort$Eel", name := "grows", desc := "()I" } : Jvm.MethodName)) ∈ lw_all := lw_g (lw_at lw_m3 181 rfl) rfl
theorem q739 : (Jvm.Cond.superclass "EelPort$Greedy" "EelPort$Eel") ∈ lw_all := lw_g (lw_at lw_m3 182 rfl) rfl
theorem q940 : (Jvm.Cond.instantiable "EelPort$Greedy" (4 : Nat)) ∈ lw_all := lw_g (lw_at lw_m4 143 rfl) rfl
theorem q942 : (Jvm.Cond.instanceMethod ({ cls := "EelPort$Greedy", name := "<init>", desc := "()V" } : Jvm.MethodName)) ∈ lw_all := lw_g (lw_at lw_m4 145 rfl) rfl
theorem q943 : (Jvm.Cond.code ({ cls := "EelPort$Greedy", name := "<init>", desc := "()V" } : Jvm.MethodName) prog_7_method_1_code (1 : Nat) (Option.none : Option Jvm.ClassFile.FieldType)) ∈ lw_all := lw_g (lw_at lw_m4 146 rfl) rfl
theorem q944 : (Jvm.Cond.methodLinkNest "EelPort$Greedy" (1 : Nat) ({ cls := "EelPort$Eel", name := "<init>", desc := "()V" } : Jvm.MethodName) "EelPort") ∈ lw_tbl := lw_at lw_m4 147 rfl
theorem q945 : (Jvm.Cond.lays "EelPort$Greedy" "EelPort$Eel" "owner" "I") ∈ lw_all := lw_g (lw_at lw_m4 148 rfl) rfl
theorem q946 : (Jvm.Cond.lays "EelPort$Greedy" "EelPort$Eel" "quay" "I") ∈ lw_all := lw_g (lw_at lw_m4 149 rfl) rfl
theorem q947 : (Jvm.Cond.lays "EelPort$Greedy" "EelPort$Eel" "bright" "I") ∈ lw_all := lw_g (lw_at lw_m4 150 rfl) rfl
theorem q948 : (Jvm.Cond.lays "EelPort$Greedy" "EelPort$Eel" "hunger" "I") ∈ lw_all := lw_g (lw_at lw_m4 151 rfl) rfl
theorem q1108 : (Jvm.Cond.selects "EelPort$Greedy" ({ cls := "java/lang/Object", name := "getClass", desc := "()Ljava/lang/Class;" } : Jvm.MethodName) ({ cls := "java/lang/Object", name := "getClass", desc := "()Ljava/lang/Class;" } : Jvm.MethodName)) ∈ lw_all := lw_g (lw_at lw_m5 71 rfl) rfl
theorem q1297 : (Jvm.Cond.selects "EelPort$Greedy" ({ cls := "EelPort$Eel", name := "kind", desc := "()I" } : Jvm.MethodName) ({ cls := "EelPort$Greedy", name := "kind", desc := "()I" } : Jvm.MethodName)) ∈ lw_all := lw_g (lw_at lw_m6 20 rfl) rfl
theorem q1298 : (Jvm.Cond.instanceMethod ({ cls := "EelPort$Greedy", name := "kind", desc := "()I" } : Jvm.MethodName)) ∈ lw_all := lw_g (lw_at lw_m6 21 rfl) rfl
theorem q1299 : (Jvm.Cond.code ({ cls := "EelPort$Greedy", name := "kind", desc := "()I" } : Jvm.MethodName) prog_7_method_2_code (1 : Nat) (Option.some Jvm.ClassFile.FieldType.int)) ∈ lw_all := lw_g (lw_at lw_m6 22 rfl) rfl
theorem q2185 : (Jvm.Cond.castable "EelPort$Greedy" "EelPort$Eel") ∈ lw_tbl := lw_at lw_m9 188 rfl
theorem q2208 : (Jvm.Cond.castable "EelPort$Greedy" "java/lang/Object") ∈ lw_tbl := lw_at lw_m9 211 rfl
theorem in_X8 : ∀ w ∈ wsX80, w ∈ lw_all := lw_in wsX80 [945, 946, 947, 948] (by decide +kernel) (by decide +kernel)

/-! EelPort$Loving -/
set_option maxRecDepth 100000
def RX9 : String := "EelPort$Loving"
def TX9 : u_T := fun k => match k with
  | 0 => ("EelPort$Eel", "owner", "I", false)
  | 1 => ("EelPort$Eel", "quay", "I", false)
  | 2 => ("EelPort$Eel", "bright", "I", false)
  | _ => ("EelPort$Eel", "hunger", "I", false)
def tyX9 : Nat → FieldType := fun k => match k with
  | 0 => .int
  | 1 => .int
  | 2 => .int
  | _ => .int
abbrev wsX90 : List Cond := u_ws RX9 TX9 4
theorem nmX9 : ∀ a, a < 4 → ∀ b, b < 4 → a ≠ b → (TX9 a).2.1 ≠ (TX9 b).2.1 := by decide +kernel
theorem tyX9_ok : ∀ k, k < 4 → parseFieldDescriptor (TX9 k).2.2.1 = some (tyX9 k) := by decide +kernel
abbrev cX9_counts : ByteArray := prog_11_method_3_code
def yX9_counts : MethodName := ⟨RX9, "counts", "(I)I"⟩
def dkwX9_counts_0 : List UInt8 := [42, 27, 183, 0, 7, 5, 108, 172]
abbrev dktX9_counts_0 : List UInt8 := dkwX9_counts_0 ++ []
theorem dksX9_counts_0 : cX9_counts.data.toList.drop 0 = dktX9_counts_0 := by decide +kernel
theorem dX9_counts_0 : decode cX9_counts 0 = .ok (.aload_n 0, 1) := dk_42 (dk_at dksX9_counts_0 0 rfl rfl)
theorem dX9_counts_1 : decode cX9_counts 1 = .ok (.iload_n 1, 1) := dk_27 (dk_at dksX9_counts_0 1 rfl rfl)
theorem dX9_counts_2 : decode cX9_counts 2 = .ok (.invokespecial 7, 3) := dk_183 0 7 (dk_at dksX9_counts_0 2 rfl rfl)
theorem dX9_counts_5 : decode cX9_counts 5 = .ok (.iconst 2, 1) := dk_5 (dk_at dksX9_counts_0 5 rfl rfl)
theorem dX9_counts_6 : decode cX9_counts 6 = .ok (.idiv, 1) := dk_108 (dk_at dksX9_counts_0 6 rfl rfl)
theorem dX9_counts_7 : decode cX9_counts 7 = .ok (.ireturn, 1) := dk_172 (dk_at dksX9_counts_0 7 rfl rfl)
abbrev cX9_init : ByteArray := prog_11_method_1_code
def yX9_init : MethodName := ⟨RX9, "<init>", "()V"⟩
theorem dX9_init_0 : decode cX9_init 0 = .ok (.aload_n 0, 1) := by decide +kernel
theorem dX9_init_1 : decode cX9_init 1 = .ok (.invokespecial 1, 3) := by decide +kernel
theorem dX9_init_4 : decode cX9_init 4 = .ok (.return_, 1) := by decide +kernel
abbrev cX9_kind : ByteArray := prog_11_method_2_code
def yX9_kind : MethodName := ⟨RX9, "kind", "()I"⟩
theorem dX9_kind_0 : decode cX9_kind 0 = .ok (.iconst 2, 1) := by decide +kernel
theorem dX9_kind_1 : decode cX9_kind 1 = .ok (.ireturn, 1) := by decide +kernel
theorem q107 : (Jvm.Cond.initialized "EelPort$Loving") ∈ lw_all := lw_g (lw_at lw_m1 30 rfl) rfl
theorem q711 : (Jvm.Cond.selects "EelPort$Loving" ({ cls := "EelPort$Eel", name := "glow", desc := "(III)I" } : Jvm.MethodName) ({ cls := "EelPort$Eel", name := "glow", desc := "(III)I" } : Jvm.MethodName)) ∈ lw_all := lw_g (lw_at lw_m3 154 rfl) rfl
theorem q723 : (Jvm.Cond.selects "EelPort$Loving" ({ cls := "EelPort$Eel", name := "counts", desc := "(I)I" } : Jvm.MethodName) ({ cls := "EelPort$Loving", name := "counts", desc := "(I)I" } : Jvm.MethodName)) ∈ lw_all := lw_g (lw_at lw_m3 166 rfl) rfl
theorem q724 : (Jvm.Cond.instanceMethod ({ cls := "EelPort$Loving", name := "counts", desc := "(I)I" } : Jvm.MethodName)) ∈ lw_all := lw_g (lw_at lw_m3 167 rfl) rfl
theorem q725 : (Jvm.Cond.code ({ cls := "EelPort$Loving", name := "counts", desc := "(I)I" } : Jvm.MethodName) prog_11_method_3_code (2 : Nat) (Option.some Jvm.ClassFile.FieldType.int)) ∈ lw_all := lw_g (lw_at lw_m3 168 rfl) rfl
theorem q726 : (Jvm.Cond.methodLink "EelPort$Loving" (7 : Nat) ({ cls := "EelPort$Eel", name := "counts", desc := "(I)I" } : Jvm.MethodName)) ∈ lw_all := lw_g (lw_at lw_m3 169 rfl) rfl
theorem q727 : (Jvm.Cond.superclass "EelPort$Loving" "EelPort$Eel") ∈ lw_all := lw_g (lw_at lw_m3 170 rfl) rfl
theorem q741 : (Jvm.Cond.selects "EelPort$Loving" ({ cls := "EelPort$Eel", name := "grows", desc := "()I" } : Jvm.MethodName) ({ cls := "EelPort$Eel", name := "grows", desc := "()I" } : Jvm.MethodName)) ∈ lw_all := lw_g (lw_at lw_m3 184 rfl) rfl
theorem q951 : (Jvm.Cond.instantiable "EelPort$Loving" (4 : Nat)) ∈ lw_all := lw_g (lw_at lw_m4 154 rfl) rfl
theorem q953 : (Jvm.Cond.instanceMethod ({ cls := "EelPort$Loving", name := "<init>", desc := "()V" } : Jvm.MethodName)) ∈ lw_all := lw_g (lw_at lw_m4 156 rfl) rfl
theorem q954 : (Jvm.Cond.code ({ cls := "EelPort$Loving", name := "<init>", desc := "()V" } : Jvm.MethodName) prog_11_method_1_code (1 : Nat) (Option.none : Option Jvm.ClassFile.FieldType)) ∈ lw_all := lw_g (lw_at lw_m4 157 rfl) rfl
theorem q955 : (Jvm.Cond.methodLinkNest "EelPort$Loving" (1 : Nat) ({ cls := "EelPort$Eel", name := "<init>", desc := "()V" } : Jvm.MethodName) "EelPort") ∈ lw_tbl := lw_at lw_m4 158 rfl
theorem q956 : (Jvm.Cond.lays "EelPort$Loving" "EelPort$Eel" "owner" "I") ∈ lw_all := lw_g (lw_at lw_m4 159 rfl) rfl
theorem q957 : (Jvm.Cond.lays "EelPort$Loving" "EelPort$Eel" "quay" "I") ∈ lw_all := lw_g (lw_at lw_m4 160 rfl) rfl
theorem q958 : (Jvm.Cond.lays "EelPort$Loving" "EelPort$Eel" "bright" "I") ∈ lw_all := lw_g (lw_at lw_m4 161 rfl) rfl
theorem q959 : (Jvm.Cond.lays "EelPort$Loving" "EelPort$Eel" "hunger" "I") ∈ lw_all := lw_g (lw_at lw_m4 162 rfl) rfl
theorem q1112 : (Jvm.Cond.selects "EelPort$Loving" ({ cls := "java/lang/Object", name := "getClass", desc := "()Ljava/lang/Class;" } : Jvm.MethodName) ({ cls := "java/lang/Object", name := "getClass", desc := "()Ljava/lang/Class;" } : Jvm.MethodName)) ∈ lw_all := lw_g (lw_at lw_m5 75 rfl) rfl
theorem q1300 : (Jvm.Cond.selects "EelPort$Loving" ({ cls := "EelPort$Eel", name := "kind", desc := "()I" } : Jvm.MethodName) ({ cls := "EelPort$Loving", name := "kind", desc := "()I" } : Jvm.MethodName)) ∈ lw_all := lw_g (lw_at lw_m6 23 rfl) rfl
theorem q1301 : (Jvm.Cond.instanceMethod ({ cls := "EelPort$Loving", name := "kind", desc := "()I" } : Jvm.MethodName)) ∈ lw_all := lw_g (lw_at lw_m6 24 rfl) rfl
theorem q1302 : (Jvm.Cond.code ({ cls := "EelPort$Loving", name := "kind", desc := "()I" } : Jvm.MethodName) prog_11_method_2_code (1 : Nat) (Option.some Jvm.ClassFile.FieldType.int)) ∈ lw_all := lw_g (lw_at lw_m6 25 rfl) rfl
theorem q2186 : (Jvm.Cond.castable "EelPort$Loving" "EelPort$Eel") ∈ lw_tbl := lw_at lw_m9 189 rfl
theorem q2209 : (Jvm.Cond.castable "EelPort$Loving" "java/lang/Object") ∈ lw_tbl := lw_at lw_m9 212 rfl
theorem in_X9 : ∀ w ∈ wsX90, w ∈ lw_all := lw_in wsX90 [956, 957, 958, 959] (by decide +kernel) (by decide +kernel)

/-! EelPort$Shy -/
set_option maxRecDepth 100000
def RX10 : String := "EelPort$Shy"
def TX10 : u_T := fun k => match k with
  | 0 => ("EelPort$Eel", "owner", "I", false)
  | 1 => ("EelPort$Eel", "quay", "I", false)
  | 2 => ("EelPort$Eel", "bright", "I", false)
  | _ => ("EelPort$Eel", "hunger", "I", false)
def tyX10 : Nat → FieldType := fun k => match k with
  | 0 => .int
  | 1 => .int
  | 2 => .int
  | _ => .int
abbrev wsX100 : List Cond := u_ws RX10 TX10 4
theorem nmX10 : ∀ a, a < 4 → ∀ b, b < 4 → a ≠ b → (TX10 a).2.1 ≠ (TX10 b).2.1 := by decide +kernel
theorem tyX10_ok : ∀ k, k < 4 → parseFieldDescriptor (TX10 k).2.2.1 = some (tyX10 k) := by decide +kernel
abbrev cX10_glow : ByteArray := prog_19_method_3_code
def yX10_glow : MethodName := ⟨RX10, "glow", "(III)I"⟩
def dkwX10_glow_0 : List UInt8 := [29, 8, 161, 0, 7, 3, 167, 0, 10, 42, 27, 28, 29, 183, 0, 7, 172]
abbrev dktX10_glow_0 : List UInt8 := dkwX10_glow_0 ++ []
theorem dksX10_glow_0 : cX10_glow.data.toList.drop 0 = dktX10_glow_0 := by decide +kernel
theorem dX10_glow_0 : decode cX10_glow 0 = .ok (.iload_n 3, 1) := dk_29 (dk_at dksX10_glow_0 0 rfl rfl)
theorem dX10_glow_1 : decode cX10_glow 1 = .ok (.iconst 5, 1) := dk_8 (dk_at dksX10_glow_0 1 rfl rfl)
theorem dX10_glow_2 : decode cX10_glow 2 = .ok (.if_icmp .lt 7, 3) := dk_161 0 7 (dk_at dksX10_glow_0 2 rfl rfl)
theorem dX10_glow_5 : decode cX10_glow 5 = .ok (.iconst 0, 1) := dk_3 (dk_at dksX10_glow_0 5 rfl rfl)
theorem dX10_glow_6 : decode cX10_glow 6 = .ok (.goto 10, 3) := dk_167 0 10 (dk_at dksX10_glow_0 6 rfl rfl)
theorem dX10_glow_9 : decode cX10_glow 9 = .ok (.aload_n 0, 1) := dk_42 (dk_at dksX10_glow_0 9 rfl rfl)
theorem dX10_glow_10 : decode cX10_glow 10 = .ok (.iload_n 1, 1) := dk_27 (dk_at dksX10_glow_0 10 rfl rfl)
theorem dX10_glow_11 : decode cX10_glow 11 = .ok (.iload_n 2, 1) := dk_28 (dk_at dksX10_glow_0 11 rfl rfl)
theorem dX10_glow_12 : decode cX10_glow 12 = .ok (.iload_n 3, 1) := dk_29 (dk_at dksX10_glow_0 12 rfl rfl)
theorem dX10_glow_13 : decode cX10_glow 13 = .ok (.invokespecial 7, 3) := dk_183 0 7 (dk_at dksX10_glow_0 13 rfl rfl)
theorem dX10_glow_16 : decode cX10_glow 16 = .ok (.ireturn, 1) := dk_172 (dk_at dksX10_glow_0 16 rfl rfl)
abbrev cX10_init : ByteArray := prog_19_method_1_code
def yX10_init : MethodName := ⟨RX10, "<init>", "()V"⟩
theorem dX10_init_0 : decode cX10_init 0 = .ok (.aload_n 0, 1) := by decide +kernel
theorem dX10_init_1 : decode cX10_init 1 = .ok (.invokespecial 1, 3) := by decide +kernel
theorem dX10_init_4 : decode cX10_init 4 = .ok (.return_, 1) := by decide +kernel
abbrev cX10_kind : ByteArray := prog_19_method_2_code
def yX10_kind : MethodName := ⟨RX10, "kind", "()I"⟩
theorem dX10_kind_0 : decode cX10_kind 0 = .ok (.iconst 3, 1) := by decide +kernel
theorem dX10_kind_1 : decode cX10_kind 1 = .ok (.ireturn, 1) := by decide +kernel
theorem q108 : (Jvm.Cond.initialized "EelPort$Shy") ∈ lw_all := lw_g (lw_at lw_m1 31 rfl) rfl
theorem q712 : (Jvm.Cond.selects "EelPort$Shy" ({ cls := "EelPort$Eel", name := "glow", desc := "(III)I" } : Jvm.MethodName) ({ cls := "EelPort$Shy", name := "glow", desc := "(III)I" } : Jvm.MethodName)) ∈ lw_all := lw_g (lw_at lw_m3 155 rfl) rfl
theorem q713 : (Jvm.Cond.instanceMethod ({ cls := "EelPort$Shy", name := "glow", desc := "(III)I" } : Jvm.MethodName)) ∈ lw_all := lw_g (lw_at lw_m3 156 rfl) rfl
theorem q714 : (Jvm.Cond.code ({ cls := "EelPort$Shy", name := "glow", desc := "(III)I" } : Jvm.MethodName) prog_19_method_3_code (4 : Nat) (Option.some Jvm.ClassFile.FieldType.int)) ∈ lw_all := lw_g (lw_at lw_m3 157 rfl) rfl
theorem q715 : (Jvm.Cond.methodLink "EelPort$Shy" (7 : Nat) ({ cls := "EelPort$Eel", name := "glow", desc := "(III)I" } : Jvm.MethodName)) ∈ lw_all := lw_g (lw_at lw_m3 158 rfl) rfl
theorem q716 : (Jvm.Cond.superclass "EelPort$Shy" "EelPort$Eel") ∈ lw_all := lw_g (lw_at lw_m3 159 rfl) rfl
theorem q729 : (Jvm.Cond.selects "EelPort$Shy" ({ cls := "EelPort$Eel", name := "counts", desc := "(I)I" } : Jvm.MethodName) ({ cls := "EelPort$Eel", name := "counts", desc := "(I)I" } : Jvm.MethodName)) ∈ lw_all := lw_g (lw_at lw_m3 172 rfl) rfl
theorem q742 : (Jvm.Cond.selects "EelPort$Shy" ({ cls := "EelPort$Eel", name := "grows", desc := "()I" } : Jvm.MethodName) ({ cls := "EelPort$Eel", name := "grows", desc := "()I" } : Jvm.MethodName)) ∈ lw_all := lw_g (lw_at lw_m3 185 rfl) rfl
theorem q962 : (Jvm.Cond.instantiable "EelPort$Shy" (4 : Nat)) ∈ lw_all := lw_g (lw_at lw_m4 165 rfl) rfl
theorem q964 : (Jvm.Cond.instanceMethod ({ cls := "EelPort$Shy", name := "<init>", desc := "()V" } : Jvm.MethodName)) ∈ lw_all := lw_g (lw_at lw_m4 167 rfl) rfl
theorem q965 : (Jvm.Cond.code ({ cls := "EelPort$Shy", name := "<init>", desc := "()V" } : Jvm.MethodName) prog_19_method_1_code (1 : Nat) (Option.none : Option Jvm.ClassFile.FieldType)) ∈ lw_all := lw_g (lw_at lw_m4 168 rfl) rfl
theorem q966 : (Jvm.Cond.methodLinkNest "EelPort$Shy" (1 : Nat) ({ cls := "EelPort$Eel", name := "<init>", desc := "()V" } : Jvm.MethodName) "EelPort") ∈ lw_tbl := lw_at lw_m4 169 rfl
theorem q967 : (Jvm.Cond.lays "EelPort$Shy" "EelPort$Eel" "owner" "I") ∈ lw_all := lw_g (lw_at lw_m4 170 rfl) rfl
theorem q968 : (Jvm.Cond.lays "EelPort$Shy" "EelPort$Eel" "quay" "I") ∈ lw_all := lw_g (lw_at lw_m4 171 rfl) rfl
theorem q969 : (Jvm.Cond.lays "EelPort$Shy" "EelPort$Eel" "bright" "I") ∈ lw_all := lw_g (lw_at lw_m4 172 rfl) rfl
theorem q970 : (Jvm.Cond.lays "EelPort$Shy" "EelPort$Eel" "hunger" "I") ∈ lw_all := lw_g (lw_at lw_m4 173 rfl) rfl
theorem q1118 : (Jvm.Cond.selects "EelPort$Shy" ({ cls := "java/lang/Object", name := "getClass", desc := "()Ljava/lang/Class;" } : Jvm.MethodName) ({ cls := "java/lang/Object", name := "getClass", desc := "()Ljava/lang/Class;" } : Jvm.MethodName)) ∈ lw_all := lw_g (lw_at lw_m5 81 rfl) rfl
theorem q1303 : (Jvm.Cond.selects "EelPort$Shy" ({ cls := "EelPort$Eel", name := "kind", desc := "()I" } : Jvm.MethodName) ({ cls := "EelPort$Shy", name := "kind", desc := "()I" } : Jvm.MethodName)) ∈ lw_all := lw_g (lw_at lw_m6 26 rfl) rfl
theorem q1304 : (Jvm.Cond.instanceMethod ({ cls := "EelPort$Shy", name := "kind", desc := "()I" } : Jvm.MethodName)) ∈ lw_all := lw_g (lw_at lw_m6 27 rfl) rfl
theorem q1305 : (Jvm.Cond.code ({ cls := "EelPort$Shy", name := "kind", desc := "()I" } : Jvm.MethodName) prog_19_method_2_code (1 : Nat) (Option.some Jvm.ClassFile.FieldType.int)) ∈ lw_all := lw_g (lw_at lw_m6 28 rfl) rfl
theorem q2187 : (Jvm.Cond.castable "EelPort$Shy" "EelPort$Eel") ∈ lw_tbl := lw_at lw_m9 190 rfl
theorem q2210 : (Jvm.Cond.castable "EelPort$Shy" "java/lang/Object") ∈ lw_tbl := lw_at lw_m9 213 rfl
theorem in_X10 : ∀ w ∈ wsX100, w ∈ lw_all := lw_in wsX100 [967, 968, 969, 970] (by decide +kernel) (by decide +kernel)

/-! EelPort$Ship -/
set_option maxRecDepth 100000
def RX11 : String := "EelPort$Ship"
abbrev cX11_init : ByteArray := prog_18_method_1_code
def yX11_init : MethodName := ⟨RX11, "<init>", "()V"⟩
theorem dX11_init_0 : decode cX11_init 0 = .ok (.aload_n 0, 1) := by decide +kernel
theorem dX11_init_1 : decode cX11_init 1 = .ok (.invokespecial 3, 3) := by decide +kernel
theorem dX11_init_4 : decode cX11_init 4 = .ok (.return_, 1) := by decide +kernel
abbrev cX11_brightest : ByteArray := prog_18_method_4_code
def yX11_brightest : MethodName := ⟨RX11, "brightest", "(LEelPort$Lit;II)I"⟩
def dkwX11_brightest_4 : List UInt8 := [21, 4, 172]
abbrev dktX11_brightest_4 : List UInt8 := dkwX11_brightest_4 ++ []
def dkwX11_brightest_3 : List UInt8 := [164, 0, 7, 21, 5, 54, 4, 132, 5, 1, 167, 255, 184, 21, 4, 2, 160, 0, 7, 28, 167, 0, 5]
abbrev dktX11_brightest_3 : List UInt8 := dkwX11_brightest_3 ++ dktX11_brightest_4
def dkwX11_brightest_2 : List UInt8 := [167, 0, 30, 21, 4, 2, 159, 0, 20, 43, 21, 5, 29, 182, 0, 41, 43, 21, 4, 29, 182, 0, 41]
abbrev dktX11_brightest_2 : List UInt8 := dkwX11_brightest_2 ++ dktX11_brightest_3
def dkwX11_brightest_1 : List UInt8 := [21, 5, 182, 0, 27, 153, 0, 47, 43, 21, 5, 29, 42, 180, 0, 31, 182, 0, 37, 154, 0, 6]
abbrev dktX11_brightest_1 : List UInt8 := dkwX11_brightest_1 ++ dktX11_brightest_2
def dkwX11_brightest_0 : List UInt8 := [2, 54, 4, 3, 54, 5, 21, 5, 43, 180, 0, 9, 180, 0, 15, 182, 0, 21, 162, 0, 63, 43, 28]
abbrev dktX11_brightest_0 : List UInt8 := dkwX11_brightest_0 ++ dktX11_brightest_1
theorem dksX11_brightest_0 : cX11_brightest.data.toList.drop 0 = dktX11_brightest_0 := by decide +kernel
theorem dksX11_brightest_1 : cX11_brightest.data.toList.drop 23 = dktX11_brightest_1 := dk_seg dksX11_brightest_0 23 rfl rfl
theorem dksX11_brightest_2 : cX11_brightest.data.toList.drop 45 = dktX11_brightest_2 := dk_seg dksX11_brightest_1 22 rfl rfl
theorem dksX11_brightest_3 : cX11_brightest.data.toList.drop 68 = dktX11_brightest_3 := dk_seg dksX11_brightest_2 23 rfl rfl
theorem dksX11_brightest_4 : cX11_brightest.data.toList.drop 91 = dktX11_brightest_4 := dk_seg dksX11_brightest_3 23 rfl rfl
theorem dX11_brightest_0 : decode cX11_brightest 0 = .ok (.iconst (-1), 1) := dk_2 (dk_at dksX11_brightest_0 0 rfl rfl)
theorem dX11_brightest_1 : decode cX11_brightest 1 = .ok (.istore 4, 2) := dk_54 4 (dk_at dksX11_brightest_0 1 rfl rfl)
theorem dX11_brightest_3 : decode cX11_brightest 3 = .ok (.iconst 0, 1) := dk_3 (dk_at dksX11_brightest_0 3 rfl rfl)
theorem dX11_brightest_4 : decode cX11_brightest 4 = .ok (.istore 5, 2) := dk_54 5 (dk_at dksX11_brightest_0 4 rfl rfl)
theorem dX11_brightest_6 : decode cX11_brightest 6 = .ok (.iload 5, 2) := dk_21 5 (dk_at dksX11_brightest_0 6 rfl rfl)
theorem dX11_brightest_8 : decode cX11_brightest 8 = .ok (.aload_n 1, 1) := dk_43 (dk_at dksX11_brightest_0 8 rfl rfl)
theorem dX11_brightest_9 : decode cX11_brightest 9 = .ok (.getfield 9, 3) := dk_180 0 9 (dk_at dksX11_brightest_0 9 rfl rfl)
theorem dX11_brightest_12 : decode cX11_brightest 12 = .ok (.getfield 15, 3) := dk_180 0 15 (dk_at dksX11_brightest_0 12 rfl rfl)
theorem dX11_brightest_15 : decode cX11_brightest 15 = .ok (.invokevirtual 21, 3) := dk_182 0 21 (dk_at dksX11_brightest_0 15 rfl rfl)
theorem dX11_brightest_18 : decode cX11_brightest 18 = .ok (.if_icmp .ge 63, 3) := dk_162 0 63 (dk_at dksX11_brightest_0 18 rfl rfl)
theorem dX11_brightest_21 : decode cX11_brightest 21 = .ok (.aload_n 1, 1) := dk_43 (dk_at dksX11_brightest_0 21 rfl rfl)
theorem dX11_brightest_22 : decode cX11_brightest 22 = .ok (.iload_n 2, 1) := dk_28 (dk_at dksX11_brightest_0 22 rfl rfl)
theorem dX11_brightest_23 : decode cX11_brightest 23 = .ok (.iload 5, 2) := dk_21 5 (dk_at dksX11_brightest_1 0 rfl rfl)
theorem dX11_brightest_25 : decode cX11_brightest 25 = .ok (.invokevirtual 27, 3) := dk_182 0 27 (dk_at dksX11_brightest_1 2 rfl rfl)
theorem dX11_brightest_28 : decode cX11_brightest 28 = .ok (.ifCond .eq 47, 3) := dk_153 0 47 (dk_at dksX11_brightest_1 5 rfl rfl)
theorem dX11_brightest_31 : decode cX11_brightest 31 = .ok (.aload_n 1, 1) := dk_43 (dk_at dksX11_brightest_1 8 rfl rfl)
theorem dX11_brightest_32 : decode cX11_brightest 32 = .ok (.iload 5, 2) := dk_21 5 (dk_at dksX11_brightest_1 9 rfl rfl)
theorem dX11_brightest_34 : decode cX11_brightest 34 = .ok (.iload_n 3, 1) := dk_29 (dk_at dksX11_brightest_1 11 rfl rfl)
theorem dX11_brightest_35 : decode cX11_brightest 35 = .ok (.aload_n 0, 1) := dk_42 (dk_at dksX11_brightest_1 12 rfl rfl)
theorem dX11_brightest_36 : decode cX11_brightest 36 = .ok (.getfield 31, 3) := dk_180 0 31 (dk_at dksX11_brightest_1 13 rfl rfl)
theorem dX11_brightest_39 : decode cX11_brightest 39 = .ok (.invokevirtual 37, 3) := dk_182 0 37 (dk_at dksX11_brightest_1 16 rfl rfl)
theorem dX11_brightest_42 : decode cX11_brightest 42 = .ok (.ifCond .ne 6, 3) := dk_154 0 6 (dk_at dksX11_brightest_1 19 rfl rfl)
theorem dX11_brightest_45 : decode cX11_brightest 45 = .ok (.goto 30, 3) := dk_167 0 30 (dk_at dksX11_brightest_2 0 rfl rfl)
theorem dX11_brightest_48 : decode cX11_brightest 48 = .ok (.iload 4, 2) := dk_21 4 (dk_at dksX11_brightest_2 3 rfl rfl)
theorem dX11_brightest_50 : decode cX11_brightest 50 = .ok (.iconst (-1), 1) := dk_2 (dk_at dksX11_brightest_2 5 rfl rfl)
theorem dX11_brightest_51 : decode cX11_brightest 51 = .ok (.if_icmp .eq 20, 3) := dk_159 0 20 (dk_at dksX11_brightest_2 6 rfl rfl)
theorem dX11_brightest_54 : decode cX11_brightest 54 = .ok (.aload_n 1, 1) := dk_43 (dk_at dksX11_brightest_2 9 rfl rfl)
theorem dX11_brightest_55 : decode cX11_brightest 55 = .ok (.iload 5, 2) := dk_21 5 (dk_at dksX11_brightest_2 10 rfl rfl)
theorem dX11_brightest_57 : decode cX11_brightest 57 = .ok (.iload_n 3, 1) := dk_29 (dk_at dksX11_brightest_2 12 rfl rfl)
theorem dX11_brightest_58 : decode cX11_brightest 58 = .ok (.invokevirtual 41, 3) := dk_182 0 41 (dk_at dksX11_brightest_2 13 rfl rfl)
theorem dX11_brightest_61 : decode cX11_brightest 61 = .ok (.aload_n 1, 1) := dk_43 (dk_at dksX11_brightest_2 16 rfl rfl)
theorem dX11_brightest_62 : decode cX11_brightest 62 = .ok (.iload 4, 2) := dk_21 4 (dk_at dksX11_brightest_2 17 rfl rfl)
theorem dX11_brightest_64 : decode cX11_brightest 64 = .ok (.iload_n 3, 1) := dk_29 (dk_at dksX11_brightest_2 19 rfl rfl)
theorem dX11_brightest_65 : decode cX11_brightest 65 = .ok (.invokevirtual 41, 3) := dk_182 0 41 (dk_at dksX11_brightest_2 20 rfl rfl)
theorem dX11_brightest_68 : decode cX11_brightest 68 = .ok (.if_icmp .le 7, 3) := dk_164 0 7 (dk_at dksX11_brightest_3 0 rfl rfl)
theorem dX11_brightest_71 : decode cX11_brightest 71 = .ok (.iload 5, 2) := dk_21 5 (dk_at dksX11_brightest_3 3 rfl rfl)
theorem dX11_brightest_73 : decode cX11_brightest 73 = .ok (.istore 4, 2) := dk_54 4 (dk_at dksX11_brightest_3 5 rfl rfl)
theorem dX11_brightest_75 : decode cX11_brightest 75 = .ok (.iinc 5 1, 3) := dk_132 5 1 (dk_at dksX11_brightest_3 7 rfl rfl)
theorem dX11_brightest_78 : decode cX11_brightest 78 = .ok (.goto (-72), 3) := dk_167 255 184 (dk_at dksX11_brightest_3 10 rfl rfl)
theorem dX11_brightest_81 : decode cX11_brightest 81 = .ok (.iload 4, 2) := dk_21 4 (dk_at dksX11_brightest_3 13 rfl rfl)
theorem dX11_brightest_83 : decode cX11_brightest 83 = .ok (.iconst (-1), 1) := dk_2 (dk_at dksX11_brightest_3 15 rfl rfl)
theorem dX11_brightest_84 : decode cX11_brightest 84 = .ok (.if_icmp .ne 7, 3) := dk_160 0 7 (dk_at dksX11_brightest_3 16 rfl rfl)
theorem dX11_brightest_87 : decode cX11_brightest 87 = .ok (.iload_n 2, 1) := dk_28 (dk_at dksX11_brightest_3 19 rfl rfl)
theorem dX11_brightest_88 : decode cX11_brightest 88 = .ok (.goto 5, 3) := dk_167 0 5 (dk_at dksX11_brightest_3 20 rfl rfl)
theorem dX11_brightest_91 : decode cX11_brightest 91 = .ok (.iload 4, 2) := dk_21 4 (dk_at dksX11_brightest_4 0 rfl rfl)
theorem dX11_brightest_93 : decode cX11_brightest 93 = .ok (.ireturn, 1) := dk_172 (dk_at dksX11_brightest_4 2 rfl rfl)
theorem q109 : (Jvm.Cond.initialized "EelPort$Ship") ∈ lw_all := lw_g (lw_at lw_m1 32 rfl) rfl
theorem q500 : (Jvm.Cond.fieldLinkNest "EelPort$Ship" (15 : Nat) "EelPort$Port" "quays" "Ljava/util/ArrayList;" "EelPort") ∈ lw_tbl := lw_at lw_m2 183 rfl
theorem q552 : (Jvm.Cond.fieldLinkNest "EelPort$Ship" (9 : Nat) "EelPort$Lit" "port" "LEelPort$Port;" "EelPort") ∈ lw_tbl := lw_at lw_m2 235 rfl
theorem q981 : (Jvm.Cond.instanceMethod ({ cls := "EelPort$Ship", name := "<init>", desc := "()V" } : Jvm.MethodName)) ∈ lw_all := lw_g (lw_at lw_m4 184 rfl) rfl
theorem q982 : (Jvm.Cond.code ({ cls := "EelPort$Ship", name := "<init>", desc := "()V" } : Jvm.MethodName) prog_18_method_1_code (1 : Nat) (Option.none : Option Jvm.ClassFile.FieldType)) ∈ lw_all := lw_g (lw_at lw_m4 185 rfl) rfl
theorem q983 : (Jvm.Cond.methodLink "EelPort$Ship" (3 : Nat) ({ cls := "java/lang/Object", name := "<init>", desc := "()V" } : Jvm.MethodName)) ∈ lw_all := lw_g (lw_at lw_m4 186 rfl) rfl
theorem q990 : (Jvm.Cond.fieldLink "EelPort$Ship" (31 : Nat) "EelPort$Ship" "sees" "I") ∈ lw_all := lw_g (lw_at lw_m4 193 rfl) rfl
theorem q994 : (Jvm.Cond.soleField "EelPort$Ship" "quay") ∈ lw_all := lw_g (lw_at lw_m4 197 rfl) rfl
theorem q996 : (Jvm.Cond.soleField "EelPort$Ship" "hour") ∈ lw_all := lw_g (lw_at lw_m4 199 rfl) rfl
theorem q998 : (Jvm.Cond.soleField "EelPort$Ship" "sees") ∈ lw_all := lw_g (lw_at lw_m4 201 rfl) rfl
theorem q1320 : (Jvm.Cond.declares ({ cls := "EelPort$Ship", name := "kind", desc := "()I" } : Jvm.MethodName)) ∈ lw_tbl := lw_at lw_m6 43 rfl
theorem q1321 : (Jvm.Cond.sameMethod "EelPort$Ship" "EelPort$Ship" "kind" "()I") ∈ lw_all := lw_g (lw_at lw_m6 44 rfl) rfl
theorem q1422 : (Jvm.Cond.declares ({ cls := "EelPort$Ship", name := "goes", desc := "(LEelPort$Lit;II)I" } : Jvm.MethodName)) ∈ lw_tbl := lw_at lw_m6 145 rfl
theorem q1423 : (Jvm.Cond.sameMethod "EelPort$Ship" "EelPort$Ship" "goes" "(LEelPort$Lit;II)I") ∈ lw_all := lw_g (lw_at lw_m6 146 rfl) rfl
theorem q1429 : (Jvm.Cond.declares ({ cls := "EelPort$Ship", name := "brightest", desc := "(LEelPort$Lit;II)I" } : Jvm.MethodName)) ∈ lw_tbl := lw_at lw_m6 152 rfl
theorem q1432 : (Jvm.Cond.instanceMethod ({ cls := "EelPort$Ship", name := "brightest", desc := "(LEelPort$Lit;II)I" } : Jvm.MethodName)) ∈ lw_all := lw_g (lw_at lw_m6 155 rfl) rfl
theorem q1433 : (Jvm.Cond.code ({ cls := "EelPort$Ship", name := "brightest", desc := "(LEelPort$Lit;II)I" } : Jvm.MethodName) prog_18_method_4_code (6 : Nat) (Option.some Jvm.ClassFile.FieldType.int)) ∈ lw_all := lw_g (lw_at lw_m6 156 rfl) rfl
theorem q1434 : (Jvm.Cond.methodLink "EelPort$Ship" (21 : Nat) ({ cls := "java/util/ArrayList", name := "size", desc := "()I" } : Jvm.MethodName)) ∈ lw_all := lw_g (lw_at lw_m6 157 rfl) rfl
theorem q1435 : (Jvm.Cond.methodLink "EelPort$Ship" (27 : Nat) ({ cls := "EelPort$Lit", name := "isWay", desc := "(II)Z" } : Jvm.MethodName)) ∈ lw_all := lw_g (lw_at lw_m6 158 rfl) rfl
theorem q1439 : (Jvm.Cond.methodLink "EelPort$Ship" (37 : Nat) ({ cls := "EelPort$Lit", name := "isSeen", desc := "(III)Z" } : Jvm.MethodName)) ∈ lw_all := lw_g (lw_at lw_m6 162 rfl) rfl
theorem q1444 : (Jvm.Cond.methodLink "EelPort$Ship" (41 : Nat) ({ cls := "EelPort$Lit", name := "light", desc := "(II)I" } : Jvm.MethodName)) ∈ lw_all := lw_g (lw_at lw_m6 167 rfl) rfl

/-! EelPort$Barge -/
set_option maxRecDepth 100000
def RX12 : String := "EelPort$Barge"
def TX12 : u_T := fun k => match k with
  | 0 => ("EelPort$Ship", "quay", "I", false)
  | 1 => ("EelPort$Ship", "hour", "I", false)
  | _ => ("EelPort$Ship", "sees", "I", false)
def tyX12 : Nat → FieldType := fun k => match k with
  | 0 => .int
  | 1 => .int
  | _ => .int
abbrev wsX120 : List Cond := u_ws RX12 TX12 3
theorem nmX12 : ∀ a, a < 3 → ∀ b, b < 3 → a ≠ b → (TX12 a).2.1 ≠ (TX12 b).2.1 := by decide +kernel
theorem tyX12_ok : ∀ k, k < 3 → parseFieldDescriptor (TX12 k).2.2.1 = some (tyX12 k) := by decide +kernel
abbrev cX12_init : ByteArray := prog_2_method_1_code
def yX12_init : MethodName := ⟨RX12, "<init>", "()V"⟩
theorem dX12_init_0 : decode cX12_init 0 = .ok (.aload_n 0, 1) := by decide +kernel
theorem dX12_init_1 : decode cX12_init 1 = .ok (.invokespecial 1, 3) := by decide +kernel
theorem dX12_init_4 : decode cX12_init 4 = .ok (.return_, 1) := by decide +kernel
abbrev cX12_kind : ByteArray := prog_2_method_2_code
def yX12_kind : MethodName := ⟨RX12, "kind", "()I"⟩
theorem dX12_kind_0 : decode cX12_kind 0 = .ok (.iconst 0, 1) := by decide +kernel
theorem dX12_kind_1 : decode cX12_kind 1 = .ok (.ireturn, 1) := by decide +kernel
abbrev cX12_goes : ByteArray := prog_2_method_3_code
def yX12_goes : MethodName := ⟨RX12, "goes", "(LEelPort$Lit;II)I"⟩
def dkwX12_goes_0 : List UInt8 := [42, 43, 28, 29, 182, 0, 7, 172]
abbrev dktX12_goes_0 : List UInt8 := dkwX12_goes_0 ++ []
theorem dksX12_goes_0 : cX12_goes.data.toList.drop 0 = dktX12_goes_0 := by decide +kernel
theorem dX12_goes_0 : decode cX12_goes 0 = .ok (.aload_n 0, 1) := dk_42 (dk_at dksX12_goes_0 0 rfl rfl)
theorem dX12_goes_1 : decode cX12_goes 1 = .ok (.aload_n 1, 1) := dk_43 (dk_at dksX12_goes_0 1 rfl rfl)
theorem dX12_goes_2 : decode cX12_goes 2 = .ok (.iload_n 2, 1) := dk_28 (dk_at dksX12_goes_0 2 rfl rfl)
theorem dX12_goes_3 : decode cX12_goes 3 = .ok (.iload_n 3, 1) := dk_29 (dk_at dksX12_goes_0 3 rfl rfl)
theorem dX12_goes_4 : decode cX12_goes 4 = .ok (.invokevirtual 7, 3) := dk_182 0 7 (dk_at dksX12_goes_0 4 rfl rfl)
theorem dX12_goes_7 : decode cX12_goes 7 = .ok (.ireturn, 1) := dk_172 (dk_at dksX12_goes_0 7 rfl rfl)
theorem q110 : (Jvm.Cond.initialized "EelPort$Barge") ∈ lw_all := lw_g (lw_at lw_m1 33 rfl) rfl
theorem q976 : (Jvm.Cond.instantiable "EelPort$Barge" (3 : Nat)) ∈ lw_all := lw_g (lw_at lw_m4 179 rfl) rfl
theorem q978 : (Jvm.Cond.instanceMethod ({ cls := "EelPort$Barge", name := "<init>", desc := "()V" } : Jvm.MethodName)) ∈ lw_all := lw_g (lw_at lw_m4 181 rfl) rfl
theorem q979 : (Jvm.Cond.code ({ cls := "EelPort$Barge", name := "<init>", desc := "()V" } : Jvm.MethodName) prog_2_method_1_code (1 : Nat) (Option.none : Option Jvm.ClassFile.FieldType)) ∈ lw_all := lw_g (lw_at lw_m4 182 rfl) rfl
theorem q980 : (Jvm.Cond.methodLinkNest "EelPort$Barge" (1 : Nat) ({ cls := "EelPort$Ship", name := "<init>", desc := "()V" } : Jvm.MethodName) "EelPort") ∈ lw_tbl := lw_at lw_m4 183 rfl
theorem q993 : (Jvm.Cond.lays "EelPort$Barge" "EelPort$Ship" "quay" "I") ∈ lw_all := lw_g (lw_at lw_m4 196 rfl) rfl
theorem q995 : (Jvm.Cond.lays "EelPort$Barge" "EelPort$Ship" "hour" "I") ∈ lw_all := lw_g (lw_at lw_m4 198 rfl) rfl
theorem q997 : (Jvm.Cond.lays "EelPort$Barge" "EelPort$Ship" "sees" "I") ∈ lw_all := lw_g (lw_at lw_m4 200 rfl) rfl
theorem q999 : (Jvm.Cond.superclass "EelPort$Barge" "EelPort$Ship") ∈ lw_all := lw_g (lw_at lw_m4 202 rfl) rfl
theorem q1103 : (Jvm.Cond.selects "EelPort$Barge" ({ cls := "java/lang/Object", name := "getClass", desc := "()Ljava/lang/Class;" } : Jvm.MethodName) ({ cls := "java/lang/Object", name := "getClass", desc := "()Ljava/lang/Class;" } : Jvm.MethodName)) ∈ lw_all := lw_g (lw_at lw_m5 66 rfl) rfl
theorem q1322 : (Jvm.Cond.selects "EelPort$Barge" ({ cls := "EelPort$Ship", name := "kind", desc := "()I" } : Jvm.MethodName) ({ cls := "EelPort$Barge", name := "kind", desc := "()I" } : Jvm.MethodName)) ∈ lw_all := lw_g (lw_at lw_m6 45 rfl) rfl
theorem q1323 : (Jvm.Cond.instanceMethod ({ cls := "EelPort$Barge", name := "kind", desc := "()I" } : Jvm.MethodName)) ∈ lw_all := lw_g (lw_at lw_m6 46 rfl) rfl
theorem q1324 : (Jvm.Cond.code ({ cls := "EelPort$Barge", name := "kind", desc := "()I" } : Jvm.MethodName) prog_2_method_2_code (1 : Nat) (Option.some Jvm.ClassFile.FieldType.int)) ∈ lw_all := lw_g (lw_at lw_m6 47 rfl) rfl
theorem q1424 : (Jvm.Cond.selects "EelPort$Barge" ({ cls := "EelPort$Ship", name := "goes", desc := "(LEelPort$Lit;II)I" } : Jvm.MethodName) ({ cls := "EelPort$Barge", name := "goes", desc := "(LEelPort$Lit;II)I" } : Jvm.MethodName)) ∈ lw_all := lw_g (lw_at lw_m6 147 rfl) rfl
theorem q1425 : (Jvm.Cond.instanceMethod ({ cls := "EelPort$Barge", name := "goes", desc := "(LEelPort$Lit;II)I" } : Jvm.MethodName)) ∈ lw_all := lw_g (lw_at lw_m6 148 rfl) rfl
theorem q1426 : (Jvm.Cond.code ({ cls := "EelPort$Barge", name := "goes", desc := "(LEelPort$Lit;II)I" } : Jvm.MethodName) prog_2_method_3_code (4 : Nat) (Option.some Jvm.ClassFile.FieldType.int)) ∈ lw_all := lw_g (lw_at lw_m6 149 rfl) rfl
theorem q1427 : (Jvm.Cond.methodLink "EelPort$Barge" (7 : Nat) ({ cls := "EelPort$Barge", name := "brightest", desc := "(LEelPort$Lit;II)I" } : Jvm.MethodName)) ∈ lw_all := lw_g (lw_at lw_m6 150 rfl) rfl
theorem q1428 : (Jvm.Cond.sameMethod "EelPort$Barge" "EelPort$Ship" "brightest" "(LEelPort$Lit;II)I") ∈ lw_all := lw_g (lw_at lw_m6 151 rfl) rfl
theorem q1430 : (Jvm.Cond.selects "EelPort$Barge" ({ cls := "EelPort$Barge", name := "brightest", desc := "(LEelPort$Lit;II)I" } : Jvm.MethodName) ({ cls := "EelPort$Ship", name := "brightest", desc := "(LEelPort$Lit;II)I" } : Jvm.MethodName)) ∈ lw_all := lw_g (lw_at lw_m6 153 rfl) rfl
theorem q2183 : (Jvm.Cond.sameMethod "EelPort$Barge" "EelPort$Barge" "goes" "(LEelPort$Lit;II)I") ∈ lw_all := lw_g (lw_at lw_m9 186 rfl) rfl
theorem q2192 : (Jvm.Cond.castable "EelPort$Barge" "EelPort$Ship") ∈ lw_tbl := lw_at lw_m9 195 rfl
theorem q2211 : (Jvm.Cond.castable "EelPort$Barge" "java/lang/Object") ∈ lw_tbl := lw_at lw_m9 214 rfl
theorem in_X12 : ∀ w ∈ wsX120, w ∈ lw_all := lw_in wsX120 [993, 995, 997] (by decide +kernel) (by decide +kernel)

/-! EelPort$Cutter -/
set_option maxRecDepth 100000
def RX13 : String := "EelPort$Cutter"
def TX13 : u_T := fun k => match k with
  | 0 => ("EelPort$Ship", "quay", "I", false)
  | 1 => ("EelPort$Ship", "hour", "I", false)
  | _ => ("EelPort$Ship", "sees", "I", false)
def tyX13 : Nat → FieldType := fun k => match k with
  | 0 => .int
  | 1 => .int
  | _ => .int
abbrev wsX130 : List Cond := u_ws RX13 TX13 3
theorem nmX13 : ∀ a, a < 3 → ∀ b, b < 3 → a ≠ b → (TX13 a).2.1 ≠ (TX13 b).2.1 := by decide +kernel
theorem tyX13_ok : ∀ k, k < 3 → parseFieldDescriptor (TX13 k).2.2.1 = some (tyX13 k) := by decide +kernel
abbrev cX13_init : ByteArray := prog_4_method_1_code
def yX13_init : MethodName := ⟨RX13, "<init>", "()V"⟩
theorem dX13_init_0 : decode cX13_init 0 = .ok (.aload_n 0, 1) := by decide +kernel
theorem dX13_init_1 : decode cX13_init 1 = .ok (.invokespecial 1, 3) := by decide +kernel
theorem dX13_init_4 : decode cX13_init 4 = .ok (.return_, 1) := by decide +kernel
abbrev cX13_kind : ByteArray := prog_4_method_2_code
def yX13_kind : MethodName := ⟨RX13, "kind", "()I"⟩
theorem dX13_kind_0 : decode cX13_kind 0 = .ok (.iconst 1, 1) := by decide +kernel
theorem dX13_kind_1 : decode cX13_kind 1 = .ok (.ireturn, 1) := by decide +kernel
abbrev cX13_goes : ByteArray := prog_4_method_3_code
def yX13_goes : MethodName := ⟨RX13, "goes", "(LEelPort$Lit;II)I"⟩
def dkwX13_goes_1 : List UInt8 := [182, 0, 31, 158, 0, 8, 21, 4, 167, 0, 11, 42, 43, 21, 4, 29, 183, 0, 7, 172]
abbrev dktX13_goes_1 : List UInt8 := dkwX13_goes_1 ++ []
def dkwX13_goes_0 : List UInt8 := [42, 43, 28, 29, 183, 0, 7, 54, 4, 43, 180, 0, 11, 180, 0, 17, 21, 4, 182, 0, 23, 192, 0, 29]
abbrev dktX13_goes_0 : List UInt8 := dkwX13_goes_0 ++ dktX13_goes_1
theorem dksX13_goes_0 : cX13_goes.data.toList.drop 0 = dktX13_goes_0 := by decide +kernel
theorem dksX13_goes_1 : cX13_goes.data.toList.drop 24 = dktX13_goes_1 := dk_seg dksX13_goes_0 24 rfl rfl
theorem dX13_goes_0 : decode cX13_goes 0 = .ok (.aload_n 0, 1) := dk_42 (dk_at dksX13_goes_0 0 rfl rfl)
theorem dX13_goes_1 : decode cX13_goes 1 = .ok (.aload_n 1, 1) := dk_43 (dk_at dksX13_goes_0 1 rfl rfl)
theorem dX13_goes_2 : decode cX13_goes 2 = .ok (.iload_n 2, 1) := dk_28 (dk_at dksX13_goes_0 2 rfl rfl)
theorem dX13_goes_3 : decode cX13_goes 3 = .ok (.iload_n 3, 1) := dk_29 (dk_at dksX13_goes_0 3 rfl rfl)
theorem dX13_goes_4 : decode cX13_goes 4 = .ok (.invokespecial 7, 3) := dk_183 0 7 (dk_at dksX13_goes_0 4 rfl rfl)
theorem dX13_goes_7 : decode cX13_goes 7 = .ok (.istore 4, 2) := dk_54 4 (dk_at dksX13_goes_0 7 rfl rfl)
theorem dX13_goes_9 : decode cX13_goes 9 = .ok (.aload_n 1, 1) := dk_43 (dk_at dksX13_goes_0 9 rfl rfl)
theorem dX13_goes_10 : decode cX13_goes 10 = .ok (.getfield 11, 3) := dk_180 0 11 (dk_at dksX13_goes_0 10 rfl rfl)
theorem dX13_goes_13 : decode cX13_goes 13 = .ok (.getfield 17, 3) := dk_180 0 17 (dk_at dksX13_goes_0 13 rfl rfl)
theorem dX13_goes_16 : decode cX13_goes 16 = .ok (.iload 4, 2) := dk_21 4 (dk_at dksX13_goes_0 16 rfl rfl)
theorem dX13_goes_18 : decode cX13_goes 18 = .ok (.invokevirtual 23, 3) := dk_182 0 23 (dk_at dksX13_goes_0 18 rfl rfl)
theorem dX13_goes_21 : decode cX13_goes 21 = .ok (.checkcast 29, 3) := dk_192 0 29 (dk_at dksX13_goes_0 21 rfl rfl)
theorem dX13_goes_24 : decode cX13_goes 24 = .ok (.invokevirtual 31, 3) := dk_182 0 31 (dk_at dksX13_goes_1 0 rfl rfl)
theorem dX13_goes_27 : decode cX13_goes 27 = .ok (.ifCond .le 8, 3) := dk_158 0 8 (dk_at dksX13_goes_1 3 rfl rfl)
theorem dX13_goes_30 : decode cX13_goes 30 = .ok (.iload 4, 2) := dk_21 4 (dk_at dksX13_goes_1 6 rfl rfl)
theorem dX13_goes_32 : decode cX13_goes 32 = .ok (.goto 11, 3) := dk_167 0 11 (dk_at dksX13_goes_1 8 rfl rfl)
theorem dX13_goes_35 : decode cX13_goes 35 = .ok (.aload_n 0, 1) := dk_42 (dk_at dksX13_goes_1 11 rfl rfl)
theorem dX13_goes_36 : decode cX13_goes 36 = .ok (.aload_n 1, 1) := dk_43 (dk_at dksX13_goes_1 12 rfl rfl)
theorem dX13_goes_37 : decode cX13_goes 37 = .ok (.iload 4, 2) := dk_21 4 (dk_at dksX13_goes_1 13 rfl rfl)
theorem dX13_goes_39 : decode cX13_goes 39 = .ok (.iload_n 3, 1) := dk_29 (dk_at dksX13_goes_1 15 rfl rfl)
theorem dX13_goes_40 : decode cX13_goes 40 = .ok (.invokespecial 7, 3) := dk_183 0 7 (dk_at dksX13_goes_1 16 rfl rfl)
theorem dX13_goes_43 : decode cX13_goes 43 = .ok (.ireturn, 1) := dk_172 (dk_at dksX13_goes_1 19 rfl rfl)
theorem q111 : (Jvm.Cond.initialized "EelPort$Cutter") ∈ lw_all := lw_g (lw_at lw_m1 34 rfl) rfl
theorem q499 : (Jvm.Cond.fieldLinkNest "EelPort$Cutter" (17 : Nat) "EelPort$Port" "quays" "Ljava/util/ArrayList;" "EelPort") ∈ lw_tbl := lw_at lw_m2 182 rfl
theorem q551 : (Jvm.Cond.fieldLinkNest "EelPort$Cutter" (11 : Nat) "EelPort$Lit" "port" "LEelPort$Port;" "EelPort") ∈ lw_tbl := lw_at lw_m2 234 rfl
theorem q1002 : (Jvm.Cond.instantiable "EelPort$Cutter" (3 : Nat)) ∈ lw_all := lw_g (lw_at lw_m4 205 rfl) rfl
theorem q1004 : (Jvm.Cond.instanceMethod ({ cls := "EelPort$Cutter", name := "<init>", desc := "()V" } : Jvm.MethodName)) ∈ lw_all := lw_g (lw_at lw_m4 207 rfl) rfl
theorem q1005 : (Jvm.Cond.code ({ cls := "EelPort$Cutter", name := "<init>", desc := "()V" } : Jvm.MethodName) prog_4_method_1_code (1 : Nat) (Option.none : Option Jvm.ClassFile.FieldType)) ∈ lw_all := lw_g (lw_at lw_m4 208 rfl) rfl
theorem q1006 : (Jvm.Cond.methodLinkNest "EelPort$Cutter" (1 : Nat) ({ cls := "EelPort$Barge", name := "<init>", desc := "()V" } : Jvm.MethodName) "EelPort") ∈ lw_tbl := lw_at lw_m4 209 rfl
theorem q1007 : (Jvm.Cond.lays "EelPort$Cutter" "EelPort$Ship" "quay" "I") ∈ lw_all := lw_g (lw_at lw_m4 210 rfl) rfl
theorem q1008 : (Jvm.Cond.lays "EelPort$Cutter" "EelPort$Ship" "hour" "I") ∈ lw_all := lw_g (lw_at lw_m4 211 rfl) rfl
theorem q1009 : (Jvm.Cond.lays "EelPort$Cutter" "EelPort$Ship" "sees" "I") ∈ lw_all := lw_g (lw_at lw_m4 212 rfl) rfl
theorem q1010 : (Jvm.Cond.superclass "EelPort$Cutter" "EelPort$Barge") ∈ lw_all := lw_g (lw_at lw_m4 213 rfl) rfl
theorem q1105 : (Jvm.Cond.selects "EelPort$Cutter" ({ cls := "java/lang/Object", name := "getClass", desc := "()Ljava/lang/Class;" } : Jvm.MethodName) ({ cls := "java/lang/Object", name := "getClass", desc := "()Ljava/lang/Class;" } : Jvm.MethodName)) ∈ lw_all := lw_g (lw_at lw_m5 68 rfl) rfl
theorem q1325 : (Jvm.Cond.selects "EelPort$Cutter" ({ cls := "EelPort$Ship", name := "kind", desc := "()I" } : Jvm.MethodName) ({ cls := "EelPort$Cutter", name := "kind", desc := "()I" } : Jvm.MethodName)) ∈ lw_all := lw_g (lw_at lw_m6 48 rfl) rfl
theorem q1326 : (Jvm.Cond.instanceMethod ({ cls := "EelPort$Cutter", name := "kind", desc := "()I" } : Jvm.MethodName)) ∈ lw_all := lw_g (lw_at lw_m6 49 rfl) rfl
theorem q1327 : (Jvm.Cond.code ({ cls := "EelPort$Cutter", name := "kind", desc := "()I" } : Jvm.MethodName) prog_4_method_2_code (1 : Nat) (Option.some Jvm.ClassFile.FieldType.int)) ∈ lw_all := lw_g (lw_at lw_m6 50 rfl) rfl
theorem q1431 : (Jvm.Cond.selects "EelPort$Cutter" ({ cls := "EelPort$Barge", name := "brightest", desc := "(LEelPort$Lit;II)I" } : Jvm.MethodName) ({ cls := "EelPort$Ship", name := "brightest", desc := "(LEelPort$Lit;II)I" } : Jvm.MethodName)) ∈ lw_all := lw_g (lw_at lw_m6 154 rfl) rfl
theorem q1445 : (Jvm.Cond.selects "EelPort$Cutter" ({ cls := "EelPort$Ship", name := "goes", desc := "(LEelPort$Lit;II)I" } : Jvm.MethodName) ({ cls := "EelPort$Cutter", name := "goes", desc := "(LEelPort$Lit;II)I" } : Jvm.MethodName)) ∈ lw_all := lw_g (lw_at lw_m6 168 rfl) rfl
theorem q1446 : (Jvm.Cond.instanceMethod ({ cls := "EelPort$Cutter", name := "goes", desc := "(LEelPort$Lit;II)I" } : Jvm.MethodName)) ∈ lw_all := lw_g (lw_at lw_m6 169 rfl) rfl
theorem q1447 : (Jvm.Cond.code ({ cls := "EelPort$Cutter", name := "goes", desc := "(LEelPort$Lit;II)I" } : Jvm.MethodName) prog_4_method_3_code (5 : Nat) (Option.some Jvm.ClassFile.FieldType.int)) ∈ lw_all := lw_g (lw_at lw_m6 170 rfl) rfl
theorem q1448 : (Jvm.Cond.methodLink "EelPort$Cutter" (7 : Nat) ({ cls := "EelPort$Barge", name := "goes", desc := "(LEelPort$Lit;II)I" } : Jvm.MethodName)) ∈ lw_all := lw_g (lw_at lw_m6 171 rfl) rfl
theorem q1449 : (Jvm.Cond.methodLink "EelPort$Cutter" (23 : Nat) ({ cls := "java/util/ArrayList", name := "get", desc := "(I)Ljava/lang/Object;" } : Jvm.MethodName)) ∈ lw_all := lw_g (lw_at lw_m6 172 rfl) rfl
theorem q1450 : (Jvm.Cond.classLink "EelPort$Cutter" (29 : Nat) "EelPort$Quay") ∈ lw_all := lw_g (lw_at lw_m6 173 rfl) rfl
theorem q1451 : (Jvm.Cond.methodLink "EelPort$Cutter" (31 : Nat) ({ cls := "EelPort$Quay", name := "end", desc := "()I" } : Jvm.MethodName)) ∈ lw_all := lw_g (lw_at lw_m6 174 rfl) rfl
theorem q2193 : (Jvm.Cond.castable "EelPort$Cutter" "EelPort$Ship") ∈ lw_tbl := lw_at lw_m9 196 rfl
theorem q2212 : (Jvm.Cond.castable "EelPort$Cutter" "java/lang/Object") ∈ lw_tbl := lw_at lw_m9 215 rfl
theorem in_X13 : ∀ w ∈ wsX130, w ∈ lw_all := lw_in wsX130 [1007, 1008, 1009] (by decide +kernel) (by decide +kernel)

/-! EelPort$Smuggler -/
set_option maxRecDepth 100000
def RX14 : String := "EelPort$Smuggler"
def TX14 : u_T := fun k => match k with
  | 0 => ("EelPort$Ship", "quay", "I", false)
  | 1 => ("EelPort$Ship", "hour", "I", false)
  | _ => ("EelPort$Ship", "sees", "I", false)
def tyX14 : Nat → FieldType := fun k => match k with
  | 0 => .int
  | 1 => .int
  | _ => .int
abbrev wsX140 : List Cond := u_ws RX14 TX14 3
theorem nmX14 : ∀ a, a < 3 → ∀ b, b < 3 → a ≠ b → (TX14 a).2.1 ≠ (TX14 b).2.1 := by decide +kernel
theorem tyX14_ok : ∀ k, k < 3 → parseFieldDescriptor (TX14 k).2.2.1 = some (tyX14 k) := by decide +kernel
abbrev cX14_init : ByteArray := prog_20_method_1_code
def yX14_init : MethodName := ⟨RX14, "<init>", "()V"⟩
theorem dX14_init_0 : decode cX14_init 0 = .ok (.aload_n 0, 1) := by decide +kernel
theorem dX14_init_1 : decode cX14_init 1 = .ok (.invokespecial 3, 3) := by decide +kernel
theorem dX14_init_4 : decode cX14_init 4 = .ok (.return_, 1) := by decide +kernel
abbrev cX14_kind : ByteArray := prog_20_method_2_code
def yX14_kind : MethodName := ⟨RX14, "kind", "()I"⟩
theorem dX14_kind_0 : decode cX14_kind 0 = .ok (.iconst 2, 1) := by decide +kernel
theorem dX14_kind_1 : decode cX14_kind 1 = .ok (.ireturn, 1) := by decide +kernel
abbrev cX14_goes : ByteArray := prog_20_method_3_code
def yX14_goes : MethodName := ⟨RX14, "goes", "(LEelPort$Lit;II)I"⟩
def dkwX14_goes_3 : List UInt8 := [167, 0, 5, 21, 4, 172]
abbrev dktX14_goes_3 : List UInt8 := dkwX14_goes_3 ++ []
def dkwX14_goes_2 : List UInt8 := [29, 182, 0, 31, 162, 0, 7, 21, 5, 54, 4, 132, 5, 1, 167, 255, 201, 21, 4, 2, 160, 0, 7, 28]
abbrev dktX14_goes_2 : List UInt8 := dkwX14_goes_2 ++ dktX14_goes_3
def dkwX14_goes_1 : List UInt8 := [21, 5, 182, 0, 27, 153, 0, 30, 21, 4, 2, 159, 0, 20, 43, 21, 5, 29, 182, 0, 31, 43, 21, 4]
abbrev dktX14_goes_1 : List UInt8 := dkwX14_goes_1 ++ dktX14_goes_2
def dkwX14_goes_0 : List UInt8 := [2, 54, 4, 3, 54, 5, 21, 5, 43, 180, 0, 9, 180, 0, 15, 182, 0, 21, 162, 0, 46, 43, 28]
abbrev dktX14_goes_0 : List UInt8 := dkwX14_goes_0 ++ dktX14_goes_1
theorem dksX14_goes_0 : cX14_goes.data.toList.drop 0 = dktX14_goes_0 := by decide +kernel
theorem dksX14_goes_1 : cX14_goes.data.toList.drop 23 = dktX14_goes_1 := dk_seg dksX14_goes_0 23 rfl rfl
theorem dksX14_goes_2 : cX14_goes.data.toList.drop 47 = dktX14_goes_2 := dk_seg dksX14_goes_1 24 rfl rfl
theorem dksX14_goes_3 : cX14_goes.data.toList.drop 71 = dktX14_goes_3 := dk_seg dksX14_goes_2 24 rfl rfl
theorem dX14_goes_0 : decode cX14_goes 0 = .ok (.iconst (-1), 1) := dk_2 (dk_at dksX14_goes_0 0 rfl rfl)
theorem dX14_goes_1 : decode cX14_goes 1 = .ok (.istore 4, 2) := dk_54 4 (dk_at dksX14_goes_0 1 rfl rfl)
theorem dX14_goes_3 : decode cX14_goes 3 = .ok (.iconst 0, 1) := dk_3 (dk_at dksX14_goes_0 3 rfl rfl)
theorem dX14_goes_4 : decode cX14_goes 4 = .ok (.istore 5, 2) := dk_54 5 (dk_at dksX14_goes_0 4 rfl rfl)
theorem dX14_goes_6 : decode cX14_goes 6 = .ok (.iload 5, 2) := dk_21 5 (dk_at dksX14_goes_0 6 rfl rfl)
theorem dX14_goes_8 : decode cX14_goes 8 = .ok (.aload_n 1, 1) := dk_43 (dk_at dksX14_goes_0 8 rfl rfl)
theorem dX14_goes_9 : decode cX14_goes 9 = .ok (.getfield 9, 3) := dk_180 0 9 (dk_at dksX14_goes_0 9 rfl rfl)
theorem dX14_goes_12 : decode cX14_goes 12 = .ok (.getfield 15, 3) := dk_180 0 15 (dk_at dksX14_goes_0 12 rfl rfl)
theorem dX14_goes_15 : decode cX14_goes 15 = .ok (.invokevirtual 21, 3) := dk_182 0 21 (dk_at dksX14_goes_0 15 rfl rfl)
theorem dX14_goes_18 : decode cX14_goes 18 = .ok (.if_icmp .ge 46, 3) := dk_162 0 46 (dk_at dksX14_goes_0 18 rfl rfl)
theorem dX14_goes_21 : decode cX14_goes 21 = .ok (.aload_n 1, 1) := dk_43 (dk_at dksX14_goes_0 21 rfl rfl)
theorem dX14_goes_22 : decode cX14_goes 22 = .ok (.iload_n 2, 1) := dk_28 (dk_at dksX14_goes_0 22 rfl rfl)
theorem dX14_goes_23 : decode cX14_goes 23 = .ok (.iload 5, 2) := dk_21 5 (dk_at dksX14_goes_1 0 rfl rfl)
theorem dX14_goes_25 : decode cX14_goes 25 = .ok (.invokevirtual 27, 3) := dk_182 0 27 (dk_at dksX14_goes_1 2 rfl rfl)
theorem dX14_goes_28 : decode cX14_goes 28 = .ok (.ifCond .eq 30, 3) := dk_153 0 30 (dk_at dksX14_goes_1 5 rfl rfl)
theorem dX14_goes_31 : decode cX14_goes 31 = .ok (.iload 4, 2) := dk_21 4 (dk_at dksX14_goes_1 8 rfl rfl)
theorem dX14_goes_33 : decode cX14_goes 33 = .ok (.iconst (-1), 1) := dk_2 (dk_at dksX14_goes_1 10 rfl rfl)
theorem dX14_goes_34 : decode cX14_goes 34 = .ok (.if_icmp .eq 20, 3) := dk_159 0 20 (dk_at dksX14_goes_1 11 rfl rfl)
theorem dX14_goes_37 : decode cX14_goes 37 = .ok (.aload_n 1, 1) := dk_43 (dk_at dksX14_goes_1 14 rfl rfl)
theorem dX14_goes_38 : decode cX14_goes 38 = .ok (.iload 5, 2) := dk_21 5 (dk_at dksX14_goes_1 15 rfl rfl)
theorem dX14_goes_40 : decode cX14_goes 40 = .ok (.iload_n 3, 1) := dk_29 (dk_at dksX14_goes_1 17 rfl rfl)
theorem dX14_goes_41 : decode cX14_goes 41 = .ok (.invokevirtual 31, 3) := dk_182 0 31 (dk_at dksX14_goes_1 18 rfl rfl)
theorem dX14_goes_44 : decode cX14_goes 44 = .ok (.aload_n 1, 1) := dk_43 (dk_at dksX14_goes_1 21 rfl rfl)
theorem dX14_goes_45 : decode cX14_goes 45 = .ok (.iload 4, 2) := dk_21 4 (dk_at dksX14_goes_1 22 rfl rfl)
theorem dX14_goes_47 : decode cX14_goes 47 = .ok (.iload_n 3, 1) := dk_29 (dk_at dksX14_goes_2 0 rfl rfl)
theorem dX14_goes_48 : decode cX14_goes 48 = .ok (.invokevirtual 31, 3) := dk_182 0 31 (dk_at dksX14_goes_2 1 rfl rfl)
theorem dX14_goes_51 : decode cX14_goes 51 = .ok (.if_icmp .ge 7, 3) := dk_162 0 7 (dk_at dksX14_goes_2 4 rfl rfl)
theorem dX14_goes_54 : decode cX14_goes 54 = .ok (.iload 5, 2) := dk_21 5 (dk_at dksX14_goes_2 7 rfl rfl)
theorem dX14_goes_56 : decode cX14_goes 56 = .ok (.istore 4, 2) := dk_54 4 (dk_at dksX14_goes_2 9 rfl rfl)
theorem dX14_goes_58 : decode cX14_goes 58 = .ok (.iinc 5 1, 3) := dk_132 5 1 (dk_at dksX14_goes_2 11 rfl rfl)
theorem dX14_goes_61 : decode cX14_goes 61 = .ok (.goto (-55), 3) := dk_167 255 201 (dk_at dksX14_goes_2 14 rfl rfl)
theorem dX14_goes_64 : decode cX14_goes 64 = .ok (.iload 4, 2) := dk_21 4 (dk_at dksX14_goes_2 17 rfl rfl)
theorem dX14_goes_66 : decode cX14_goes 66 = .ok (.iconst (-1), 1) := dk_2 (dk_at dksX14_goes_2 19 rfl rfl)
theorem dX14_goes_67 : decode cX14_goes 67 = .ok (.if_icmp .ne 7, 3) := dk_160 0 7 (dk_at dksX14_goes_2 20 rfl rfl)
theorem dX14_goes_70 : decode cX14_goes 70 = .ok (.iload_n 2, 1) := dk_28 (dk_at dksX14_goes_2 23 rfl rfl)
theorem dX14_goes_71 : decode cX14_goes 71 = .ok (.goto 5, 3) := dk_167 0 5 (dk_at dksX14_goes_3 0 rfl rfl)
theorem dX14_goes_74 : decode cX14_goes 74 = .ok (.iload 4, 2) := dk_21 4 (dk_at dksX14_goes_3 3 rfl rfl)
theorem dX14_goes_76 : decode cX14_goes 76 = .ok (.ireturn, 1) := dk_172 (dk_at dksX14_goes_3 5 rfl rfl)
theorem q112 : (Jvm.Cond.initialized "EelPort$Smuggler") ∈ lw_all := lw_g (lw_at lw_m1 35 rfl) rfl
theorem q498 : (Jvm.Cond.fieldLinkNest "EelPort$Smuggler" (15 : Nat) "EelPort$Port" "quays" "Ljava/util/ArrayList;" "EelPort") ∈ lw_tbl := lw_at lw_m2 181 rfl
theorem q550 : (Jvm.Cond.fieldLinkNest "EelPort$Smuggler" (9 : Nat) "EelPort$Lit" "port" "LEelPort$Port;" "EelPort") ∈ lw_tbl := lw_at lw_m2 233 rfl
theorem q1013 : (Jvm.Cond.instantiable "EelPort$Smuggler" (3 : Nat)) ∈ lw_all := lw_g (lw_at lw_m4 216 rfl) rfl
theorem q1015 : (Jvm.Cond.instanceMethod ({ cls := "EelPort$Smuggler", name := "<init>", desc := "()V" } : Jvm.MethodName)) ∈ lw_all := lw_g (lw_at lw_m4 218 rfl) rfl
theorem q1016 : (Jvm.Cond.code ({ cls := "EelPort$Smuggler", name := "<init>", desc := "()V" } : Jvm.MethodName) prog_20_method_1_code (1 : Nat) (Option.none : Option Jvm.ClassFile.FieldType)) ∈ lw_all := lw_g (lw_at lw_m4 219 rfl) rfl
theorem q1017 : (Jvm.Cond.methodLinkNest "EelPort$Smuggler" (3 : Nat) ({ cls := "EelPort$Ship", name := "<init>", desc := "()V" } : Jvm.MethodName) "EelPort") ∈ lw_tbl := lw_at lw_m4 220 rfl
theorem q1018 : (Jvm.Cond.lays "EelPort$Smuggler" "EelPort$Ship" "quay" "I") ∈ lw_all := lw_g (lw_at lw_m4 221 rfl) rfl
theorem q1019 : (Jvm.Cond.lays "EelPort$Smuggler" "EelPort$Ship" "hour" "I") ∈ lw_all := lw_g (lw_at lw_m4 222 rfl) rfl
theorem q1020 : (Jvm.Cond.lays "EelPort$Smuggler" "EelPort$Ship" "sees" "I") ∈ lw_all := lw_g (lw_at lw_m4 223 rfl) rfl
theorem q1021 : (Jvm.Cond.superclass "EelPort$Smuggler" "EelPort$Ship") ∈ lw_all := lw_g (lw_at lw_m4 224 rfl) rfl
theorem q1119 : (Jvm.Cond.selects "EelPort$Smuggler" ({ cls := "java/lang/Object", name := "getClass", desc := "()Ljava/lang/Class;" } : Jvm.MethodName) ({ cls := "java/lang/Object", name := "getClass", desc := "()Ljava/lang/Class;" } : Jvm.MethodName)) ∈ lw_all := lw_g (lw_at lw_m5 82 rfl) rfl
theorem q1331 : (Jvm.Cond.selects "EelPort$Smuggler" ({ cls := "EelPort$Ship", name := "kind", desc := "()I" } : Jvm.MethodName) ({ cls := "EelPort$Smuggler", name := "kind", desc := "()I" } : Jvm.MethodName)) ∈ lw_all := lw_g (lw_at lw_m6 54 rfl) rfl
theorem q1332 : (Jvm.Cond.instanceMethod ({ cls := "EelPort$Smuggler", name := "kind", desc := "()I" } : Jvm.MethodName)) ∈ lw_all := lw_g (lw_at lw_m6 55 rfl) rfl
theorem q1333 : (Jvm.Cond.code ({ cls := "EelPort$Smuggler", name := "kind", desc := "()I" } : Jvm.MethodName) prog_20_method_2_code (1 : Nat) (Option.some Jvm.ClassFile.FieldType.int)) ∈ lw_all := lw_g (lw_at lw_m6 56 rfl) rfl
theorem q1461 : (Jvm.Cond.selects "EelPort$Smuggler" ({ cls := "EelPort$Ship", name := "goes", desc := "(LEelPort$Lit;II)I" } : Jvm.MethodName) ({ cls := "EelPort$Smuggler", name := "goes", desc := "(LEelPort$Lit;II)I" } : Jvm.MethodName)) ∈ lw_all := lw_g (lw_at lw_m6 184 rfl) rfl
theorem q1462 : (Jvm.Cond.instanceMethod ({ cls := "EelPort$Smuggler", name := "goes", desc := "(LEelPort$Lit;II)I" } : Jvm.MethodName)) ∈ lw_all := lw_g (lw_at lw_m6 185 rfl) rfl
theorem q1463 : (Jvm.Cond.code ({ cls := "EelPort$Smuggler", name := "goes", desc := "(LEelPort$Lit;II)I" } : Jvm.MethodName) prog_20_method_3_code (6 : Nat) (Option.some Jvm.ClassFile.FieldType.int)) ∈ lw_all := lw_g (lw_at lw_m6 186 rfl) rfl
theorem q1464 : (Jvm.Cond.methodLink "EelPort$Smuggler" (21 : Nat) ({ cls := "java/util/ArrayList", name := "size", desc := "()I" } : Jvm.MethodName)) ∈ lw_all := lw_g (lw_at lw_m6 187 rfl) rfl
theorem q1465 : (Jvm.Cond.methodLink "EelPort$Smuggler" (27 : Nat) ({ cls := "EelPort$Lit", name := "isWay", desc := "(II)Z" } : Jvm.MethodName)) ∈ lw_all := lw_g (lw_at lw_m6 188 rfl) rfl
theorem q1466 : (Jvm.Cond.methodLink "EelPort$Smuggler" (31 : Nat) ({ cls := "EelPort$Lit", name := "light", desc := "(II)I" } : Jvm.MethodName)) ∈ lw_all := lw_g (lw_at lw_m6 189 rfl) rfl
theorem q2195 : (Jvm.Cond.castable "EelPort$Smuggler" "EelPort$Ship") ∈ lw_tbl := lw_at lw_m9 198 rfl
theorem q2213 : (Jvm.Cond.castable "EelPort$Smuggler" "java/lang/Object") ∈ lw_tbl := lw_at lw_m9 216 rfl
theorem in_X14 : ∀ w ∈ wsX140, w ∈ lw_all := lw_in wsX140 [1018, 1019, 1020] (by decide +kernel) (by decide +kernel)

/-! EelPort$Pilot -/
set_option maxRecDepth 100000
def RX15 : String := "EelPort$Pilot"
def TX15 : u_T := fun k => match k with
  | 0 => ("EelPort$Ship", "quay", "I", false)
  | 1 => ("EelPort$Ship", "hour", "I", false)
  | _ => ("EelPort$Ship", "sees", "I", false)
def tyX15 : Nat → FieldType := fun k => match k with
  | 0 => .int
  | 1 => .int
  | _ => .int
abbrev wsX150 : List Cond := u_ws RX15 TX15 3
theorem nmX15 : ∀ a, a < 3 → ∀ b, b < 3 → a ≠ b → (TX15 a).2.1 ≠ (TX15 b).2.1 := by decide +kernel
theorem tyX15_ok : ∀ k, k < 3 → parseFieldDescriptor (TX15 k).2.2.1 = some (tyX15 k) := by decide +kernel
abbrev cX15_init : ByteArray := prog_13_method_1_code
def yX15_init : MethodName := ⟨RX15, "<init>", "()V"⟩
theorem dX15_init_0 : decode cX15_init 0 = .ok (.aload_n 0, 1) := by decide +kernel
theorem dX15_init_1 : decode cX15_init 1 = .ok (.invokespecial 3, 3) := by decide +kernel
theorem dX15_init_4 : decode cX15_init 4 = .ok (.return_, 1) := by decide +kernel
abbrev cX15_kind : ByteArray := prog_13_method_2_code
def yX15_kind : MethodName := ⟨RX15, "kind", "()I"⟩
theorem dX15_kind_0 : decode cX15_kind 0 = .ok (.iconst 3, 1) := by decide +kernel
theorem dX15_kind_1 : decode cX15_kind 1 = .ok (.ireturn, 1) := by decide +kernel
abbrev cX15_goes : ByteArray := prog_13_method_3_code
def yX15_goes : MethodName := ⟨RX15, "goes", "(LEelPort$Lit;II)I"⟩
def dkwX15_goes_3 : List UInt8 := [54, 4, 132, 5, 1, 167, 255, 187, 21, 4, 2, 160, 0, 7, 28, 167, 0, 5, 21, 4, 172]
abbrev dktX15_goes_3 : List UInt8 := dkwX15_goes_3 ++ []
def dkwX15_goes_2 : List UInt8 := [2, 159, 0, 20, 43, 21, 5, 29, 182, 0, 31, 43, 21, 4, 29, 182, 0, 31, 164, 0, 7, 21, 5]
abbrev dktX15_goes_2 : List UInt8 := dkwX15_goes_2 ++ dktX15_goes_3
def dkwX15_goes_1 : List UInt8 := [21, 5, 182, 0, 27, 153, 0, 44, 43, 21, 5, 29, 182, 0, 31, 2, 160, 0, 6, 167, 0, 30, 21, 4]
abbrev dktX15_goes_1 : List UInt8 := dkwX15_goes_1 ++ dktX15_goes_2
def dkwX15_goes_0 : List UInt8 := [2, 54, 4, 3, 54, 5, 21, 5, 43, 180, 0, 9, 180, 0, 15, 182, 0, 21, 162, 0, 60, 43, 28]
abbrev dktX15_goes_0 : List UInt8 := dkwX15_goes_0 ++ dktX15_goes_1
theorem dksX15_goes_0 : cX15_goes.data.toList.drop 0 = dktX15_goes_0 := by decide +kernel
theorem dksX15_goes_1 : cX15_goes.data.toList.drop 23 = dktX15_goes_1 := dk_seg dksX15_goes_0 23 rfl rfl
theorem dksX15_goes_2 : cX15_goes.data.toList.drop 47 = dktX15_goes_2 := dk_seg dksX15_goes_1 24 rfl rfl
theorem dksX15_goes_3 : cX15_goes.data.toList.drop 70 = dktX15_goes_3 := dk_seg dksX15_goes_2 23 rfl rfl
theorem dX15_goes_0 : decode cX15_goes 0 = .ok (.iconst (-1), 1) := dk_2 (dk_at dksX15_goes_0 0 rfl rfl)
theorem dX15_goes_1 : decode cX15_goes 1 = .ok (.istore 4, 2) := dk_54 4 (dk_at dksX15_goes_0 1 rfl rfl)
theorem dX15_goes_3 : decode cX15_goes 3 = .ok (.iconst 0, 1) := dk_3 (dk_at dksX15_goes_0 3 rfl rfl)
theorem dX15_goes_4 : decode cX15_goes 4 = .ok (.istore 5, 2) := dk_54 5 (dk_at dksX15_goes_0 4 rfl rfl)
theorem dX15_goes_6 : decode cX15_goes 6 = .ok (.iload 5, 2) := dk_21 5 (dk_at dksX15_goes_0 6 rfl rfl)
theorem dX15_goes_8 : decode cX15_goes 8 = .ok (.aload_n 1, 1) := dk_43 (dk_at dksX15_goes_0 8 rfl rfl)
theorem dX15_goes_9 : decode cX15_goes 9 = .ok (.getfield 9, 3) := dk_180 0 9 (dk_at dksX15_goes_0 9 rfl rfl)
theorem dX15_goes_12 : decode cX15_goes 12 = .ok (.getfield 15, 3) := dk_180 0 15 (dk_at dksX15_goes_0 12 rfl rfl)
theorem dX15_goes_15 : decode cX15_goes 15 = .ok (.invokevirtual 21, 3) := dk_182 0 21 (dk_at dksX15_goes_0 15 rfl rfl)
theorem dX15_goes_18 : decode cX15_goes 18 = .ok (.if_icmp .ge 60, 3) := dk_162 0 60 (dk_at dksX15_goes_0 18 rfl rfl)
theorem dX15_goes_21 : decode cX15_goes 21 = .ok (.aload_n 1, 1) := dk_43 (dk_at dksX15_goes_0 21 rfl rfl)
theorem dX15_goes_22 : decode cX15_goes 22 = .ok (.iload_n 2, 1) := dk_28 (dk_at dksX15_goes_0 22 rfl rfl)
theorem dX15_goes_23 : decode cX15_goes 23 = .ok (.iload 5, 2) := dk_21 5 (dk_at dksX15_goes_1 0 rfl rfl)
theorem dX15_goes_25 : decode cX15_goes 25 = .ok (.invokevirtual 27, 3) := dk_182 0 27 (dk_at dksX15_goes_1 2 rfl rfl)
theorem dX15_goes_28 : decode cX15_goes 28 = .ok (.ifCond .eq 44, 3) := dk_153 0 44 (dk_at dksX15_goes_1 5 rfl rfl)
theorem dX15_goes_31 : decode cX15_goes 31 = .ok (.aload_n 1, 1) := dk_43 (dk_at dksX15_goes_1 8 rfl rfl)
theorem dX15_goes_32 : decode cX15_goes 32 = .ok (.iload 5, 2) := dk_21 5 (dk_at dksX15_goes_1 9 rfl rfl)
theorem dX15_goes_34 : decode cX15_goes 34 = .ok (.iload_n 3, 1) := dk_29 (dk_at dksX15_goes_1 11 rfl rfl)
theorem dX15_goes_35 : decode cX15_goes 35 = .ok (.invokevirtual 31, 3) := dk_182 0 31 (dk_at dksX15_goes_1 12 rfl rfl)
theorem dX15_goes_38 : decode cX15_goes 38 = .ok (.iconst (-1), 1) := dk_2 (dk_at dksX15_goes_1 15 rfl rfl)
theorem dX15_goes_39 : decode cX15_goes 39 = .ok (.if_icmp .ne 6, 3) := dk_160 0 6 (dk_at dksX15_goes_1 16 rfl rfl)
theorem dX15_goes_42 : decode cX15_goes 42 = .ok (.goto 30, 3) := dk_167 0 30 (dk_at dksX15_goes_1 19 rfl rfl)
theorem dX15_goes_45 : decode cX15_goes 45 = .ok (.iload 4, 2) := dk_21 4 (dk_at dksX15_goes_1 22 rfl rfl)
theorem dX15_goes_47 : decode cX15_goes 47 = .ok (.iconst (-1), 1) := dk_2 (dk_at dksX15_goes_2 0 rfl rfl)
theorem dX15_goes_48 : decode cX15_goes 48 = .ok (.if_icmp .eq 20, 3) := dk_159 0 20 (dk_at dksX15_goes_2 1 rfl rfl)
theorem dX15_goes_51 : decode cX15_goes 51 = .ok (.aload_n 1, 1) := dk_43 (dk_at dksX15_goes_2 4 rfl rfl)
theorem dX15_goes_52 : decode cX15_goes 52 = .ok (.iload 5, 2) := dk_21 5 (dk_at dksX15_goes_2 5 rfl rfl)
theorem dX15_goes_54 : decode cX15_goes 54 = .ok (.iload_n 3, 1) := dk_29 (dk_at dksX15_goes_2 7 rfl rfl)
theorem dX15_goes_55 : decode cX15_goes 55 = .ok (.invokevirtual 31, 3) := dk_182 0 31 (dk_at dksX15_goes_2 8 rfl rfl)
theorem dX15_goes_58 : decode cX15_goes 58 = .ok (.aload_n 1, 1) := dk_43 (dk_at dksX15_goes_2 11 rfl rfl)
theorem dX15_goes_59 : decode cX15_goes 59 = .ok (.iload 4, 2) := dk_21 4 (dk_at dksX15_goes_2 12 rfl rfl)
theorem dX15_goes_61 : decode cX15_goes 61 = .ok (.iload_n 3, 1) := dk_29 (dk_at dksX15_goes_2 14 rfl rfl)
theorem dX15_goes_62 : decode cX15_goes 62 = .ok (.invokevirtual 31, 3) := dk_182 0 31 (dk_at dksX15_goes_2 15 rfl rfl)
theorem dX15_goes_65 : decode cX15_goes 65 = .ok (.if_icmp .le 7, 3) := dk_164 0 7 (dk_at dksX15_goes_2 18 rfl rfl)
theorem dX15_goes_68 : decode cX15_goes 68 = .ok (.iload 5, 2) := dk_21 5 (dk_at dksX15_goes_2 21 rfl rfl)
theorem dX15_goes_70 : decode cX15_goes 70 = .ok (.istore 4, 2) := dk_54 4 (dk_at dksX15_goes_3 0 rfl rfl)
theorem dX15_goes_72 : decode cX15_goes 72 = .ok (.iinc 5 1, 3) := dk_132 5 1 (dk_at dksX15_goes_3 2 rfl rfl)
theorem dX15_goes_75 : decode cX15_goes 75 = .ok (.goto (-69), 3) := dk_167 255 187 (dk_at dksX15_goes_3 5 rfl rfl)
theorem dX15_goes_78 : decode cX15_goes 78 = .ok (.iload 4, 2) := dk_21 4 (dk_at dksX15_goes_3 8 rfl rfl)
theorem dX15_goes_80 : decode cX15_goes 80 = .ok (.iconst (-1), 1) := dk_2 (dk_at dksX15_goes_3 10 rfl rfl)
theorem dX15_goes_81 : decode cX15_goes 81 = .ok (.if_icmp .ne 7, 3) := dk_160 0 7 (dk_at dksX15_goes_3 11 rfl rfl)
theorem dX15_goes_84 : decode cX15_goes 84 = .ok (.iload_n 2, 1) := dk_28 (dk_at dksX15_goes_3 14 rfl rfl)
theorem dX15_goes_85 : decode cX15_goes 85 = .ok (.goto 5, 3) := dk_167 0 5 (dk_at dksX15_goes_3 15 rfl rfl)
theorem dX15_goes_88 : decode cX15_goes 88 = .ok (.iload 4, 2) := dk_21 4 (dk_at dksX15_goes_3 18 rfl rfl)
theorem dX15_goes_90 : decode cX15_goes 90 = .ok (.ireturn, 1) := dk_172 (dk_at dksX15_goes_3 20 rfl rfl)
theorem q113 : (Jvm.Cond.initialized "EelPort$Pilot") ∈ lw_all := lw_g (lw_at lw_m1 36 rfl) rfl
theorem q497 : (Jvm.Cond.fieldLinkNest "EelPort$Pilot" (15 : Nat) "EelPort$Port" "quays" "Ljava/util/ArrayList;" "EelPort") ∈ lw_tbl := lw_at lw_m2 180 rfl
theorem q549 : (Jvm.Cond.fieldLinkNest "EelPort$Pilot" (9 : Nat) "EelPort$Lit" "port" "LEelPort$Port;" "EelPort") ∈ lw_tbl := lw_at lw_m2 232 rfl
theorem q1024 : (Jvm.Cond.instantiable "EelPort$Pilot" (3 : Nat)) ∈ lw_all := lw_g (lw_at lw_m4 227 rfl) rfl
theorem q1026 : (Jvm.Cond.instanceMethod ({ cls := "EelPort$Pilot", name := "<init>", desc := "()V" } : Jvm.MethodName)) ∈ lw_all := lw_g (lw_at lw_m4 229 rfl) rfl
theorem q1027 : (Jvm.Cond.code ({ cls := "EelPort$Pilot", name := "<init>", desc := "()V" } : Jvm.MethodName) prog_13_method_1_code (1 : Nat) (Option.none : Option Jvm.ClassFile.FieldType)) ∈ lw_all := lw_g (lw_at lw_m4 230 rfl) rfl
theorem q1028 : (Jvm.Cond.methodLinkNest "EelPort$Pilot" (3 : Nat) ({ cls := "EelPort$Ship", name := "<init>", desc := "()V" } : Jvm.MethodName) "EelPort") ∈ lw_tbl := lw_at lw_m4 231 rfl
theorem q1029 : (Jvm.Cond.lays "EelPort$Pilot" "EelPort$Ship" "quay" "I") ∈ lw_all := lw_g (lw_at lw_m4 232 rfl) rfl
theorem q1030 : (Jvm.Cond.lays "EelPort$Pilot" "EelPort$Ship" "hour" "I") ∈ lw_all := lw_g (lw_at lw_m4 233 rfl) rfl
theorem q1031 : (Jvm.Cond.lays "EelPort$Pilot" "EelPort$Ship" "sees" "I") ∈ lw_all := lw_g (lw_at lw_m4 234 rfl) rfl
theorem q1032 : (Jvm.Cond.superclass "EelPort$Pilot" "EelPort$Ship") ∈ lw_all := lw_g (lw_at lw_m4 235 rfl) rfl
theorem q1114 : (Jvm.Cond.selects "EelPort$Pilot" ({ cls := "java/lang/Object", name := "getClass", desc := "()Ljava/lang/Class;" } : Jvm.MethodName) ({ cls := "java/lang/Object", name := "getClass", desc := "()Ljava/lang/Class;" } : Jvm.MethodName)) ∈ lw_all := lw_g (lw_at lw_m5 77 rfl) rfl
theorem q1328 : (Jvm.Cond.selects "EelPort$Pilot" ({ cls := "EelPort$Ship", name := "kind", desc := "()I" } : Jvm.MethodName) ({ cls := "EelPort$Pilot", name := "kind", desc := "()I" } : Jvm.MethodName)) ∈ lw_all := lw_g (lw_at lw_m6 51 rfl) rfl
theorem q1329 : (Jvm.Cond.instanceMethod ({ cls := "EelPort$Pilot", name := "kind", desc := "()I" } : Jvm.MethodName)) ∈ lw_all := lw_g (lw_at lw_m6 52 rfl) rfl
theorem q1330 : (Jvm.Cond.code ({ cls := "EelPort$Pilot", name := "kind", desc := "()I" } : Jvm.MethodName) prog_13_method_2_code (1 : Nat) (Option.some Jvm.ClassFile.FieldType.int)) ∈ lw_all := lw_g (lw_at lw_m6 53 rfl) rfl
theorem q1452 : (Jvm.Cond.selects "EelPort$Pilot" ({ cls := "EelPort$Ship", name := "goes", desc := "(LEelPort$Lit;II)I" } : Jvm.MethodName) ({ cls := "EelPort$Pilot", name := "goes", desc := "(LEelPort$Lit;II)I" } : Jvm.MethodName)) ∈ lw_all := lw_g (lw_at lw_m6 175 rfl) rfl
theorem q1453 : (Jvm.Cond.instanceMethod ({ cls := "EelPort$Pilot", name := "goes", desc := "(LEelPort$Lit;II)I" } : Jvm.MethodName)) ∈ lw_all := lw_g (lw_at lw_m6 176 rfl) rfl
theorem q1454 : (Jvm.Cond.code ({ cls := "EelPort$Pilot", name := "goes", desc := "(LEelPort$Lit;II)I" } : Jvm.MethodName) prog_13_method_3_code (6 : Nat) (Option.some Jvm.ClassFile.FieldType.int)) ∈ lw_all := lw_g (lw_at lw_m6 177 rfl) rfl
theorem q1455 : (Jvm.Cond.methodLink "EelPort$Pilot" (21 : Nat) ({ cls := "java/util/ArrayList", name := "size", desc := "()I" } : Jvm.MethodName)) ∈ lw_all := lw_g (lw_at lw_m6 178 rfl) rfl
theorem q1456 : (Jvm.Cond.methodLink "EelPort$Pilot" (27 : Nat) ({ cls := "EelPort$Lit", name := "isWay", desc := "(II)Z" } : Jvm.MethodName)) ∈ lw_all := lw_g (lw_at lw_m6 179 rfl) rfl
theorem q1457 : (Jvm.Cond.methodLink "EelPort$Pilot" (31 : Nat) ({ cls := "EelPort$Lit", name := "hungry", desc := "(II)I" } : Jvm.MethodName)) ∈ lw_all := lw_g (lw_at lw_m6 180 rfl) rfl
theorem q2194 : (Jvm.Cond.castable "EelPort$Pilot" "EelPort$Ship") ∈ lw_tbl := lw_at lw_m9 197 rfl
theorem q2214 : (Jvm.Cond.castable "EelPort$Pilot" "java/lang/Object") ∈ lw_tbl := lw_at lw_m9 217 rfl
theorem in_X15 : ∀ w ∈ wsX150, w ∈ lw_all := lw_in wsX150 [1029, 1030, 1031] (by decide +kernel) (by decide +kernel)

/-! EelPort$Fault -/
set_option maxRecDepth 100000
def RX16 : String := "EelPort$Fault"
def TX16 : u_T := fun k => match k with
  | 0 => ("java/lang/Throwable", "cause", "Ljava/lang/Throwable;", false)
  | 1 => ("java/lang/Throwable", "stackTrace", "[Ljava/lang/StackTraceElement;", false)
  | 2 => ("java/lang/Throwable", "suppressedExceptions", "Ljava/util/List;", false)
  | 3 => ("java/lang/Throwable", "detailMessage", "Ljava/lang/String;", false)
  | 4 => ("java/lang/Throwable", "backtrace", "Ljava/lang/Object;", false)
  | 5 => ("java/lang/Throwable", "depth", "I", false)
  | 6 => ("EelPort$Fault", "kind", "I", true)
  | _ => ("EelPort$Fault", "place", "I", true)
def tyX16 : Nat → FieldType := fun k => match k with
  | 0 => .object "java/lang/Throwable"
  | 1 => .array (.object "java/lang/StackTraceElement")
  | 2 => .object "java/util/List"
  | 3 => .object "java/lang/String"
  | 4 => .object "java/lang/Object"
  | 5 => .int
  | 6 => .int
  | _ => .int
abbrev wsX160 : List Cond := u_ws RX16 TX16 8
theorem nmX16 : ∀ a, a < 8 → ∀ b, b < 8 → a ≠ b → (TX16 a).2.1 ≠ (TX16 b).2.1 := by decide +kernel
theorem tyX16_ok : ∀ k, k < 8 → parseFieldDescriptor (TX16 k).2.2.1 = some (tyX16 k) := by decide +kernel
abbrev cX16_init : ByteArray := prog_6_method_1_code
def yX16_init : MethodName := ⟨RX16, "<init>", "(II)V"⟩
def dkwX16_init_0 : List UInt8 := [42, 183, 0, 1, 42, 27, 181, 0, 7, 42, 28, 181, 0, 13, 177]
abbrev dktX16_init_0 : List UInt8 := dkwX16_init_0 ++ []
theorem dksX16_init_0 : cX16_init.data.toList.drop 0 = dktX16_init_0 := by decide +kernel
theorem dX16_init_0 : decode cX16_init 0 = .ok (.aload_n 0, 1) := dk_42 (dk_at dksX16_init_0 0 rfl rfl)
theorem dX16_init_1 : decode cX16_init 1 = .ok (.invokespecial 1, 3) := dk_183 0 1 (dk_at dksX16_init_0 1 rfl rfl)
theorem dX16_init_4 : decode cX16_init 4 = .ok (.aload_n 0, 1) := dk_42 (dk_at dksX16_init_0 4 rfl rfl)
theorem dX16_init_5 : decode cX16_init 5 = .ok (.iload_n 1, 1) := dk_27 (dk_at dksX16_init_0 5 rfl rfl)
theorem dX16_init_6 : decode cX16_init 6 = .ok (.putfield 7, 3) := dk_181 0 7 (dk_at dksX16_init_0 6 rfl rfl)
theorem dX16_init_9 : decode cX16_init 9 = .ok (.aload_n 0, 1) := dk_42 (dk_at dksX16_init_0 9 rfl rfl)
theorem dX16_init_10 : decode cX16_init 10 = .ok (.iload_n 2, 1) := dk_28 (dk_at dksX16_init_0 10 rfl rfl)
theorem dX16_init_11 : decode cX16_init 11 = .ok (.putfield 13, 3) := dk_181 0 13 (dk_at dksX16_init_0 11 rfl rfl)
theorem dX16_init_14 : decode cX16_init 14 = .ok (.return_, 1) := dk_177 (dk_at dksX16_init_0 14 rfl rfl)
theorem q114 : (Jvm.Cond.initialized "EelPort$Fault") ∈ lw_all := lw_g (lw_at lw_m1 37 rfl) rfl
theorem q197 : (Jvm.Cond.selects "EelPort$Fault" ({ cls := "java/lang/Throwable", name := "fillInStackTrace", desc := "()Ljava/lang/Throwable;" } : Jvm.MethodName) ({ cls := "java/lang/Throwable", name := "fillInStackTrace", desc := "()Ljava/lang/Throwable;" } : Jvm.MethodName)) ∈ lw_all := lw_g (lw_at lw_m1 120 rfl) rfl
theorem q1039 : (Jvm.Cond.instantiable "EelPort$Fault" (8 : Nat)) ∈ lw_all := lw_g (lw_at lw_m5 2 rfl) rfl
theorem q1040 : (Jvm.Cond.castable "EelPort$Fault" "EelPort$Fault") ∈ lw_tbl := lw_at lw_m5 3 rfl
theorem q1041 : (Jvm.Cond.selects "EelPort$Fault" ({ cls := "java/lang/Throwable", name := "fillInStackTrace", desc := "(I)Ljava/lang/Throwable;" } : Jvm.MethodName) ({ cls := "java/lang/Throwable", name := "fillInStackTrace", desc := "(I)Ljava/lang/Throwable;" } : Jvm.MethodName)) ∈ lw_all := lw_g (lw_at lw_m5 4 rfl) rfl
theorem q1042 : (Jvm.Cond.lays "EelPort$Fault" "java/lang/Throwable" "cause" "Ljava/lang/Throwable;") ∈ lw_all := lw_g (lw_at lw_m5 5 rfl) rfl
theorem q1043 : (Jvm.Cond.lays "EelPort$Fault" "java/lang/Throwable" "stackTrace" "[Ljava/lang/StackTraceElement;") ∈ lw_all := lw_g (lw_at lw_m5 6 rfl) rfl
theorem q1044 : (Jvm.Cond.lays "EelPort$Fault" "java/lang/Throwable" "suppressedExceptions" "Ljava/util/List;") ∈ lw_all := lw_g (lw_at lw_m5 7 rfl) rfl
theorem q1045 : (Jvm.Cond.lays "EelPort$Fault" "java/lang/Throwable" "detailMessage" "Ljava/lang/String;") ∈ lw_all := lw_g (lw_at lw_m5 8 rfl) rfl
theorem q1046 : (Jvm.Cond.lays "EelPort$Fault" "java/lang/Throwable" "backtrace" "Ljava/lang/Object;") ∈ lw_all := lw_g (lw_at lw_m5 9 rfl) rfl
theorem q1048 : (Jvm.Cond.instanceMethod ({ cls := "EelPort$Fault", name := "<init>", desc := "(II)V" } : Jvm.MethodName)) ∈ lw_all := lw_g (lw_at lw_m5 11 rfl) rfl
theorem q1049 : (Jvm.Cond.code ({ cls := "EelPort$Fault", name := "<init>", desc := "(II)V" } : Jvm.MethodName) prog_6_method_1_code (3 : Nat) (Option.none : Option Jvm.ClassFile.FieldType)) ∈ lw_all := lw_g (lw_at lw_m5 12 rfl) rfl
theorem q1050 : (Jvm.Cond.methodLink "EelPort$Fault" (1 : Nat) ({ cls := "java/lang/Exception", name := "<init>", desc := "()V" } : Jvm.MethodName)) ∈ lw_all := lw_g (lw_at lw_m5 13 rfl) rfl
theorem q1051 : (Jvm.Cond.fieldLink "EelPort$Fault" (7 : Nat) "EelPort$Fault" "kind" "I") ∈ lw_all := lw_g (lw_at lw_m5 14 rfl) rfl
theorem q1053 : (Jvm.Cond.fieldLink "EelPort$Fault" (13 : Nat) "EelPort$Fault" "place" "I") ∈ lw_all := lw_g (lw_at lw_m5 16 rfl) rfl
theorem q1055 : (Jvm.Cond.laysFinal "EelPort$Fault" "EelPort$Fault" "kind" "I") ∈ lw_all := lw_g (lw_at lw_m5 18 rfl) rfl
theorem q1056 : (Jvm.Cond.soleField "EelPort$Fault" "kind") ∈ lw_all := lw_g (lw_at lw_m5 19 rfl) rfl
theorem q1057 : (Jvm.Cond.laysFinal "EelPort$Fault" "EelPort$Fault" "place" "I") ∈ lw_all := lw_g (lw_at lw_m5 20 rfl) rfl
theorem q1058 : (Jvm.Cond.soleField "EelPort$Fault" "place") ∈ lw_all := lw_g (lw_at lw_m5 21 rfl) rfl
theorem q1059 : (Jvm.Cond.lays "EelPort$Fault" "java/lang/Throwable" "depth" "I") ∈ lw_all := lw_g (lw_at lw_m5 22 rfl) rfl
theorem q1060 : (Jvm.Cond.superclass "EelPort$Fault" "java/lang/Exception") ∈ lw_all := lw_g (lw_at lw_m5 23 rfl) rfl
theorem q1107 : (Jvm.Cond.selects "EelPort$Fault" ({ cls := "java/lang/Object", name := "getClass", desc := "()Ljava/lang/Class;" } : Jvm.MethodName) ({ cls := "java/lang/Object", name := "getClass", desc := "()Ljava/lang/Class;" } : Jvm.MethodName)) ∈ lw_all := lw_g (lw_at lw_m5 70 rfl) rfl
theorem q2215 : (Jvm.Cond.castable "EelPort$Fault" "java/lang/Object") ∈ lw_tbl := lw_at lw_m9 218 rfl
theorem in_X16 : ∀ w ∈ wsX160, w ∈ lw_all := lw_in wsX160 [1042, 1043, 1044, 1045, 1046, 1059, 1055, 1057] (by decide +kernel) (by decide +kernel)

/-! EelPort$Quay -/
set_option maxRecDepth 100000
def RX17 : String := "EelPort$Quay"
abbrev cX17_init : ByteArray := prog_15_method_1_code
def yX17_init : MethodName := ⟨RX17, "<init>", "()V"⟩
theorem dX17_init_0 : decode cX17_init 0 = .ok (.aload_n 0, 1) := by decide +kernel
theorem dX17_init_1 : decode cX17_init 1 = .ok (.invokespecial 3, 3) := by decide +kernel
theorem dX17_init_4 : decode cX17_init 4 = .ok (.return_, 1) := by decide +kernel
abbrev cX17_owner : ByteArray := prog_15_method_3_code
def yX17_owner : MethodName := ⟨RX17, "owner", "()I"⟩
theorem dX17_owner_0 : decode cX17_owner 0 = .ok (.iconst (-1), 1) := by decide +kernel
theorem dX17_owner_1 : decode cX17_owner 1 = .ok (.ireturn, 1) := by decide +kernel
abbrev cX17_lit : ByteArray := prog_15_method_5_code
def yX17_lit : MethodName := ⟨RX17, "lit", "(I)I"⟩
theorem dX17_lit_0 : decode cX17_lit 0 = .ok (.iload_n 1, 1) := by decide +kernel
theorem dX17_lit_1 : decode cX17_lit 1 = .ok (.ireturn, 1) := by decide +kernel
abbrev cX17_end : ByteArray := prog_15_method_4_code
def yX17_end : MethodName := ⟨RX17, "end", "()I"⟩
theorem dX17_end_0 : decode cX17_end 0 = .ok (.iconst 0, 1) := by decide +kernel
theorem dX17_end_1 : decode cX17_end 1 = .ok (.ireturn, 1) := by decide +kernel
theorem q116 : (Jvm.Cond.initialized "EelPort$Quay") ∈ lw_all := lw_g (lw_at lw_m1 39 rfl) rfl
theorem q1163 : (Jvm.Cond.instanceMethod ({ cls := "EelPort$Quay", name := "<init>", desc := "()V" } : Jvm.MethodName)) ∈ lw_all := lw_g (lw_at lw_m5 126 rfl) rfl
theorem q1164 : (Jvm.Cond.code ({ cls := "EelPort$Quay", name := "<init>", desc := "()V" } : Jvm.MethodName) prog_15_method_1_code (1 : Nat) (Option.none : Option Jvm.ClassFile.FieldType)) ∈ lw_all := lw_g (lw_at lw_m5 127 rfl) rfl
theorem q1165 : (Jvm.Cond.methodLink "EelPort$Quay" (3 : Nat) ({ cls := "java/lang/Object", name := "<init>", desc := "()V" } : Jvm.MethodName)) ∈ lw_all := lw_g (lw_at lw_m5 128 rfl) rfl
theorem q1173 : (Jvm.Cond.soleField "EelPort$Quay" "salt") ∈ lw_all := lw_g (lw_at lw_m5 136 rfl) rfl
theorem q1175 : (Jvm.Cond.soleField "EelPort$Quay" "ways") ∈ lw_all := lw_g (lw_at lw_m5 138 rfl) rfl
theorem q1258 : (Jvm.Cond.declares ({ cls := "EelPort$Quay", name := "kind", desc := "()I" } : Jvm.MethodName)) ∈ lw_tbl := lw_at lw_m5 221 rfl
theorem q1259 : (Jvm.Cond.sameMethod "EelPort$Quay" "EelPort$Quay" "kind" "()I") ∈ lw_all := lw_g (lw_at lw_m5 222 rfl) rfl
theorem q1273 : (Jvm.Cond.instanceMethod ({ cls := "EelPort$Quay", name := "owner", desc := "()I" } : Jvm.MethodName)) ∈ lw_all := lw_g (lw_at lw_m5 236 rfl) rfl
theorem q1274 : (Jvm.Cond.sameMethod "EelPort$Quay" "EelPort$Quay" "owner" "()I") ∈ lw_all := lw_g (lw_at lw_m5 237 rfl) rfl
theorem q1281 : (Jvm.Cond.code ({ cls := "EelPort$Quay", name := "owner", desc := "()I" } : Jvm.MethodName) prog_15_method_3_code (1 : Nat) (Option.some Jvm.ClassFile.FieldType.int)) ∈ lw_all := lw_g (lw_at lw_m6 4 rfl) rfl
theorem q1388 : (Jvm.Cond.instanceMethod ({ cls := "EelPort$Quay", name := "lit", desc := "(I)I" } : Jvm.MethodName)) ∈ lw_all := lw_g (lw_at lw_m6 111 rfl) rfl
theorem q1389 : (Jvm.Cond.sameMethod "EelPort$Quay" "EelPort$Quay" "lit" "(I)I") ∈ lw_all := lw_g (lw_at lw_m6 112 rfl) rfl
theorem q1395 : (Jvm.Cond.code ({ cls := "EelPort$Quay", name := "lit", desc := "(I)I" } : Jvm.MethodName) prog_15_method_5_code (2 : Nat) (Option.some Jvm.ClassFile.FieldType.int)) ∈ lw_all := lw_g (lw_at lw_m6 118 rfl) rfl
theorem q1410 : (Jvm.Cond.instanceMethod ({ cls := "EelPort$Quay", name := "end", desc := "()I" } : Jvm.MethodName)) ∈ lw_all := lw_g (lw_at lw_m6 133 rfl) rfl
theorem q1411 : (Jvm.Cond.sameMethod "EelPort$Quay" "EelPort$Quay" "end" "()I") ∈ lw_all := lw_g (lw_at lw_m6 134 rfl) rfl
theorem q1420 : (Jvm.Cond.code ({ cls := "EelPort$Quay", name := "end", desc := "()I" } : Jvm.MethodName) prog_15_method_4_code (1 : Nat) (Option.some Jvm.ClassFile.FieldType.int)) ∈ lw_all := lw_g (lw_at lw_m6 143 rfl) rfl

/-! EelPort$Open -/
set_option maxRecDepth 100000
def RX18 : String := "EelPort$Open"
def TX18 : u_T := fun k => match k with
  | 0 => ("EelPort$Quay", "salt", "I", false)
  | _ => ("EelPort$Quay", "ways", "I", false)
def tyX18 : Nat → FieldType := fun k => match k with
  | 0 => .int
  | _ => .int
abbrev wsX180 : List Cond := u_ws RX18 TX18 2
theorem nmX18 : ∀ a, a < 2 → ∀ b, b < 2 → a ≠ b → (TX18 a).2.1 ≠ (TX18 b).2.1 := by decide +kernel
theorem tyX18_ok : ∀ k, k < 2 → parseFieldDescriptor (TX18 k).2.2.1 = some (tyX18 k) := by decide +kernel
abbrev cX18_init : ByteArray := prog_12_method_1_code
def yX18_init : MethodName := ⟨RX18, "<init>", "()V"⟩
theorem dX18_init_0 : decode cX18_init 0 = .ok (.aload_n 0, 1) := by decide +kernel
theorem dX18_init_1 : decode cX18_init 1 = .ok (.invokespecial 1, 3) := by decide +kernel
theorem dX18_init_4 : decode cX18_init 4 = .ok (.return_, 1) := by decide +kernel
abbrev cX18_kind : ByteArray := prog_12_method_2_code
def yX18_kind : MethodName := ⟨RX18, "kind", "()I"⟩
theorem dX18_kind_0 : decode cX18_kind 0 = .ok (.iconst 0, 1) := by decide +kernel
theorem dX18_kind_1 : decode cX18_kind 1 = .ok (.ireturn, 1) := by decide +kernel
theorem q117 : (Jvm.Cond.initialized "EelPort$Open") ∈ lw_all := lw_g (lw_at lw_m1 40 rfl) rfl
theorem q1113 : (Jvm.Cond.selects "EelPort$Open" ({ cls := "java/lang/Object", name := "getClass", desc := "()Ljava/lang/Class;" } : Jvm.MethodName) ({ cls := "java/lang/Object", name := "getClass", desc := "()Ljava/lang/Class;" } : Jvm.MethodName)) ∈ lw_all := lw_g (lw_at lw_m5 76 rfl) rfl
theorem q1158 : (Jvm.Cond.instantiable "EelPort$Open" (2 : Nat)) ∈ lw_all := lw_g (lw_at lw_m5 121 rfl) rfl
theorem q1160 : (Jvm.Cond.instanceMethod ({ cls := "EelPort$Open", name := "<init>", desc := "()V" } : Jvm.MethodName)) ∈ lw_all := lw_g (lw_at lw_m5 123 rfl) rfl
theorem q1161 : (Jvm.Cond.code ({ cls := "EelPort$Open", name := "<init>", desc := "()V" } : Jvm.MethodName) prog_12_method_1_code (1 : Nat) (Option.none : Option Jvm.ClassFile.FieldType)) ∈ lw_all := lw_g (lw_at lw_m5 124 rfl) rfl
theorem q1162 : (Jvm.Cond.methodLinkNest "EelPort$Open" (1 : Nat) ({ cls := "EelPort$Quay", name := "<init>", desc := "()V" } : Jvm.MethodName) "EelPort") ∈ lw_tbl := lw_at lw_m5 125 rfl
theorem q1172 : (Jvm.Cond.lays "EelPort$Open" "EelPort$Quay" "salt" "I") ∈ lw_all := lw_g (lw_at lw_m5 135 rfl) rfl
theorem q1174 : (Jvm.Cond.lays "EelPort$Open" "EelPort$Quay" "ways" "I") ∈ lw_all := lw_g (lw_at lw_m5 137 rfl) rfl
theorem q1176 : (Jvm.Cond.superclass "EelPort$Open" "EelPort$Quay") ∈ lw_all := lw_g (lw_at lw_m5 139 rfl) rfl
theorem q1266 : (Jvm.Cond.selects "EelPort$Open" ({ cls := "EelPort$Quay", name := "kind", desc := "()I" } : Jvm.MethodName) ({ cls := "EelPort$Open", name := "kind", desc := "()I" } : Jvm.MethodName)) ∈ lw_all := lw_g (lw_at lw_m5 229 rfl) rfl
theorem q1267 : (Jvm.Cond.instanceMethod ({ cls := "EelPort$Open", name := "kind", desc := "()I" } : Jvm.MethodName)) ∈ lw_all := lw_g (lw_at lw_m5 230 rfl) rfl
theorem q1268 : (Jvm.Cond.code ({ cls := "EelPort$Open", name := "kind", desc := "()I" } : Jvm.MethodName) prog_12_method_2_code (1 : Nat) (Option.some Jvm.ClassFile.FieldType.int)) ∈ lw_all := lw_g (lw_at lw_m5 231 rfl) rfl
theorem q1279 : (Jvm.Cond.selects "EelPort$Open" ({ cls := "EelPort$Quay", name := "owner", desc := "()I" } : Jvm.MethodName) ({ cls := "EelPort$Quay", name := "owner", desc := "()I" } : Jvm.MethodName)) ∈ lw_all := lw_g (lw_at lw_m6 2 rfl) rfl
theorem q1396 : (Jvm.Cond.selects "EelPort$Open" ({ cls := "EelPort$Quay", name := "lit", desc := "(I)I" } : Jvm.MethodName) ({ cls := "EelPort$Quay", name := "lit", desc := "(I)I" } : Jvm.MethodName)) ∈ lw_all := lw_g (lw_at lw_m6 119 rfl) rfl
theorem q1416 : (Jvm.Cond.selects "EelPort$Open" ({ cls := "EelPort$Quay", name := "end", desc := "()I" } : Jvm.MethodName) ({ cls := "EelPort$Quay", name := "end", desc := "()I" } : Jvm.MethodName)) ∈ lw_all := lw_g (lw_at lw_m6 139 rfl) rfl
theorem q2190 : (Jvm.Cond.castable "EelPort$Open" "EelPort$Quay") ∈ lw_tbl := lw_at lw_m9 193 rfl
theorem q2216 : (Jvm.Cond.castable "EelPort$Open" "java/lang/Object") ∈ lw_tbl := lw_at lw_m9 219 rfl
theorem in_X18 : ∀ w ∈ wsX180, w ∈ lw_all := lw_in wsX180 [1172, 1174] (by decide +kernel) (by decide +kernel)

/-! EelPort$Lock -/
set_option maxRecDepth 100000
def RX19 : String := "EelPort$Lock"
def TX19 : u_T := fun k => match k with
  | 0 => ("EelPort$Quay", "salt", "I", false)
  | _ => ("EelPort$Quay", "ways", "I", false)
def tyX19 : Nat → FieldType := fun k => match k with
  | 0 => .int
  | _ => .int
abbrev wsX190 : List Cond := u_ws RX19 TX19 2
theorem nmX19 : ∀ a, a < 2 → ∀ b, b < 2 → a ≠ b → (TX19 a).2.1 ≠ (TX19 b).2.1 := by decide +kernel
theorem tyX19_ok : ∀ k, k < 2 → parseFieldDescriptor (TX19 k).2.2.1 = some (tyX19 k) := by decide +kernel
abbrev cX19_init : ByteArray := prog_10_method_1_code
def yX19_init : MethodName := ⟨RX19, "<init>", "()V"⟩
theorem dX19_init_0 : decode cX19_init 0 = .ok (.aload_n 0, 1) := by decide +kernel
theorem dX19_init_1 : decode cX19_init 1 = .ok (.invokespecial 1, 3) := by decide +kernel
theorem dX19_init_4 : decode cX19_init 4 = .ok (.return_, 1) := by decide +kernel
abbrev cX19_kind : ByteArray := prog_10_method_2_code
def yX19_kind : MethodName := ⟨RX19, "kind", "()I"⟩
theorem dX19_kind_0 : decode cX19_kind 0 = .ok (.iconst 1, 1) := by decide +kernel
theorem dX19_kind_1 : decode cX19_kind 1 = .ok (.ireturn, 1) := by decide +kernel
abbrev cX19_lit : ByteArray := prog_10_method_3_code
def yX19_lit : MethodName := ⟨RX19, "lit", "(I)I"⟩
def dkwX19_lit_0 : List UInt8 := [42, 27, 183, 0, 7, 4, 100, 172]
abbrev dktX19_lit_0 : List UInt8 := dkwX19_lit_0 ++ []
theorem dksX19_lit_0 : cX19_lit.data.toList.drop 0 = dktX19_lit_0 := by decide +kernel
theorem dX19_lit_0 : decode cX19_lit 0 = .ok (.aload_n 0, 1) := dk_42 (dk_at dksX19_lit_0 0 rfl rfl)
theorem dX19_lit_1 : decode cX19_lit 1 = .ok (.iload_n 1, 1) := dk_27 (dk_at dksX19_lit_0 1 rfl rfl)
theorem dX19_lit_2 : decode cX19_lit 2 = .ok (.invokespecial 7, 3) := dk_183 0 7 (dk_at dksX19_lit_0 2 rfl rfl)
theorem dX19_lit_5 : decode cX19_lit 5 = .ok (.iconst 1, 1) := dk_4 (dk_at dksX19_lit_0 5 rfl rfl)
theorem dX19_lit_6 : decode cX19_lit 6 = .ok (.isub, 1) := dk_100 (dk_at dksX19_lit_0 6 rfl rfl)
theorem dX19_lit_7 : decode cX19_lit 7 = .ok (.ireturn, 1) := dk_172 (dk_at dksX19_lit_0 7 rfl rfl)
theorem q118 : (Jvm.Cond.initialized "EelPort$Lock") ∈ lw_all := lw_g (lw_at lw_m1 41 rfl) rfl
theorem q1111 : (Jvm.Cond.selects "EelPort$Lock" ({ cls := "java/lang/Object", name := "getClass", desc := "()Ljava/lang/Class;" } : Jvm.MethodName) ({ cls := "java/lang/Object", name := "getClass", desc := "()Ljava/lang/Class;" } : Jvm.MethodName)) ∈ lw_all := lw_g (lw_at lw_m5 74 rfl) rfl
theorem q1178 : (Jvm.Cond.instantiable "EelPort$Lock" (2 : Nat)) ∈ lw_all := lw_g (lw_at lw_m5 141 rfl) rfl
theorem q1180 : (Jvm.Cond.instanceMethod ({ cls := "EelPort$Lock", name := "<init>", desc := "()V" } : Jvm.MethodName)) ∈ lw_all := lw_g (lw_at lw_m5 143 rfl) rfl
theorem q1181 : (Jvm.Cond.code ({ cls := "EelPort$Lock", name := "<init>", desc := "()V" } : Jvm.MethodName) prog_10_method_1_code (1 : Nat) (Option.none : Option Jvm.ClassFile.FieldType)) ∈ lw_all := lw_g (lw_at lw_m5 144 rfl) rfl
theorem q1182 : (Jvm.Cond.methodLinkNest "EelPort$Lock" (1 : Nat) ({ cls := "EelPort$Quay", name := "<init>", desc := "()V" } : Jvm.MethodName) "EelPort") ∈ lw_tbl := lw_at lw_m5 145 rfl
theorem q1183 : (Jvm.Cond.lays "EelPort$Lock" "EelPort$Quay" "salt" "I") ∈ lw_all := lw_g (lw_at lw_m5 146 rfl) rfl
theorem q1184 : (Jvm.Cond.lays "EelPort$Lock" "EelPort$Quay" "ways" "I") ∈ lw_all := lw_g (lw_at lw_m5 147 rfl) rfl
theorem q1185 : (Jvm.Cond.superclass "EelPort$Lock" "EelPort$Quay") ∈ lw_all := lw_g (lw_at lw_m5 148 rfl) rfl
theorem q1263 : (Jvm.Cond.selects "EelPort$Lock" ({ cls := "EelPort$Quay", name := "kind", desc := "()I" } : Jvm.MethodName) ({ cls := "EelPort$Lock", name := "kind", desc := "()I" } : Jvm.MethodName)) ∈ lw_all := lw_g (lw_at lw_m5 226 rfl) rfl
theorem q1264 : (Jvm.Cond.instanceMethod ({ cls := "EelPort$Lock", name := "kind", desc := "()I" } : Jvm.MethodName)) ∈ lw_all := lw_g (lw_at lw_m5 227 rfl) rfl
theorem q1265 : (Jvm.Cond.code ({ cls := "EelPort$Lock", name := "kind", desc := "()I" } : Jvm.MethodName) prog_10_method_2_code (1 : Nat) (Option.some Jvm.ClassFile.FieldType.int)) ∈ lw_all := lw_g (lw_at lw_m5 228 rfl) rfl
theorem q1278 : (Jvm.Cond.selects "EelPort$Lock" ({ cls := "EelPort$Quay", name := "owner", desc := "()I" } : Jvm.MethodName) ({ cls := "EelPort$Quay", name := "owner", desc := "()I" } : Jvm.MethodName)) ∈ lw_all := lw_g (lw_at lw_m6 1 rfl) rfl
theorem q1391 : (Jvm.Cond.selects "EelPort$Lock" ({ cls := "EelPort$Quay", name := "lit", desc := "(I)I" } : Jvm.MethodName) ({ cls := "EelPort$Lock", name := "lit", desc := "(I)I" } : Jvm.MethodName)) ∈ lw_all := lw_g (lw_at lw_m6 114 rfl) rfl
theorem q1392 : (Jvm.Cond.instanceMethod ({ cls := "EelPort$Lock", name := "lit", desc := "(I)I" } : Jvm.MethodName)) ∈ lw_all := lw_g (lw_at lw_m6 115 rfl) rfl
theorem q1393 : (Jvm.Cond.code ({ cls := "EelPort$Lock", name := "lit", desc := "(I)I" } : Jvm.MethodName) prog_10_method_3_code (2 : Nat) (Option.some Jvm.ClassFile.FieldType.int)) ∈ lw_all := lw_g (lw_at lw_m6 116 rfl) rfl
theorem q1394 : (Jvm.Cond.methodLink "EelPort$Lock" (7 : Nat) ({ cls := "EelPort$Quay", name := "lit", desc := "(I)I" } : Jvm.MethodName)) ∈ lw_all := lw_g (lw_at lw_m6 117 rfl) rfl
theorem q1415 : (Jvm.Cond.selects "EelPort$Lock" ({ cls := "EelPort$Quay", name := "end", desc := "()I" } : Jvm.MethodName) ({ cls := "EelPort$Quay", name := "end", desc := "()I" } : Jvm.MethodName)) ∈ lw_all := lw_g (lw_at lw_m6 138 rfl) rfl
theorem q2189 : (Jvm.Cond.castable "EelPort$Lock" "EelPort$Quay") ∈ lw_tbl := lw_at lw_m9 192 rfl
theorem q2217 : (Jvm.Cond.castable "EelPort$Lock" "java/lang/Object") ∈ lw_tbl := lw_at lw_m9 220 rfl
theorem in_X19 : ∀ w ∈ wsX190, w ∈ lw_all := lw_in wsX190 [1183, 1184] (by decide +kernel) (by decide +kernel)

/-! EelPort$Rock -/
set_option maxRecDepth 100000
def RX20 : String := "EelPort$Rock"
def TX20 : u_T := fun k => match k with
  | 0 => ("EelPort$Quay", "salt", "I", false)
  | _ => ("EelPort$Quay", "ways", "I", false)
def tyX20 : Nat → FieldType := fun k => match k with
  | 0 => .int
  | _ => .int
abbrev wsX200 : List Cond := u_ws RX20 TX20 2
theorem nmX20 : ∀ a, a < 2 → ∀ b, b < 2 → a ≠ b → (TX20 a).2.1 ≠ (TX20 b).2.1 := by decide +kernel
theorem tyX20_ok : ∀ k, k < 2 → parseFieldDescriptor (TX20 k).2.2.1 = some (tyX20 k) := by decide +kernel
abbrev cX20_init : ByteArray := prog_17_method_1_code
def yX20_init : MethodName := ⟨RX20, "<init>", "()V"⟩
theorem dX20_init_0 : decode cX20_init 0 = .ok (.aload_n 0, 1) := by decide +kernel
theorem dX20_init_1 : decode cX20_init 1 = .ok (.invokespecial 1, 3) := by decide +kernel
theorem dX20_init_4 : decode cX20_init 4 = .ok (.return_, 1) := by decide +kernel
abbrev cX20_kind : ByteArray := prog_17_method_2_code
def yX20_kind : MethodName := ⟨RX20, "kind", "()I"⟩
theorem dX20_kind_0 : decode cX20_kind 0 = .ok (.iconst 2, 1) := by decide +kernel
theorem dX20_kind_1 : decode cX20_kind 1 = .ok (.ireturn, 1) := by decide +kernel
abbrev cX20_end : ByteArray := prog_17_method_3_code
def yX20_end : MethodName := ⟨RX20, "end", "()I"⟩
theorem dX20_end_0 : decode cX20_end 0 = .ok (.iconst 2, 1) := by decide +kernel
theorem dX20_end_1 : decode cX20_end 1 = .ok (.ireturn, 1) := by decide +kernel
theorem q119 : (Jvm.Cond.initialized "EelPort$Rock") ∈ lw_all := lw_g (lw_at lw_m1 42 rfl) rfl
theorem q1117 : (Jvm.Cond.selects "EelPort$Rock" ({ cls := "java/lang/Object", name := "getClass", desc := "()Ljava/lang/Class;" } : Jvm.MethodName) ({ cls := "java/lang/Object", name := "getClass", desc := "()Ljava/lang/Class;" } : Jvm.MethodName)) ∈ lw_all := lw_g (lw_at lw_m5 80 rfl) rfl
theorem q1187 : (Jvm.Cond.instantiable "EelPort$Rock" (2 : Nat)) ∈ lw_all := lw_g (lw_at lw_m5 150 rfl) rfl
theorem q1189 : (Jvm.Cond.instanceMethod ({ cls := "EelPort$Rock", name := "<init>", desc := "()V" } : Jvm.MethodName)) ∈ lw_all := lw_g (lw_at lw_m5 152 rfl) rfl
theorem q1190 : (Jvm.Cond.code ({ cls := "EelPort$Rock", name := "<init>", desc := "()V" } : Jvm.MethodName) prog_17_method_1_code (1 : Nat) (Option.none : Option Jvm.ClassFile.FieldType)) ∈ lw_all := lw_g (lw_at lw_m5 153 rfl) rfl
theorem q1191 : (Jvm.Cond.methodLinkNest "EelPort$Rock" (1 : Nat) ({ cls := "EelPort$Quay", name := "<init>", desc := "()V" } : Jvm.MethodName) "EelPort") ∈ lw_tbl := lw_at lw_m5 154 rfl
theorem q1192 : (Jvm.Cond.lays "EelPort$Rock" "EelPort$Quay" "salt" "I") ∈ lw_all := lw_g (lw_at lw_m5 155 rfl) rfl
theorem q1193 : (Jvm.Cond.lays "EelPort$Rock" "EelPort$Quay" "ways" "I") ∈ lw_all := lw_g (lw_at lw_m5 156 rfl) rfl
theorem q1194 : (Jvm.Cond.superclass "EelPort$Rock" "EelPort$Quay") ∈ lw_all := lw_g (lw_at lw_m5 157 rfl) rfl
theorem q1269 : (Jvm.Cond.selects "EelPort$Rock" ({ cls := "EelPort$Quay", name := "kind", desc := "()I" } : Jvm.MethodName) ({ cls := "EelPort$Rock", name := "kind", desc := "()I" } : Jvm.MethodName)) ∈ lw_all := lw_g (lw_at lw_m5 232 rfl) rfl
theorem q1270 : (Jvm.Cond.instanceMethod ({ cls := "EelPort$Rock", name := "kind", desc := "()I" } : Jvm.MethodName)) ∈ lw_all := lw_g (lw_at lw_m5 233 rfl) rfl
theorem q1271 : (Jvm.Cond.code ({ cls := "EelPort$Rock", name := "kind", desc := "()I" } : Jvm.MethodName) prog_17_method_2_code (1 : Nat) (Option.some Jvm.ClassFile.FieldType.int)) ∈ lw_all := lw_g (lw_at lw_m5 234 rfl) rfl
theorem q1280 : (Jvm.Cond.selects "EelPort$Rock" ({ cls := "EelPort$Quay", name := "owner", desc := "()I" } : Jvm.MethodName) ({ cls := "EelPort$Quay", name := "owner", desc := "()I" } : Jvm.MethodName)) ∈ lw_all := lw_g (lw_at lw_m6 3 rfl) rfl
theorem q1397 : (Jvm.Cond.selects "EelPort$Rock" ({ cls := "EelPort$Quay", name := "lit", desc := "(I)I" } : Jvm.MethodName) ({ cls := "EelPort$Quay", name := "lit", desc := "(I)I" } : Jvm.MethodName)) ∈ lw_all := lw_g (lw_at lw_m6 120 rfl) rfl
theorem q1417 : (Jvm.Cond.selects "EelPort$Rock" ({ cls := "EelPort$Quay", name := "end", desc := "()I" } : Jvm.MethodName) ({ cls := "EelPort$Rock", name := "end", desc := "()I" } : Jvm.MethodName)) ∈ lw_all := lw_g (lw_at lw_m6 140 rfl) rfl
theorem q1418 : (Jvm.Cond.instanceMethod ({ cls := "EelPort$Rock", name := "end", desc := "()I" } : Jvm.MethodName)) ∈ lw_all := lw_g (lw_at lw_m6 141 rfl) rfl
theorem q1419 : (Jvm.Cond.code ({ cls := "EelPort$Rock", name := "end", desc := "()I" } : Jvm.MethodName) prog_17_method_3_code (1 : Nat) (Option.some Jvm.ClassFile.FieldType.int)) ∈ lw_all := lw_g (lw_at lw_m6 142 rfl) rfl
theorem q2191 : (Jvm.Cond.castable "EelPort$Rock" "EelPort$Quay") ∈ lw_tbl := lw_at lw_m9 194 rfl
theorem q2218 : (Jvm.Cond.castable "EelPort$Rock" "java/lang/Object") ∈ lw_tbl := lw_at lw_m9 221 rfl
theorem in_X20 : ∀ w ∈ wsX200, w ∈ lw_all := lw_in wsX200 [1192, 1193] (by decide +kernel) (by decide +kernel)

/-! EelPort$Home -/
set_option maxRecDepth 100000
def RX21 : String := "EelPort$Home"
def TX21 : u_T := fun k => match k with
  | 0 => ("EelPort$Quay", "salt", "I", false)
  | 1 => ("EelPort$Quay", "ways", "I", false)
  | _ => ("EelPort$Home", "owner", "I", true)
def tyX21 : Nat → FieldType := fun k => match k with
  | 0 => .int
  | 1 => .int
  | _ => .int
abbrev wsX210 : List Cond := u_ws RX21 TX21 3
theorem nmX21 : ∀ a, a < 3 → ∀ b, b < 3 → a ≠ b → (TX21 a).2.1 ≠ (TX21 b).2.1 := by decide +kernel
theorem tyX21_ok : ∀ k, k < 3 → parseFieldDescriptor (TX21 k).2.2.1 = some (tyX21 k) := by decide +kernel
abbrev cX21_init : ByteArray := prog_8_method_1_code
def yX21_init : MethodName := ⟨RX21, "<init>", "(I)V"⟩
def dkwX21_init_0 : List UInt8 := [42, 183, 0, 1, 42, 27, 181, 0, 7, 177]
abbrev dktX21_init_0 : List UInt8 := dkwX21_init_0 ++ []
theorem dksX21_init_0 : cX21_init.data.toList.drop 0 = dktX21_init_0 := by decide +kernel
theorem dX21_init_0 : decode cX21_init 0 = .ok (.aload_n 0, 1) := dk_42 (dk_at dksX21_init_0 0 rfl rfl)
theorem dX21_init_1 : decode cX21_init 1 = .ok (.invokespecial 1, 3) := dk_183 0 1 (dk_at dksX21_init_0 1 rfl rfl)
theorem dX21_init_4 : decode cX21_init 4 = .ok (.aload_n 0, 1) := dk_42 (dk_at dksX21_init_0 4 rfl rfl)
theorem dX21_init_5 : decode cX21_init 5 = .ok (.iload_n 1, 1) := dk_27 (dk_at dksX21_init_0 5 rfl rfl)
theorem dX21_init_6 : decode cX21_init 6 = .ok (.putfield 7, 3) := dk_181 0 7 (dk_at dksX21_init_0 6 rfl rfl)
theorem dX21_init_9 : decode cX21_init 9 = .ok (.return_, 1) := dk_177 (dk_at dksX21_init_0 9 rfl rfl)
abbrev cX21_kind : ByteArray := prog_8_method_2_code
def yX21_kind : MethodName := ⟨RX21, "kind", "()I"⟩
theorem dX21_kind_0 : decode cX21_kind 0 = .ok (.iconst 3, 1) := by decide +kernel
theorem dX21_kind_1 : decode cX21_kind 1 = .ok (.ireturn, 1) := by decide +kernel
abbrev cX21_owner : ByteArray := prog_8_method_3_code
def yX21_owner : MethodName := ⟨RX21, "owner", "()I"⟩
theorem dX21_owner_0 : decode cX21_owner 0 = .ok (.aload_n 0, 1) := by decide +kernel
theorem dX21_owner_1 : decode cX21_owner 1 = .ok (.getfield 7, 3) := by decide +kernel
theorem dX21_owner_4 : decode cX21_owner 4 = .ok (.ireturn, 1) := by decide +kernel
abbrev cX21_end : ByteArray := prog_8_method_4_code
def yX21_end : MethodName := ⟨RX21, "end", "()I"⟩
theorem dX21_end_0 : decode cX21_end 0 = .ok (.iconst 1, 1) := by decide +kernel
theorem dX21_end_1 : decode cX21_end 1 = .ok (.ireturn, 1) := by decide +kernel
theorem q120 : (Jvm.Cond.initialized "EelPort$Home") ∈ lw_all := lw_g (lw_at lw_m1 43 rfl) rfl
theorem q1109 : (Jvm.Cond.selects "EelPort$Home" ({ cls := "java/lang/Object", name := "getClass", desc := "()Ljava/lang/Class;" } : Jvm.MethodName) ({ cls := "java/lang/Object", name := "getClass", desc := "()Ljava/lang/Class;" } : Jvm.MethodName)) ∈ lw_all := lw_g (lw_at lw_m5 72 rfl) rfl
theorem q1196 : (Jvm.Cond.instantiable "EelPort$Home" (3 : Nat)) ∈ lw_all := lw_g (lw_at lw_m5 159 rfl) rfl
theorem q1198 : (Jvm.Cond.instanceMethod ({ cls := "EelPort$Home", name := "<init>", desc := "(I)V" } : Jvm.MethodName)) ∈ lw_all := lw_g (lw_at lw_m5 161 rfl) rfl
theorem q1199 : (Jvm.Cond.code ({ cls := "EelPort$Home", name := "<init>", desc := "(I)V" } : Jvm.MethodName) prog_8_method_1_code (2 : Nat) (Option.none : Option Jvm.ClassFile.FieldType)) ∈ lw_all := lw_g (lw_at lw_m5 162 rfl) rfl
theorem q1200 : (Jvm.Cond.methodLinkNest "EelPort$Home" (1 : Nat) ({ cls := "EelPort$Quay", name := "<init>", desc := "()V" } : Jvm.MethodName) "EelPort") ∈ lw_tbl := lw_at lw_m5 163 rfl
theorem q1201 : (Jvm.Cond.fieldLink "EelPort$Home" (7 : Nat) "EelPort$Home" "owner" "I") ∈ lw_all := lw_g (lw_at lw_m5 164 rfl) rfl
theorem q1202 : (Jvm.Cond.laysFinal "EelPort$Home" "EelPort$Home" "owner" "I") ∈ lw_all := lw_g (lw_at lw_m5 165 rfl) rfl
theorem q1203 : (Jvm.Cond.soleField "EelPort$Home" "owner") ∈ lw_all := lw_g (lw_at lw_m5 166 rfl) rfl
theorem q1204 : (Jvm.Cond.lays "EelPort$Home" "EelPort$Quay" "salt" "I") ∈ lw_all := lw_g (lw_at lw_m5 167 rfl) rfl
theorem q1205 : (Jvm.Cond.lays "EelPort$Home" "EelPort$Quay" "ways" "I") ∈ lw_all := lw_g (lw_at lw_m5 168 rfl) rfl
theorem q1206 : (Jvm.Cond.superclass "EelPort$Home" "EelPort$Quay") ∈ lw_all := lw_g (lw_at lw_m5 169 rfl) rfl
theorem q1260 : (Jvm.Cond.selects "EelPort$Home" ({ cls := "EelPort$Quay", name := "kind", desc := "()I" } : Jvm.MethodName) ({ cls := "EelPort$Home", name := "kind", desc := "()I" } : Jvm.MethodName)) ∈ lw_all := lw_g (lw_at lw_m5 223 rfl) rfl
theorem q1261 : (Jvm.Cond.instanceMethod ({ cls := "EelPort$Home", name := "kind", desc := "()I" } : Jvm.MethodName)) ∈ lw_all := lw_g (lw_at lw_m5 224 rfl) rfl
theorem q1262 : (Jvm.Cond.code ({ cls := "EelPort$Home", name := "kind", desc := "()I" } : Jvm.MethodName) prog_8_method_2_code (1 : Nat) (Option.some Jvm.ClassFile.FieldType.int)) ∈ lw_all := lw_g (lw_at lw_m5 225 rfl) rfl
theorem q1275 : (Jvm.Cond.selects "EelPort$Home" ({ cls := "EelPort$Quay", name := "owner", desc := "()I" } : Jvm.MethodName) ({ cls := "EelPort$Home", name := "owner", desc := "()I" } : Jvm.MethodName)) ∈ lw_all := lw_g (lw_at lw_m5 238 rfl) rfl
theorem q1276 : (Jvm.Cond.instanceMethod ({ cls := "EelPort$Home", name := "owner", desc := "()I" } : Jvm.MethodName)) ∈ lw_all := lw_g (lw_at lw_m5 239 rfl) rfl
theorem q1277 : (Jvm.Cond.code ({ cls := "EelPort$Home", name := "owner", desc := "()I" } : Jvm.MethodName) prog_8_method_3_code (1 : Nat) (Option.some Jvm.ClassFile.FieldType.int)) ∈ lw_all := lw_g (lw_at lw_m6 0 rfl) rfl
theorem q1390 : (Jvm.Cond.selects "EelPort$Home" ({ cls := "EelPort$Quay", name := "lit", desc := "(I)I" } : Jvm.MethodName) ({ cls := "EelPort$Quay", name := "lit", desc := "(I)I" } : Jvm.MethodName)) ∈ lw_all := lw_g (lw_at lw_m6 113 rfl) rfl
theorem q1412 : (Jvm.Cond.selects "EelPort$Home" ({ cls := "EelPort$Quay", name := "end", desc := "()I" } : Jvm.MethodName) ({ cls := "EelPort$Home", name := "end", desc := "()I" } : Jvm.MethodName)) ∈ lw_all := lw_g (lw_at lw_m6 135 rfl) rfl
theorem q1413 : (Jvm.Cond.instanceMethod ({ cls := "EelPort$Home", name := "end", desc := "()I" } : Jvm.MethodName)) ∈ lw_all := lw_g (lw_at lw_m6 136 rfl) rfl
theorem q1414 : (Jvm.Cond.code ({ cls := "EelPort$Home", name := "end", desc := "()I" } : Jvm.MethodName) prog_8_method_4_code (1 : Nat) (Option.some Jvm.ClassFile.FieldType.int)) ∈ lw_all := lw_g (lw_at lw_m6 137 rfl) rfl
theorem q2188 : (Jvm.Cond.castable "EelPort$Home" "EelPort$Quay") ∈ lw_tbl := lw_at lw_m9 191 rfl
theorem q2219 : (Jvm.Cond.castable "EelPort$Home" "java/lang/Object") ∈ lw_tbl := lw_at lw_m9 222 rfl
theorem in_X21 : ∀ w ∈ wsX210, w ∈ lw_all := lw_in wsX210 [1204, 1205, 1202] (by decide +kernel) (by decide +kernel)

/-! EelPort$Port -/
set_option maxRecDepth 100000
def RX4 : String := "EelPort$Port"
def TX4 : u_T := fun k => match k with
  | 0 => ("EelPort$Port", "hoods", "I", false)
  | 1 => ("EelPort$Port", "liver", "I", false)
  | 2 => ("EelPort$Port", "bread", "I", false)
  | 3 => ("EelPort$Port", "quays", "Ljava/util/ArrayList;", true)
  | 4 => ("EelPort$Port", "eels", "Ljava/util/ArrayList;", true)
  | 5 => ("EelPort$Port", "ships", "Ljava/util/ArrayList;", true)
  | 6 => ("EelPort$Port", "moon", "[I", true)
  | 7 => ("EelPort$Port", "weight", "[I", true)
  | 8 => ("EelPort$Port", "hooded", "[I", true)
  | 9 => ("EelPort$Port", "hoodFrom", "[I", true)
  | _ => ("EelPort$Port", "hoodTo", "[I", true)
def tyX4 : Nat → FieldType := fun k => match k with
  | 0 => .int
  | 1 => .int
  | 2 => .int
  | 3 => .object "java/util/ArrayList"
  | 4 => .object "java/util/ArrayList"
  | 5 => .object "java/util/ArrayList"
  | 6 => .array .int
  | 7 => .array .int
  | 8 => .array .int
  | 9 => .array .int
  | _ => .array .int
abbrev wsX40 : List Cond := u_ws RX4 TX4 11
theorem nmX4 : ∀ a, a < 11 → ∀ b, b < 11 → a ≠ b → (TX4 a).2.1 ≠ (TX4 b).2.1 := by decide +kernel
theorem tyX4_ok : ∀ k, k < 11 → parseFieldDescriptor (TX4 k).2.2.1 = some (tyX4 k) := by decide +kernel
abbrev cX4_init : ByteArray := prog_14_method_1_code
def yX4_init : MethodName := ⟨RX4, "<init>", "()V"⟩
def dkwX4_init_4 : List UInt8 := [4, 79, 177]
abbrev dktX4_init_4 : List UInt8 := dkwX4_init_4 ++ []
def dkwX4_init_3 : List UInt8 := [181, 0, 40, 42, 16, 6, 188, 10, 181, 0, 43, 42, 16, 6, 188, 10, 181, 0, 46, 42, 180, 0, 37, 3]
abbrev dktX4_init_3 : List UInt8 := dkwX4_init_3 ++ dktX4_init_4
def dkwX4_init_2 : List UInt8 := [181, 0, 30, 42, 16, 24, 188, 10, 181, 0, 33, 42, 16, 10, 188, 10, 181, 0, 37, 42, 16, 6, 188, 10]
abbrev dktX4_init_2 : List UInt8 := dkwX4_init_2 ++ dktX4_init_3
def dkwX4_init_1 : List UInt8 := [181, 0, 23, 42, 187, 0, 18, 89, 4, 183, 0, 20, 181, 0, 27, 42, 187, 0, 18, 89, 4, 183, 0, 20]
abbrev dktX4_init_1 : List UInt8 := dkwX4_init_1 ++ dktX4_init_2
def dkwX4_init_0 : List UInt8 := [42, 183, 0, 3, 42, 6, 181, 0, 9, 42, 4, 181, 0, 15, 42, 187, 0, 18, 89, 4, 183, 0, 20]
abbrev dktX4_init_0 : List UInt8 := dkwX4_init_0 ++ dktX4_init_1
theorem dksX4_init_0 : cX4_init.data.toList.drop 0 = dktX4_init_0 := by decide +kernel
theorem dksX4_init_1 : cX4_init.data.toList.drop 23 = dktX4_init_1 := dk_seg dksX4_init_0 23 rfl rfl
theorem dksX4_init_2 : cX4_init.data.toList.drop 47 = dktX4_init_2 := dk_seg dksX4_init_1 24 rfl rfl
theorem dksX4_init_3 : cX4_init.data.toList.drop 71 = dktX4_init_3 := dk_seg dksX4_init_2 24 rfl rfl
theorem dksX4_init_4 : cX4_init.data.toList.drop 95 = dktX4_init_4 := dk_seg dksX4_init_3 24 rfl rfl
theorem dX4_init_0 : decode cX4_init 0 = .ok (.aload_n 0, 1) := dk_42 (dk_at dksX4_init_0 0 rfl rfl)
theorem dX4_init_1 : decode cX4_init 1 = .ok (.invokespecial 3, 3) := dk_183 0 3 (dk_at dksX4_init_0 1 rfl rfl)
theorem dX4_init_4 : decode cX4_init 4 = .ok (.aload_n 0, 1) := dk_42 (dk_at dksX4_init_0 4 rfl rfl)
theorem dX4_init_5 : decode cX4_init 5 = .ok (.iconst 3, 1) := dk_6 (dk_at dksX4_init_0 5 rfl rfl)
theorem dX4_init_6 : decode cX4_init 6 = .ok (.putfield 9, 3) := dk_181 0 9 (dk_at dksX4_init_0 6 rfl rfl)
theorem dX4_init_9 : decode cX4_init 9 = .ok (.aload_n 0, 1) := dk_42 (dk_at dksX4_init_0 9 rfl rfl)
theorem dX4_init_10 : decode cX4_init 10 = .ok (.iconst 1, 1) := dk_4 (dk_at dksX4_init_0 10 rfl rfl)
theorem dX4_init_11 : decode cX4_init 11 = .ok (.putfield 15, 3) := dk_181 0 15 (dk_at dksX4_init_0 11 rfl rfl)
theorem dX4_init_14 : decode cX4_init 14 = .ok (.aload_n 0, 1) := dk_42 (dk_at dksX4_init_0 14 rfl rfl)
theorem dX4_init_15 : decode cX4_init 15 = .ok (.new 18, 3) := dk_187 0 18 (dk_at dksX4_init_0 15 rfl rfl)
theorem dX4_init_18 : decode cX4_init 18 = .ok (.dup, 1) := dk_89 (dk_at dksX4_init_0 18 rfl rfl)
theorem dX4_init_19 : decode cX4_init 19 = .ok (.iconst 1, 1) := dk_4 (dk_at dksX4_init_0 19 rfl rfl)
theorem dX4_init_20 : decode cX4_init 20 = .ok (.invokespecial 20, 3) := dk_183 0 20 (dk_at dksX4_init_0 20 rfl rfl)
theorem dX4_init_23 : decode cX4_init 23 = .ok (.putfield 23, 3) := dk_181 0 23 (dk_at dksX4_init_1 0 rfl rfl)
theorem dX4_init_26 : decode cX4_init 26 = .ok (.aload_n 0, 1) := dk_42 (dk_at dksX4_init_1 3 rfl rfl)
theorem dX4_init_27 : decode cX4_init 27 = .ok (.new 18, 3) := dk_187 0 18 (dk_at dksX4_init_1 4 rfl rfl)
theorem dX4_init_30 : decode cX4_init 30 = .ok (.dup, 1) := dk_89 (dk_at dksX4_init_1 7 rfl rfl)
theorem dX4_init_31 : decode cX4_init 31 = .ok (.iconst 1, 1) := dk_4 (dk_at dksX4_init_1 8 rfl rfl)
theorem dX4_init_32 : decode cX4_init 32 = .ok (.invokespecial 20, 3) := dk_183 0 20 (dk_at dksX4_init_1 9 rfl rfl)
theorem dX4_init_35 : decode cX4_init 35 = .ok (.putfield 27, 3) := dk_181 0 27 (dk_at dksX4_init_1 12 rfl rfl)
theorem dX4_init_38 : decode cX4_init 38 = .ok (.aload_n 0, 1) := dk_42 (dk_at dksX4_init_1 15 rfl rfl)
theorem dX4_init_39 : decode cX4_init 39 = .ok (.new 18, 3) := dk_187 0 18 (dk_at dksX4_init_1 16 rfl rfl)
theorem dX4_init_42 : decode cX4_init 42 = .ok (.dup, 1) := dk_89 (dk_at dksX4_init_1 19 rfl rfl)
theorem dX4_init_43 : decode cX4_init 43 = .ok (.iconst 1, 1) := dk_4 (dk_at dksX4_init_1 20 rfl rfl)
theorem dX4_init_44 : decode cX4_init 44 = .ok (.invokespecial 20, 3) := dk_183 0 20 (dk_at dksX4_init_1 21 rfl rfl)
theorem dX4_init_47 : decode cX4_init 47 = .ok (.putfield 30, 3) := dk_181 0 30 (dk_at dksX4_init_2 0 rfl rfl)
theorem dX4_init_50 : decode cX4_init 50 = .ok (.aload_n 0, 1) := dk_42 (dk_at dksX4_init_2 3 rfl rfl)
theorem dX4_init_51 : decode cX4_init 51 = .ok (.bipush 24, 2) := dk_16 24 (dk_at dksX4_init_2 4 rfl rfl)
theorem dX4_init_53 : decode cX4_init 53 = .ok (.newarray .int, 2) := dk_188_10 (dk_at dksX4_init_2 6 rfl rfl)
theorem dX4_init_55 : decode cX4_init 55 = .ok (.putfield 33, 3) := dk_181 0 33 (dk_at dksX4_init_2 8 rfl rfl)
theorem dX4_init_58 : decode cX4_init 58 = .ok (.aload_n 0, 1) := dk_42 (dk_at dksX4_init_2 11 rfl rfl)
theorem dX4_init_59 : decode cX4_init 59 = .ok (.bipush 10, 2) := dk_16 10 (dk_at dksX4_init_2 12 rfl rfl)
theorem dX4_init_61 : decode cX4_init 61 = .ok (.newarray .int, 2) := dk_188_10 (dk_at dksX4_init_2 14 rfl rfl)
theorem dX4_init_63 : decode cX4_init 63 = .ok (.putfield 37, 3) := dk_181 0 37 (dk_at dksX4_init_2 16 rfl rfl)
theorem dX4_init_66 : decode cX4_init 66 = .ok (.aload_n 0, 1) := dk_42 (dk_at dksX4_init_2 19 rfl rfl)
theorem dX4_init_67 : decode cX4_init 67 = .ok (.bipush 6, 2) := dk_16 6 (dk_at dksX4_init_2 20 rfl rfl)
theorem dX4_init_69 : decode cX4_init 69 = .ok (.newarray .int, 2) := dk_188_10 (dk_at dksX4_init_2 22 rfl rfl)
theorem dX4_init_71 : decode cX4_init 71 = .ok (.putfield 40, 3) := dk_181 0 40 (dk_at dksX4_init_3 0 rfl rfl)
theorem dX4_init_74 : decode cX4_init 74 = .ok (.aload_n 0, 1) := dk_42 (dk_at dksX4_init_3 3 rfl rfl)
theorem dX4_init_75 : decode cX4_init 75 = .ok (.bipush 6, 2) := dk_16 6 (dk_at dksX4_init_3 4 rfl rfl)
theorem dX4_init_77 : decode cX4_init 77 = .ok (.newarray .int, 2) := dk_188_10 (dk_at dksX4_init_3 6 rfl rfl)
theorem dX4_init_79 : decode cX4_init 79 = .ok (.putfield 43, 3) := dk_181 0 43 (dk_at dksX4_init_3 8 rfl rfl)
theorem dX4_init_82 : decode cX4_init 82 = .ok (.aload_n 0, 1) := dk_42 (dk_at dksX4_init_3 11 rfl rfl)
theorem dX4_init_83 : decode cX4_init 83 = .ok (.bipush 6, 2) := dk_16 6 (dk_at dksX4_init_3 12 rfl rfl)
theorem dX4_init_85 : decode cX4_init 85 = .ok (.newarray .int, 2) := dk_188_10 (dk_at dksX4_init_3 14 rfl rfl)
theorem dX4_init_87 : decode cX4_init 87 = .ok (.putfield 46, 3) := dk_181 0 46 (dk_at dksX4_init_3 16 rfl rfl)
theorem dX4_init_90 : decode cX4_init 90 = .ok (.aload_n 0, 1) := dk_42 (dk_at dksX4_init_3 19 rfl rfl)
theorem dX4_init_91 : decode cX4_init 91 = .ok (.getfield 37, 3) := dk_180 0 37 (dk_at dksX4_init_3 20 rfl rfl)
theorem dX4_init_94 : decode cX4_init 94 = .ok (.iconst 0, 1) := dk_3 (dk_at dksX4_init_3 23 rfl rfl)
theorem dX4_init_95 : decode cX4_init 95 = .ok (.iconst 1, 1) := dk_4 (dk_at dksX4_init_4 0 rfl rfl)
theorem dX4_init_96 : decode cX4_init 96 = .ok (.iastore, 1) := dk_79 (dk_at dksX4_init_4 1 rfl rfl)
theorem dX4_init_97 : decode cX4_init 97 = .ok (.return_, 1) := dk_177 (dk_at dksX4_init_4 2 rfl rfl)
abbrev cX4_isHooded : ByteArray := prog_14_method_2_code
def yX4_isHooded : MethodName := ⟨RX4, "isHooded", "(II)Z"⟩
def dkwX4_isHooded_2 : List UInt8 := [3, 172]
abbrev dktX4_isHooded_2 : List UInt8 := dkwX4_isHooded_2 ++ []
def dkwX4_isHooded_1 : List UInt8 := [29, 46, 28, 163, 0, 15, 28, 42, 180, 0, 46, 29, 46, 163, 0, 5, 4, 172, 132, 3, 1, 167, 255, 213]
abbrev dktX4_isHooded_1 : List UInt8 := dkwX4_isHooded_1 ++ dktX4_isHooded_2
def dkwX4_isHooded_0 : List UInt8 := [3, 62, 29, 42, 180, 0, 49, 162, 0, 41, 42, 180, 0, 40, 29, 46, 27, 160, 0, 25, 42, 180, 0, 43]
abbrev dktX4_isHooded_0 : List UInt8 := dkwX4_isHooded_0 ++ dktX4_isHooded_1
theorem dksX4_isHooded_0 : cX4_isHooded.data.toList.drop 0 = dktX4_isHooded_0 := by decide +kernel
theorem dksX4_isHooded_1 : cX4_isHooded.data.toList.drop 24 = dktX4_isHooded_1 := dk_seg dksX4_isHooded_0 24 rfl rfl
theorem dksX4_isHooded_2 : cX4_isHooded.data.toList.drop 48 = dktX4_isHooded_2 := dk_seg dksX4_isHooded_1 24 rfl rfl
theorem dX4_isHooded_0 : decode cX4_isHooded 0 = .ok (.iconst 0, 1) := dk_3 (dk_at dksX4_isHooded_0 0 rfl rfl)
theorem dX4_isHooded_1 : decode cX4_isHooded 1 = .ok (.istore_n 3, 1) := dk_62 (dk_at dksX4_isHooded_0 1 rfl rfl)
theorem dX4_isHooded_2 : decode cX4_isHooded 2 = .ok (.iload_n 3, 1) := dk_29 (dk_at dksX4_isHooded_0 2 rfl rfl)
theorem dX4_isHooded_3 : decode cX4_isHooded 3 = .ok (.aload_n 0, 1) := dk_42 (dk_at dksX4_isHooded_0 3 rfl rfl)
theorem dX4_isHooded_4 : decode cX4_isHooded 4 = .ok (.getfield 49, 3) := dk_180 0 49 (dk_at dksX4_isHooded_0 4 rfl rfl)
theorem dX4_isHooded_7 : decode cX4_isHooded 7 = .ok (.if_icmp .ge 41, 3) := dk_162 0 41 (dk_at dksX4_isHooded_0 7 rfl rfl)
theorem dX4_isHooded_10 : decode cX4_isHooded 10 = .ok (.aload_n 0, 1) := dk_42 (dk_at dksX4_isHooded_0 10 rfl rfl)
theorem dX4_isHooded_11 : decode cX4_isHooded 11 = .ok (.getfield 40, 3) := dk_180 0 40 (dk_at dksX4_isHooded_0 11 rfl rfl)
theorem dX4_isHooded_14 : decode cX4_isHooded 14 = .ok (.iload_n 3, 1) := dk_29 (dk_at dksX4_isHooded_0 14 rfl rfl)
theorem dX4_isHooded_15 : decode cX4_isHooded 15 = .ok (.iaload, 1) := dk_46 (dk_at dksX4_isHooded_0 15 rfl rfl)
theorem dX4_isHooded_16 : decode cX4_isHooded 16 = .ok (.iload_n 1, 1) := dk_27 (dk_at dksX4_isHooded_0 16 rfl rfl)
theorem dX4_isHooded_17 : decode cX4_isHooded 17 = .ok (.if_icmp .ne 25, 3) := dk_160 0 25 (dk_at dksX4_isHooded_0 17 rfl rfl)
theorem dX4_isHooded_20 : decode cX4_isHooded 20 = .ok (.aload_n 0, 1) := dk_42 (dk_at dksX4_isHooded_0 20 rfl rfl)
theorem dX4_isHooded_21 : decode cX4_isHooded 21 = .ok (.getfield 43, 3) := dk_180 0 43 (dk_at dksX4_isHooded_0 21 rfl rfl)
theorem dX4_isHooded_24 : decode cX4_isHooded 24 = .ok (.iload_n 3, 1) := dk_29 (dk_at dksX4_isHooded_1 0 rfl rfl)
theorem dX4_isHooded_25 : decode cX4_isHooded 25 = .ok (.iaload, 1) := dk_46 (dk_at dksX4_isHooded_1 1 rfl rfl)
theorem dX4_isHooded_26 : decode cX4_isHooded 26 = .ok (.iload_n 2, 1) := dk_28 (dk_at dksX4_isHooded_1 2 rfl rfl)
theorem dX4_isHooded_27 : decode cX4_isHooded 27 = .ok (.if_icmp .gt 15, 3) := dk_163 0 15 (dk_at dksX4_isHooded_1 3 rfl rfl)
theorem dX4_isHooded_30 : decode cX4_isHooded 30 = .ok (.iload_n 2, 1) := dk_28 (dk_at dksX4_isHooded_1 6 rfl rfl)
theorem dX4_isHooded_31 : decode cX4_isHooded 31 = .ok (.aload_n 0, 1) := dk_42 (dk_at dksX4_isHooded_1 7 rfl rfl)
theorem dX4_isHooded_32 : decode cX4_isHooded 32 = .ok (.getfield 46, 3) := dk_180 0 46 (dk_at dksX4_isHooded_1 8 rfl rfl)
theorem dX4_isHooded_35 : decode cX4_isHooded 35 = .ok (.iload_n 3, 1) := dk_29 (dk_at dksX4_isHooded_1 11 rfl rfl)
theorem dX4_isHooded_36 : decode cX4_isHooded 36 = .ok (.iaload, 1) := dk_46 (dk_at dksX4_isHooded_1 12 rfl rfl)
theorem dX4_isHooded_37 : decode cX4_isHooded 37 = .ok (.if_icmp .gt 5, 3) := dk_163 0 5 (dk_at dksX4_isHooded_1 13 rfl rfl)
theorem dX4_isHooded_40 : decode cX4_isHooded 40 = .ok (.iconst 1, 1) := dk_4 (dk_at dksX4_isHooded_1 16 rfl rfl)
theorem dX4_isHooded_41 : decode cX4_isHooded 41 = .ok (.ireturn, 1) := dk_172 (dk_at dksX4_isHooded_1 17 rfl rfl)
theorem dX4_isHooded_42 : decode cX4_isHooded 42 = .ok (.iinc 3 1, 3) := dk_132 3 1 (dk_at dksX4_isHooded_1 18 rfl rfl)
theorem dX4_isHooded_45 : decode cX4_isHooded 45 = .ok (.goto (-43), 3) := dk_167 255 213 (dk_at dksX4_isHooded_1 21 rfl rfl)
theorem dX4_isHooded_48 : decode cX4_isHooded 48 = .ok (.iconst 0, 1) := dk_3 (dk_at dksX4_isHooded_2 0 rfl rfl)
theorem dX4_isHooded_49 : decode cX4_isHooded 49 = .ok (.ireturn, 1) := dk_172 (dk_at dksX4_isHooded_2 1 rfl rfl)
abbrev cX4_price : ByteArray := prog_14_method_3_code
def yX4_price : MethodName := ⟨RX4, "price", "(I)I"⟩
def dkwX4_price_0 : List UInt8 := [27, 154, 0, 10, 42, 180, 0, 9, 167, 0, 7, 42, 180, 0, 15, 172]
abbrev dktX4_price_0 : List UInt8 := dkwX4_price_0 ++ []
theorem dksX4_price_0 : cX4_price.data.toList.drop 0 = dktX4_price_0 := by decide +kernel
theorem dX4_price_0 : decode cX4_price 0 = .ok (.iload_n 1, 1) := dk_27 (dk_at dksX4_price_0 0 rfl rfl)
theorem dX4_price_1 : decode cX4_price 1 = .ok (.ifCond .ne 10, 3) := dk_154 0 10 (dk_at dksX4_price_0 1 rfl rfl)
theorem dX4_price_4 : decode cX4_price 4 = .ok (.aload_n 0, 1) := dk_42 (dk_at dksX4_price_0 4 rfl rfl)
theorem dX4_price_5 : decode cX4_price 5 = .ok (.getfield 9, 3) := dk_180 0 9 (dk_at dksX4_price_0 5 rfl rfl)
theorem dX4_price_8 : decode cX4_price 8 = .ok (.goto 7, 3) := dk_167 0 7 (dk_at dksX4_price_0 8 rfl rfl)
theorem dX4_price_11 : decode cX4_price 11 = .ok (.aload_n 0, 1) := dk_42 (dk_at dksX4_price_0 11 rfl rfl)
theorem dX4_price_12 : decode cX4_price 12 = .ok (.getfield 15, 3) := dk_180 0 15 (dk_at dksX4_price_0 12 rfl rfl)
theorem dX4_price_15 : decode cX4_price 15 = .ok (.ireturn, 1) := dk_172 (dk_at dksX4_price_0 15 rfl rfl)
abbrev cX4_weights : ByteArray := prog_14_method_4_code
def yX4_weights : MethodName := ⟨RX4, "weights", "()I"⟩
def dkwX4_weights_1 : List UInt8 := [167, 255, 238, 27, 172]
abbrev dktX4_weights_1 : List UInt8 := dkwX4_weights_1 ++ []
def dkwX4_weights_0 : List UInt8 := [3, 60, 3, 61, 28, 16, 10, 162, 0, 18, 27, 42, 180, 0, 37, 28, 46, 96, 60, 132, 2, 1]
abbrev dktX4_weights_0 : List UInt8 := dkwX4_weights_0 ++ dktX4_weights_1
theorem dksX4_weights_0 : cX4_weights.data.toList.drop 0 = dktX4_weights_0 := by decide +kernel
theorem dksX4_weights_1 : cX4_weights.data.toList.drop 22 = dktX4_weights_1 := dk_seg dksX4_weights_0 22 rfl rfl
theorem dX4_weights_0 : decode cX4_weights 0 = .ok (.iconst 0, 1) := dk_3 (dk_at dksX4_weights_0 0 rfl rfl)
theorem dX4_weights_1 : decode cX4_weights 1 = .ok (.istore_n 1, 1) := dk_60 (dk_at dksX4_weights_0 1 rfl rfl)
theorem dX4_weights_2 : decode cX4_weights 2 = .ok (.iconst 0, 1) := dk_3 (dk_at dksX4_weights_0 2 rfl rfl)
theorem dX4_weights_3 : decode cX4_weights 3 = .ok (.istore_n 2, 1) := dk_61 (dk_at dksX4_weights_0 3 rfl rfl)
theorem dX4_weights_4 : decode cX4_weights 4 = .ok (.iload_n 2, 1) := dk_28 (dk_at dksX4_weights_0 4 rfl rfl)
theorem dX4_weights_5 : decode cX4_weights 5 = .ok (.bipush 10, 2) := dk_16 10 (dk_at dksX4_weights_0 5 rfl rfl)
theorem dX4_weights_7 : decode cX4_weights 7 = .ok (.if_icmp .ge 18, 3) := dk_162 0 18 (dk_at dksX4_weights_0 7 rfl rfl)
theorem dX4_weights_10 : decode cX4_weights 10 = .ok (.iload_n 1, 1) := dk_27 (dk_at dksX4_weights_0 10 rfl rfl)
theorem dX4_weights_11 : decode cX4_weights 11 = .ok (.aload_n 0, 1) := dk_42 (dk_at dksX4_weights_0 11 rfl rfl)
theorem dX4_weights_12 : decode cX4_weights 12 = .ok (.getfield 37, 3) := dk_180 0 37 (dk_at dksX4_weights_0 12 rfl rfl)
theorem dX4_weights_15 : decode cX4_weights 15 = .ok (.iload_n 2, 1) := dk_28 (dk_at dksX4_weights_0 15 rfl rfl)
theorem dX4_weights_16 : decode cX4_weights 16 = .ok (.iaload, 1) := dk_46 (dk_at dksX4_weights_0 16 rfl rfl)
theorem dX4_weights_17 : decode cX4_weights 17 = .ok (.iadd, 1) := dk_96 (dk_at dksX4_weights_0 17 rfl rfl)
theorem dX4_weights_18 : decode cX4_weights 18 = .ok (.istore_n 1, 1) := dk_60 (dk_at dksX4_weights_0 18 rfl rfl)
theorem dX4_weights_19 : decode cX4_weights 19 = .ok (.iinc 2 1, 3) := dk_132 2 1 (dk_at dksX4_weights_0 19 rfl rfl)
theorem dX4_weights_22 : decode cX4_weights 22 = .ok (.goto (-18), 3) := dk_167 255 238 (dk_at dksX4_weights_1 0 rfl rfl)
theorem dX4_weights_25 : decode cX4_weights 25 = .ok (.iload_n 1, 1) := dk_27 (dk_at dksX4_weights_1 3 rfl rfl)
theorem dX4_weights_26 : decode cX4_weights 26 = .ok (.ireturn, 1) := dk_172 (dk_at dksX4_weights_1 4 rfl rfl)
theorem q81 : (Jvm.Cond.initialized "EelPort$Port") ∈ lw_all := lw_g (lw_at lw_m1 4 rfl) rfl
theorem q143 : (Jvm.Cond.instantiable "EelPort$Port" (11 : Nat)) ∈ lw_all := lw_g (lw_at lw_m1 66 rfl) rfl
theorem q145 : (Jvm.Cond.instanceMethod ({ cls := "EelPort$Port", name := "<init>", desc := "()V" } : Jvm.MethodName)) ∈ lw_all := lw_g (lw_at lw_m1 68 rfl) rfl
theorem q146 : (Jvm.Cond.code ({ cls := "EelPort$Port", name := "<init>", desc := "()V" } : Jvm.MethodName) prog_14_method_1_code (1 : Nat) (Option.none : Option Jvm.ClassFile.FieldType)) ∈ lw_all := lw_g (lw_at lw_m1 69 rfl) rfl
theorem q147 : (Jvm.Cond.methodLink "EelPort$Port" (3 : Nat) ({ cls := "java/lang/Object", name := "<init>", desc := "()V" } : Jvm.MethodName)) ∈ lw_all := lw_g (lw_at lw_m1 70 rfl) rfl
theorem q148 : (Jvm.Cond.classLink "EelPort$Port" (18 : Nat) "java/util/ArrayList") ∈ lw_all := lw_g (lw_at lw_m1 71 rfl) rfl
theorem q150 : (Jvm.Cond.methodLink "EelPort$Port" (20 : Nat) ({ cls := "java/util/ArrayList", name := "<init>", desc := "(I)V" } : Jvm.MethodName)) ∈ lw_all := lw_g (lw_at lw_m1 73 rfl) rfl
theorem q488 : (Jvm.Cond.fieldLink "EelPort$Port" (49 : Nat) "EelPort$Port" "hoods" "I") ∈ lw_all := lw_g (lw_at lw_m2 171 rfl) rfl
theorem q491 : (Jvm.Cond.fieldLink "EelPort$Port" (9 : Nat) "EelPort$Port" "liver" "I") ∈ lw_all := lw_g (lw_at lw_m2 174 rfl) rfl
theorem q494 : (Jvm.Cond.fieldLink "EelPort$Port" (15 : Nat) "EelPort$Port" "bread" "I") ∈ lw_all := lw_g (lw_at lw_m2 177 rfl) rfl
theorem q496 : (Jvm.Cond.fieldLink "EelPort$Port" (23 : Nat) "EelPort$Port" "quays" "Ljava/util/ArrayList;") ∈ lw_all := lw_g (lw_at lw_m2 179 rfl) rfl
theorem q504 : (Jvm.Cond.fieldLink "EelPort$Port" (27 : Nat) "EelPort$Port" "eels" "Ljava/util/ArrayList;") ∈ lw_all := lw_g (lw_at lw_m2 187 rfl) rfl
theorem q508 : (Jvm.Cond.fieldLink "EelPort$Port" (30 : Nat) "EelPort$Port" "ships" "Ljava/util/ArrayList;") ∈ lw_all := lw_g (lw_at lw_m2 191 rfl) rfl
theorem q511 : (Jvm.Cond.fieldLink "EelPort$Port" (33 : Nat) "EelPort$Port" "moon" "[I") ∈ lw_all := lw_g (lw_at lw_m2 194 rfl) rfl
theorem q515 : (Jvm.Cond.fieldLink "EelPort$Port" (37 : Nat) "EelPort$Port" "weight" "[I") ∈ lw_all := lw_g (lw_at lw_m2 198 rfl) rfl
theorem q518 : (Jvm.Cond.fieldLink "EelPort$Port" (40 : Nat) "EelPort$Port" "hooded" "[I") ∈ lw_all := lw_g (lw_at lw_m2 201 rfl) rfl
theorem q520 : (Jvm.Cond.fieldLink "EelPort$Port" (43 : Nat) "EelPort$Port" "hoodFrom" "[I") ∈ lw_all := lw_g (lw_at lw_m2 203 rfl) rfl
theorem q522 : (Jvm.Cond.fieldLink "EelPort$Port" (46 : Nat) "EelPort$Port" "hoodTo" "[I") ∈ lw_all := lw_g (lw_at lw_m2 205 rfl) rfl
theorem q524 : (Jvm.Cond.lays "EelPort$Port" "EelPort$Port" "hoods" "I") ∈ lw_all := lw_g (lw_at lw_m2 207 rfl) rfl
theorem q525 : (Jvm.Cond.soleField "EelPort$Port" "hoods") ∈ lw_all := lw_g (lw_at lw_m2 208 rfl) rfl
theorem q526 : (Jvm.Cond.lays "EelPort$Port" "EelPort$Port" "liver" "I") ∈ lw_all := lw_g (lw_at lw_m2 209 rfl) rfl
theorem q527 : (Jvm.Cond.soleField "EelPort$Port" "liver") ∈ lw_all := lw_g (lw_at lw_m2 210 rfl) rfl
theorem q528 : (Jvm.Cond.lays "EelPort$Port" "EelPort$Port" "bread" "I") ∈ lw_all := lw_g (lw_at lw_m2 211 rfl) rfl
theorem q529 : (Jvm.Cond.soleField "EelPort$Port" "bread") ∈ lw_all := lw_g (lw_at lw_m2 212 rfl) rfl
theorem q530 : (Jvm.Cond.laysFinal "EelPort$Port" "EelPort$Port" "quays" "Ljava/util/ArrayList;") ∈ lw_all := lw_g (lw_at lw_m2 213 rfl) rfl
theorem q531 : (Jvm.Cond.soleField "EelPort$Port" "quays") ∈ lw_all := lw_g (lw_at lw_m2 214 rfl) rfl
theorem q532 : (Jvm.Cond.laysFinal "EelPort$Port" "EelPort$Port" "eels" "Ljava/util/ArrayList;") ∈ lw_all := lw_g (lw_at lw_m2 215 rfl) rfl
theorem q533 : (Jvm.Cond.soleField "EelPort$Port" "eels") ∈ lw_all := lw_g (lw_at lw_m2 216 rfl) rfl
theorem q534 : (Jvm.Cond.laysFinal "EelPort$Port" "EelPort$Port" "ships" "Ljava/util/ArrayList;") ∈ lw_all := lw_g (lw_at lw_m2 217 rfl) rfl
theorem q535 : (Jvm.Cond.soleField "EelPort$Port" "ships") ∈ lw_all := lw_g (lw_at lw_m2 218 rfl) rfl
theorem q536 : (Jvm.Cond.laysFinal "EelPort$Port" "EelPort$Port" "moon" "[I") ∈ lw_all := lw_g (lw_at lw_m2 219 rfl) rfl
theorem q537 : (Jvm.Cond.soleField "EelPort$Port" "moon") ∈ lw_all := lw_g (lw_at lw_m2 220 rfl) rfl
theorem q538 : (Jvm.Cond.laysFinal "EelPort$Port" "EelPort$Port" "weight" "[I") ∈ lw_all := lw_g (lw_at lw_m2 221 rfl) rfl
theorem q539 : (Jvm.Cond.soleField "EelPort$Port" "weight") ∈ lw_all := lw_g (lw_at lw_m2 222 rfl) rfl
theorem q540 : (Jvm.Cond.laysFinal "EelPort$Port" "EelPort$Port" "hooded" "[I") ∈ lw_all := lw_g (lw_at lw_m2 223 rfl) rfl
theorem q541 : (Jvm.Cond.soleField "EelPort$Port" "hooded") ∈ lw_all := lw_g (lw_at lw_m2 224 rfl) rfl
theorem q542 : (Jvm.Cond.laysFinal "EelPort$Port" "EelPort$Port" "hoodFrom" "[I") ∈ lw_all := lw_g (lw_at lw_m2 225 rfl) rfl
theorem q543 : (Jvm.Cond.soleField "EelPort$Port" "hoodFrom") ∈ lw_all := lw_g (lw_at lw_m2 226 rfl) rfl
theorem q544 : (Jvm.Cond.laysFinal "EelPort$Port" "EelPort$Port" "hoodTo" "[I") ∈ lw_all := lw_g (lw_at lw_m2 227 rfl) rfl
theorem q545 : (Jvm.Cond.soleField "EelPort$Port" "hoodTo") ∈ lw_all := lw_g (lw_at lw_m2 228 rfl) rfl
theorem q546 : (Jvm.Cond.superclass "EelPort$Port" "java/lang/Object") ∈ lw_all := lw_g (lw_at lw_m2 229 rfl) rfl
theorem q703 : (Jvm.Cond.instanceMethod ({ cls := "EelPort$Port", name := "isHooded", desc := "(II)Z" } : Jvm.MethodName)) ∈ lw_all := lw_g (lw_at lw_m3 146 rfl) rfl
theorem q704 : (Jvm.Cond.selects "EelPort$Port" ({ cls := "EelPort$Port", name := "isHooded", desc := "(II)Z" } : Jvm.MethodName) ({ cls := "EelPort$Port", name := "isHooded", desc := "(II)Z" } : Jvm.MethodName)) ∈ lw_all := lw_g (lw_at lw_m3 147 rfl) rfl
theorem q705 : (Jvm.Cond.code ({ cls := "EelPort$Port", name := "isHooded", desc := "(II)Z" } : Jvm.MethodName) prog_14_method_2_code (4 : Nat) (Option.some Jvm.ClassFile.FieldType.boolean)) ∈ lw_all := lw_g (lw_at lw_m3 148 rfl) rfl
theorem q1115 : (Jvm.Cond.selects "EelPort$Port" ({ cls := "java/lang/Object", name := "getClass", desc := "()Ljava/lang/Class;" } : Jvm.MethodName) ({ cls := "java/lang/Object", name := "getClass", desc := "()Ljava/lang/Class;" } : Jvm.MethodName)) ∈ lw_all := lw_g (lw_at lw_m5 78 rfl) rfl
theorem q1239 : (Jvm.Cond.instanceMethod ({ cls := "EelPort$Port", name := "price", desc := "(I)I" } : Jvm.MethodName)) ∈ lw_all := lw_g (lw_at lw_m5 202 rfl) rfl
theorem q1240 : (Jvm.Cond.selects "EelPort$Port" ({ cls := "EelPort$Port", name := "price", desc := "(I)I" } : Jvm.MethodName) ({ cls := "EelPort$Port", name := "price", desc := "(I)I" } : Jvm.MethodName)) ∈ lw_all := lw_g (lw_at lw_m5 203 rfl) rfl
theorem q1241 : (Jvm.Cond.code ({ cls := "EelPort$Port", name := "price", desc := "(I)I" } : Jvm.MethodName) prog_14_method_3_code (2 : Nat) (Option.some Jvm.ClassFile.FieldType.int)) ∈ lw_all := lw_g (lw_at lw_m5 204 rfl) rfl
theorem q1507 : (Jvm.Cond.instanceMethod ({ cls := "EelPort$Port", name := "weights", desc := "()I" } : Jvm.MethodName)) ∈ lw_all := lw_g (lw_at lw_m6 230 rfl) rfl
theorem q1508 : (Jvm.Cond.selects "EelPort$Port" ({ cls := "EelPort$Port", name := "weights", desc := "()I" } : Jvm.MethodName) ({ cls := "EelPort$Port", name := "weights", desc := "()I" } : Jvm.MethodName)) ∈ lw_all := lw_g (lw_at lw_m6 231 rfl) rfl
theorem q1509 : (Jvm.Cond.code ({ cls := "EelPort$Port", name := "weights", desc := "()I" } : Jvm.MethodName) prog_14_method_4_code (3 : Nat) (Option.some Jvm.ClassFile.FieldType.int)) ∈ lw_all := lw_g (lw_at lw_m6 232 rfl) rfl
theorem q2200 : (Jvm.Cond.castable "EelPort$Port" "java/lang/Object") ∈ lw_tbl := lw_at lw_m9 203 rfl
theorem in_X4 : ∀ w ∈ wsX40, w ∈ lw_all := lw_in wsX40 [524, 526, 528, 530, 532, 534, 536, 538, 540, 542, 544] (by decide +kernel) (by decide +kernel)

/-! EelPort$Lit -/
set_option maxRecDepth 100000
def RX3 : String := "EelPort$Lit"
def TX3 : u_T := fun k => match k with
  | 0 => ("EelPort$Lit", "port", "LEelPort$Port;", false)
  | 1 => ("EelPort$Lit", "meals", "I", false)
  | 2 => ("EelPort$Lit", "cold", "I", false)
  | 3 => ("EelPort$Lit", "eel", "[I", true)
  | 4 => ("EelPort$Lit", "hour", "[I", true)
  | 5 => ("EelPort$Lit", "sort", "[I", true)
  | 6 => ("EelPort$Lit", "hunger", "[I", true)
  | 7 => ("EelPort$Lit", "glow", "[I", true)
  | _ => ("EelPort$Lit", "raw", "[I", true)
def tyX3 : Nat → FieldType := fun k => match k with
  | 0 => .object "EelPort$Port"
  | 1 => .int
  | 2 => .int
  | 3 => .array .int
  | 4 => .array .int
  | 5 => .array .int
  | 6 => .array .int
  | 7 => .array .int
  | _ => .array .int
abbrev wsX30 : List Cond := u_ws RX3 TX3 9
theorem nmX3 : ∀ a, a < 9 → ∀ b, b < 9 → a ≠ b → (TX3 a).2.1 ≠ (TX3 b).2.1 := by decide +kernel
theorem tyX3_ok : ∀ k, k < 9 → parseFieldDescriptor (TX3 k).2.2.1 = some (tyX3 k) := by decide +kernel
abbrev cX3_init : ByteArray := prog_9_method_1_code
def yX3_init : MethodName := ⟨RX3, "<init>", "()V"⟩
def dkwX3_init_2 : List UInt8 := [42, 17, 0, 144, 188, 10, 181, 0, 31, 42, 17, 0, 192, 188, 10, 181, 0, 34, 177]
abbrev dktX3_init_2 : List UInt8 := dkwX3_init_2 ++ []
def dkwX3_init_1 : List UInt8 := [16, 26, 188, 10, 181, 0, 22, 42, 16, 26, 188, 10, 181, 0, 25, 42, 17, 0, 144, 188, 10, 181, 0, 28]
abbrev dktX3_init_1 : List UInt8 := dkwX3_init_1 ++ dktX3_init_2
def dkwX3_init_0 : List UInt8 := [42, 183, 0, 3, 42, 187, 0, 9, 89, 183, 0, 11, 181, 0, 12, 42, 16, 26, 188, 10, 181, 0, 18, 42]
abbrev dktX3_init_0 : List UInt8 := dkwX3_init_0 ++ dktX3_init_1
theorem dksX3_init_0 : cX3_init.data.toList.drop 0 = dktX3_init_0 := by decide +kernel
theorem dksX3_init_1 : cX3_init.data.toList.drop 24 = dktX3_init_1 := dk_seg dksX3_init_0 24 rfl rfl
theorem dksX3_init_2 : cX3_init.data.toList.drop 48 = dktX3_init_2 := dk_seg dksX3_init_1 24 rfl rfl
theorem dX3_init_0 : decode cX3_init 0 = .ok (.aload_n 0, 1) := dk_42 (dk_at dksX3_init_0 0 rfl rfl)
theorem dX3_init_1 : decode cX3_init 1 = .ok (.invokespecial 3, 3) := dk_183 0 3 (dk_at dksX3_init_0 1 rfl rfl)
theorem dX3_init_4 : decode cX3_init 4 = .ok (.aload_n 0, 1) := dk_42 (dk_at dksX3_init_0 4 rfl rfl)
theorem dX3_init_5 : decode cX3_init 5 = .ok (.new 9, 3) := dk_187 0 9 (dk_at dksX3_init_0 5 rfl rfl)
theorem dX3_init_8 : decode cX3_init 8 = .ok (.dup, 1) := dk_89 (dk_at dksX3_init_0 8 rfl rfl)
theorem dX3_init_9 : decode cX3_init 9 = .ok (.invokespecial 11, 3) := dk_183 0 11 (dk_at dksX3_init_0 9 rfl rfl)
theorem dX3_init_12 : decode cX3_init 12 = .ok (.putfield 12, 3) := dk_181 0 12 (dk_at dksX3_init_0 12 rfl rfl)
theorem dX3_init_15 : decode cX3_init 15 = .ok (.aload_n 0, 1) := dk_42 (dk_at dksX3_init_0 15 rfl rfl)
theorem dX3_init_16 : decode cX3_init 16 = .ok (.bipush 26, 2) := dk_16 26 (dk_at dksX3_init_0 16 rfl rfl)
theorem dX3_init_18 : decode cX3_init 18 = .ok (.newarray .int, 2) := dk_188_10 (dk_at dksX3_init_0 18 rfl rfl)
theorem dX3_init_20 : decode cX3_init 20 = .ok (.putfield 18, 3) := dk_181 0 18 (dk_at dksX3_init_0 20 rfl rfl)
theorem dX3_init_23 : decode cX3_init 23 = .ok (.aload_n 0, 1) := dk_42 (dk_at dksX3_init_0 23 rfl rfl)
theorem dX3_init_24 : decode cX3_init 24 = .ok (.bipush 26, 2) := dk_16 26 (dk_at dksX3_init_1 0 rfl rfl)
theorem dX3_init_26 : decode cX3_init 26 = .ok (.newarray .int, 2) := dk_188_10 (dk_at dksX3_init_1 2 rfl rfl)
theorem dX3_init_28 : decode cX3_init 28 = .ok (.putfield 22, 3) := dk_181 0 22 (dk_at dksX3_init_1 4 rfl rfl)
theorem dX3_init_31 : decode cX3_init 31 = .ok (.aload_n 0, 1) := dk_42 (dk_at dksX3_init_1 7 rfl rfl)
theorem dX3_init_32 : decode cX3_init 32 = .ok (.bipush 26, 2) := dk_16 26 (dk_at dksX3_init_1 8 rfl rfl)
theorem dX3_init_34 : decode cX3_init 34 = .ok (.newarray .int, 2) := dk_188_10 (dk_at dksX3_init_1 10 rfl rfl)
theorem dX3_init_36 : decode cX3_init 36 = .ok (.putfield 25, 3) := dk_181 0 25 (dk_at dksX3_init_1 12 rfl rfl)
theorem dX3_init_39 : decode cX3_init 39 = .ok (.aload_n 0, 1) := dk_42 (dk_at dksX3_init_1 15 rfl rfl)
theorem dX3_init_40 : decode cX3_init 40 = .ok (.sipush 144, 3) := dk_17 0 144 (dk_at dksX3_init_1 16 rfl rfl)
theorem dX3_init_43 : decode cX3_init 43 = .ok (.newarray .int, 2) := dk_188_10 (dk_at dksX3_init_1 19 rfl rfl)
theorem dX3_init_45 : decode cX3_init 45 = .ok (.putfield 28, 3) := dk_181 0 28 (dk_at dksX3_init_1 21 rfl rfl)
theorem dX3_init_48 : decode cX3_init 48 = .ok (.aload_n 0, 1) := dk_42 (dk_at dksX3_init_2 0 rfl rfl)
theorem dX3_init_49 : decode cX3_init 49 = .ok (.sipush 144, 3) := dk_17 0 144 (dk_at dksX3_init_2 1 rfl rfl)
theorem dX3_init_52 : decode cX3_init 52 = .ok (.newarray .int, 2) := dk_188_10 (dk_at dksX3_init_2 4 rfl rfl)
theorem dX3_init_54 : decode cX3_init 54 = .ok (.putfield 31, 3) := dk_181 0 31 (dk_at dksX3_init_2 6 rfl rfl)
theorem dX3_init_57 : decode cX3_init 57 = .ok (.aload_n 0, 1) := dk_42 (dk_at dksX3_init_2 9 rfl rfl)
theorem dX3_init_58 : decode cX3_init 58 = .ok (.sipush 192, 3) := dk_17 0 192 (dk_at dksX3_init_2 10 rfl rfl)
theorem dX3_init_61 : decode cX3_init 61 = .ok (.newarray .int, 2) := dk_188_10 (dk_at dksX3_init_2 13 rfl rfl)
theorem dX3_init_63 : decode cX3_init 63 = .ok (.putfield 34, 3) := dk_181 0 34 (dk_at dksX3_init_2 15 rfl rfl)
theorem dX3_init_66 : decode cX3_init 66 = .ok (.return_, 1) := dk_177 (dk_at dksX3_init_2 18 rfl rfl)
abbrev cX3_shines : ByteArray := prog_9_method_4_code
def yX3_shines : MethodName := ⟨RX3, "shines", "()V"⟩
def dkwX3_shines_2 : List UInt8 := [132, 1, 1, 167, 255, 234, 177]
abbrev dktX3_shines_2 : List UInt8 := dkwX3_shines_2 ++ []
def dkwX3_shines_1 : List UInt8 := [167, 255, 234, 3, 60, 27, 42, 180, 0, 12, 180, 0, 88, 182, 0, 81, 162, 0, 14, 42, 27, 182, 0, 91]
abbrev dktX3_shines_1 : List UInt8 := dkwX3_shines_1 ++ dktX3_shines_2
def dkwX3_shines_0 : List UInt8 := [3, 60, 27, 42, 180, 0, 12, 180, 0, 41, 182, 0, 81, 162, 0, 14, 42, 27, 182, 0, 84, 132, 1, 1]
abbrev dktX3_shines_0 : List UInt8 := dkwX3_shines_0 ++ dktX3_shines_1
theorem dksX3_shines_0 : cX3_shines.data.toList.drop 0 = dktX3_shines_0 := by decide +kernel
theorem dksX3_shines_1 : cX3_shines.data.toList.drop 24 = dktX3_shines_1 := dk_seg dksX3_shines_0 24 rfl rfl
theorem dksX3_shines_2 : cX3_shines.data.toList.drop 48 = dktX3_shines_2 := dk_seg dksX3_shines_1 24 rfl rfl
theorem dX3_shines_0 : decode cX3_shines 0 = .ok (.iconst 0, 1) := dk_3 (dk_at dksX3_shines_0 0 rfl rfl)
theorem dX3_shines_1 : decode cX3_shines 1 = .ok (.istore_n 1, 1) := dk_60 (dk_at dksX3_shines_0 1 rfl rfl)
theorem dX3_shines_2 : decode cX3_shines 2 = .ok (.iload_n 1, 1) := dk_27 (dk_at dksX3_shines_0 2 rfl rfl)
theorem dX3_shines_3 : decode cX3_shines 3 = .ok (.aload_n 0, 1) := dk_42 (dk_at dksX3_shines_0 3 rfl rfl)
theorem dX3_shines_4 : decode cX3_shines 4 = .ok (.getfield 12, 3) := dk_180 0 12 (dk_at dksX3_shines_0 4 rfl rfl)
theorem dX3_shines_7 : decode cX3_shines 7 = .ok (.getfield 41, 3) := dk_180 0 41 (dk_at dksX3_shines_0 7 rfl rfl)
theorem dX3_shines_10 : decode cX3_shines 10 = .ok (.invokevirtual 81, 3) := dk_182 0 81 (dk_at dksX3_shines_0 10 rfl rfl)
theorem dX3_shines_13 : decode cX3_shines 13 = .ok (.if_icmp .ge 14, 3) := dk_162 0 14 (dk_at dksX3_shines_0 13 rfl rfl)
theorem dX3_shines_16 : decode cX3_shines 16 = .ok (.aload_n 0, 1) := dk_42 (dk_at dksX3_shines_0 16 rfl rfl)
theorem dX3_shines_17 : decode cX3_shines 17 = .ok (.iload_n 1, 1) := dk_27 (dk_at dksX3_shines_0 17 rfl rfl)
theorem dX3_shines_18 : decode cX3_shines 18 = .ok (.invokevirtual 84, 3) := dk_182 0 84 (dk_at dksX3_shines_0 18 rfl rfl)
theorem dX3_shines_21 : decode cX3_shines 21 = .ok (.iinc 1 1, 3) := dk_132 1 1 (dk_at dksX3_shines_0 21 rfl rfl)
theorem dX3_shines_24 : decode cX3_shines 24 = .ok (.goto (-22), 3) := dk_167 255 234 (dk_at dksX3_shines_1 0 rfl rfl)
theorem dX3_shines_27 : decode cX3_shines 27 = .ok (.iconst 0, 1) := dk_3 (dk_at dksX3_shines_1 3 rfl rfl)
theorem dX3_shines_28 : decode cX3_shines 28 = .ok (.istore_n 1, 1) := dk_60 (dk_at dksX3_shines_1 4 rfl rfl)
theorem dX3_shines_29 : decode cX3_shines 29 = .ok (.iload_n 1, 1) := dk_27 (dk_at dksX3_shines_1 5 rfl rfl)
theorem dX3_shines_30 : decode cX3_shines 30 = .ok (.aload_n 0, 1) := dk_42 (dk_at dksX3_shines_1 6 rfl rfl)
theorem dX3_shines_31 : decode cX3_shines 31 = .ok (.getfield 12, 3) := dk_180 0 12 (dk_at dksX3_shines_1 7 rfl rfl)
theorem dX3_shines_34 : decode cX3_shines 34 = .ok (.getfield 88, 3) := dk_180 0 88 (dk_at dksX3_shines_1 10 rfl rfl)
theorem dX3_shines_37 : decode cX3_shines 37 = .ok (.invokevirtual 81, 3) := dk_182 0 81 (dk_at dksX3_shines_1 13 rfl rfl)
theorem dX3_shines_40 : decode cX3_shines 40 = .ok (.if_icmp .ge 14, 3) := dk_162 0 14 (dk_at dksX3_shines_1 16 rfl rfl)
theorem dX3_shines_43 : decode cX3_shines 43 = .ok (.aload_n 0, 1) := dk_42 (dk_at dksX3_shines_1 19 rfl rfl)
theorem dX3_shines_44 : decode cX3_shines 44 = .ok (.iload_n 1, 1) := dk_27 (dk_at dksX3_shines_1 20 rfl rfl)
theorem dX3_shines_45 : decode cX3_shines 45 = .ok (.invokevirtual 91, 3) := dk_182 0 91 (dk_at dksX3_shines_1 21 rfl rfl)
theorem dX3_shines_48 : decode cX3_shines 48 = .ok (.iinc 1 1, 3) := dk_132 1 1 (dk_at dksX3_shines_2 0 rfl rfl)
theorem dX3_shines_51 : decode cX3_shines 51 = .ok (.goto (-22), 3) := dk_167 255 234 (dk_at dksX3_shines_2 3 rfl rfl)
theorem dX3_shines_54 : decode cX3_shines 54 = .ok (.return_, 1) := dk_177 (dk_at dksX3_shines_2 6 rfl rfl)
abbrev cX3_eats : ByteArray := prog_9_method_3_code
def yX3_eats : MethodName := ⟨RX3, "eats", "(I)V"⟩
def dkwX3_eats_7 : List UInt8 := [62, 132, 4, 1, 167, 255, 110, 177]
abbrev dktX3_eats_7 : List UInt8 := dkwX3_eats_7 ++ []
def dkwX3_eats_6 : List UInt8 := [180, 0, 12, 180, 0, 68, 21, 4, 46, 182, 0, 71, 79, 16, 30, 29, 44, 182, 0, 74, 96, 184, 0, 78]
abbrev dktX3_eats_6 : List UInt8 := dkwX3_eats_6 ++ dktX3_eats_7
def dkwX3_eats_5 : List UInt8 := [42, 180, 0, 12, 27, 21, 4, 182, 0, 61, 153, 0, 7, 3, 167, 0, 22, 44, 29, 42, 180, 0, 65, 42]
abbrev dktX3_eats_5 : List UInt8 := dkwX3_eats_5 ++ dktX3_eats_6
def dkwX3_eats_4 : List UInt8 := [42, 180, 0, 28, 16, 24, 27, 104, 21, 4, 96, 29, 79, 42, 180, 0, 31, 16, 24, 27, 104, 21, 4, 96]
abbrev dktX3_eats_4 : List UInt8 := dkwX3_eats_4 ++ dktX3_eats_5
def dkwX3_eats_3 : List UInt8 := [21, 5, 46, 154, 0, 7, 3, 167, 0, 10, 3, 29, 8, 100, 184, 0, 55, 62, 132, 5, 1, 167, 255, 199]
abbrev dktX3_eats_3 : List UInt8 := dkwX3_eats_3 ++ dktX3_eats_4
def dkwX3_eats_2 : List UInt8 := [21, 5, 46, 27, 160, 0, 37, 42, 180, 0, 22, 21, 5, 46, 21, 4, 160, 0, 25, 42, 180, 0, 25]
abbrev dktX3_eats_2 : List UInt8 := dkwX3_eats_2 ++ dktX3_eats_3
def dkwX3_eats_1 : List UInt8 := [21, 4, 16, 24, 162, 0, 145, 3, 54, 5, 21, 5, 42, 180, 0, 37, 162, 0, 54, 42, 180, 0, 18]
abbrev dktX3_eats_1 : List UInt8 := dkwX3_eats_1 ++ dktX3_eats_2
def dkwX3_eats_0 : List UInt8 := [42, 180, 0, 12, 180, 0, 41, 27, 182, 0, 45, 192, 0, 51, 77, 44, 180, 0, 53, 62, 3, 54, 4]
abbrev dktX3_eats_0 : List UInt8 := dkwX3_eats_0 ++ dktX3_eats_1
theorem dksX3_eats_0 : cX3_eats.data.toList.drop 0 = dktX3_eats_0 := by decide +kernel
theorem dksX3_eats_1 : cX3_eats.data.toList.drop 23 = dktX3_eats_1 := dk_seg dksX3_eats_0 23 rfl rfl
theorem dksX3_eats_2 : cX3_eats.data.toList.drop 46 = dktX3_eats_2 := dk_seg dksX3_eats_1 23 rfl rfl
theorem dksX3_eats_3 : cX3_eats.data.toList.drop 69 = dktX3_eats_3 := dk_seg dksX3_eats_2 23 rfl rfl
theorem dksX3_eats_4 : cX3_eats.data.toList.drop 93 = dktX3_eats_4 := dk_seg dksX3_eats_3 24 rfl rfl
theorem dksX3_eats_5 : cX3_eats.data.toList.drop 117 = dktX3_eats_5 := dk_seg dksX3_eats_4 24 rfl rfl
theorem dksX3_eats_6 : cX3_eats.data.toList.drop 141 = dktX3_eats_6 := dk_seg dksX3_eats_5 24 rfl rfl
theorem dksX3_eats_7 : cX3_eats.data.toList.drop 165 = dktX3_eats_7 := dk_seg dksX3_eats_6 24 rfl rfl
theorem dX3_eats_0 : decode cX3_eats 0 = .ok (.aload_n 0, 1) := dk_42 (dk_at dksX3_eats_0 0 rfl rfl)
theorem dX3_eats_1 : decode cX3_eats 1 = .ok (.getfield 12, 3) := dk_180 0 12 (dk_at dksX3_eats_0 1 rfl rfl)
theorem dX3_eats_4 : decode cX3_eats 4 = .ok (.getfield 41, 3) := dk_180 0 41 (dk_at dksX3_eats_0 4 rfl rfl)
theorem dX3_eats_7 : decode cX3_eats 7 = .ok (.iload_n 1, 1) := dk_27 (dk_at dksX3_eats_0 7 rfl rfl)
theorem dX3_eats_8 : decode cX3_eats 8 = .ok (.invokevirtual 45, 3) := dk_182 0 45 (dk_at dksX3_eats_0 8 rfl rfl)
theorem dX3_eats_11 : decode cX3_eats 11 = .ok (.checkcast 51, 3) := dk_192 0 51 (dk_at dksX3_eats_0 11 rfl rfl)
theorem dX3_eats_14 : decode cX3_eats 14 = .ok (.astore_n 2, 1) := dk_77 (dk_at dksX3_eats_0 14 rfl rfl)
theorem dX3_eats_15 : decode cX3_eats 15 = .ok (.aload_n 2, 1) := dk_44 (dk_at dksX3_eats_0 15 rfl rfl)
theorem dX3_eats_16 : decode cX3_eats 16 = .ok (.getfield 53, 3) := dk_180 0 53 (dk_at dksX3_eats_0 16 rfl rfl)
theorem dX3_eats_19 : decode cX3_eats 19 = .ok (.istore_n 3, 1) := dk_62 (dk_at dksX3_eats_0 19 rfl rfl)
theorem dX3_eats_20 : decode cX3_eats 20 = .ok (.iconst 0, 1) := dk_3 (dk_at dksX3_eats_0 20 rfl rfl)
theorem dX3_eats_21 : decode cX3_eats 21 = .ok (.istore 4, 2) := dk_54 4 (dk_at dksX3_eats_0 21 rfl rfl)
theorem dX3_eats_23 : decode cX3_eats 23 = .ok (.iload 4, 2) := dk_21 4 (dk_at dksX3_eats_1 0 rfl rfl)
theorem dX3_eats_25 : decode cX3_eats 25 = .ok (.bipush 24, 2) := dk_16 24 (dk_at dksX3_eats_1 2 rfl rfl)
theorem dX3_eats_27 : decode cX3_eats 27 = .ok (.if_icmp .ge 145, 3) := dk_162 0 145 (dk_at dksX3_eats_1 4 rfl rfl)
theorem dX3_eats_30 : decode cX3_eats 30 = .ok (.iconst 0, 1) := dk_3 (dk_at dksX3_eats_1 7 rfl rfl)
theorem dX3_eats_31 : decode cX3_eats 31 = .ok (.istore 5, 2) := dk_54 5 (dk_at dksX3_eats_1 8 rfl rfl)
theorem dX3_eats_33 : decode cX3_eats 33 = .ok (.iload 5, 2) := dk_21 5 (dk_at dksX3_eats_1 10 rfl rfl)
theorem dX3_eats_35 : decode cX3_eats 35 = .ok (.aload_n 0, 1) := dk_42 (dk_at dksX3_eats_1 12 rfl rfl)
theorem dX3_eats_36 : decode cX3_eats 36 = .ok (.getfield 37, 3) := dk_180 0 37 (dk_at dksX3_eats_1 13 rfl rfl)
theorem dX3_eats_39 : decode cX3_eats 39 = .ok (.if_icmp .ge 54, 3) := dk_162 0 54 (dk_at dksX3_eats_1 16 rfl rfl)
theorem dX3_eats_42 : decode cX3_eats 42 = .ok (.aload_n 0, 1) := dk_42 (dk_at dksX3_eats_1 19 rfl rfl)
theorem dX3_eats_43 : decode cX3_eats 43 = .ok (.getfield 18, 3) := dk_180 0 18 (dk_at dksX3_eats_1 20 rfl rfl)
theorem dX3_eats_46 : decode cX3_eats 46 = .ok (.iload 5, 2) := dk_21 5 (dk_at dksX3_eats_2 0 rfl rfl)
theorem dX3_eats_48 : decode cX3_eats 48 = .ok (.iaload, 1) := dk_46 (dk_at dksX3_eats_2 2 rfl rfl)
theorem dX3_eats_49 : decode cX3_eats 49 = .ok (.iload_n 1, 1) := dk_27 (dk_at dksX3_eats_2 3 rfl rfl)
theorem dX3_eats_50 : decode cX3_eats 50 = .ok (.if_icmp .ne 37, 3) := dk_160 0 37 (dk_at dksX3_eats_2 4 rfl rfl)
theorem dX3_eats_53 : decode cX3_eats 53 = .ok (.aload_n 0, 1) := dk_42 (dk_at dksX3_eats_2 7 rfl rfl)
theorem dX3_eats_54 : decode cX3_eats 54 = .ok (.getfield 22, 3) := dk_180 0 22 (dk_at dksX3_eats_2 8 rfl rfl)
theorem dX3_eats_57 : decode cX3_eats 57 = .ok (.iload 5, 2) := dk_21 5 (dk_at dksX3_eats_2 11 rfl rfl)
theorem dX3_eats_59 : decode cX3_eats 59 = .ok (.iaload, 1) := dk_46 (dk_at dksX3_eats_2 13 rfl rfl)
theorem dX3_eats_60 : decode cX3_eats 60 = .ok (.iload 4, 2) := dk_21 4 (dk_at dksX3_eats_2 14 rfl rfl)
theorem dX3_eats_62 : decode cX3_eats 62 = .ok (.if_icmp .ne 25, 3) := dk_160 0 25 (dk_at dksX3_eats_2 16 rfl rfl)
theorem dX3_eats_65 : decode cX3_eats 65 = .ok (.aload_n 0, 1) := dk_42 (dk_at dksX3_eats_2 19 rfl rfl)
theorem dX3_eats_66 : decode cX3_eats 66 = .ok (.getfield 25, 3) := dk_180 0 25 (dk_at dksX3_eats_2 20 rfl rfl)
theorem dX3_eats_69 : decode cX3_eats 69 = .ok (.iload 5, 2) := dk_21 5 (dk_at dksX3_eats_3 0 rfl rfl)
theorem dX3_eats_71 : decode cX3_eats 71 = .ok (.iaload, 1) := dk_46 (dk_at dksX3_eats_3 2 rfl rfl)
theorem dX3_eats_72 : decode cX3_eats 72 = .ok (.ifCond .ne 7, 3) := dk_154 0 7 (dk_at dksX3_eats_3 3 rfl rfl)
theorem dX3_eats_75 : decode cX3_eats 75 = .ok (.iconst 0, 1) := dk_3 (dk_at dksX3_eats_3 6 rfl rfl)
theorem dX3_eats_76 : decode cX3_eats 76 = .ok (.goto 10, 3) := dk_167 0 10 (dk_at dksX3_eats_3 7 rfl rfl)
theorem dX3_eats_79 : decode cX3_eats 79 = .ok (.iconst 0, 1) := dk_3 (dk_at dksX3_eats_3 10 rfl rfl)
theorem dX3_eats_80 : decode cX3_eats 80 = .ok (.iload_n 3, 1) := dk_29 (dk_at dksX3_eats_3 11 rfl rfl)
theorem dX3_eats_81 : decode cX3_eats 81 = .ok (.iconst 5, 1) := dk_8 (dk_at dksX3_eats_3 12 rfl rfl)
theorem dX3_eats_82 : decode cX3_eats 82 = .ok (.isub, 1) := dk_100 (dk_at dksX3_eats_3 13 rfl rfl)
theorem dX3_eats_83 : decode cX3_eats 83 = .ok (.invokestatic 55, 3) := dk_184 0 55 (dk_at dksX3_eats_3 14 rfl rfl)
theorem dX3_eats_86 : decode cX3_eats 86 = .ok (.istore_n 3, 1) := dk_62 (dk_at dksX3_eats_3 17 rfl rfl)
theorem dX3_eats_87 : decode cX3_eats 87 = .ok (.iinc 5 1, 3) := dk_132 5 1 (dk_at dksX3_eats_3 18 rfl rfl)
theorem dX3_eats_90 : decode cX3_eats 90 = .ok (.goto (-57), 3) := dk_167 255 199 (dk_at dksX3_eats_3 21 rfl rfl)
theorem dX3_eats_93 : decode cX3_eats 93 = .ok (.aload_n 0, 1) := dk_42 (dk_at dksX3_eats_4 0 rfl rfl)
theorem dX3_eats_94 : decode cX3_eats 94 = .ok (.getfield 28, 3) := dk_180 0 28 (dk_at dksX3_eats_4 1 rfl rfl)
theorem dX3_eats_97 : decode cX3_eats 97 = .ok (.bipush 24, 2) := dk_16 24 (dk_at dksX3_eats_4 4 rfl rfl)
theorem dX3_eats_99 : decode cX3_eats 99 = .ok (.iload_n 1, 1) := dk_27 (dk_at dksX3_eats_4 6 rfl rfl)
theorem dX3_eats_100 : decode cX3_eats 100 = .ok (.imul, 1) := dk_104 (dk_at dksX3_eats_4 7 rfl rfl)
theorem dX3_eats_101 : decode cX3_eats 101 = .ok (.iload 4, 2) := dk_21 4 (dk_at dksX3_eats_4 8 rfl rfl)
theorem dX3_eats_103 : decode cX3_eats 103 = .ok (.iadd, 1) := dk_96 (dk_at dksX3_eats_4 10 rfl rfl)
theorem dX3_eats_104 : decode cX3_eats 104 = .ok (.iload_n 3, 1) := dk_29 (dk_at dksX3_eats_4 11 rfl rfl)
theorem dX3_eats_105 : decode cX3_eats 105 = .ok (.iastore, 1) := dk_79 (dk_at dksX3_eats_4 12 rfl rfl)
theorem dX3_eats_106 : decode cX3_eats 106 = .ok (.aload_n 0, 1) := dk_42 (dk_at dksX3_eats_4 13 rfl rfl)
theorem dX3_eats_107 : decode cX3_eats 107 = .ok (.getfield 31, 3) := dk_180 0 31 (dk_at dksX3_eats_4 14 rfl rfl)
theorem dX3_eats_110 : decode cX3_eats 110 = .ok (.bipush 24, 2) := dk_16 24 (dk_at dksX3_eats_4 17 rfl rfl)
theorem dX3_eats_112 : decode cX3_eats 112 = .ok (.iload_n 1, 1) := dk_27 (dk_at dksX3_eats_4 19 rfl rfl)
theorem dX3_eats_113 : decode cX3_eats 113 = .ok (.imul, 1) := dk_104 (dk_at dksX3_eats_4 20 rfl rfl)
theorem dX3_eats_114 : decode cX3_eats 114 = .ok (.iload 4, 2) := dk_21 4 (dk_at dksX3_eats_4 21 rfl rfl)
theorem dX3_eats_116 : decode cX3_eats 116 = .ok (.iadd, 1) := dk_96 (dk_at dksX3_eats_4 23 rfl rfl)
theorem dX3_eats_117 : decode cX3_eats 117 = .ok (.aload_n 0, 1) := dk_42 (dk_at dksX3_eats_5 0 rfl rfl)
theorem dX3_eats_118 : decode cX3_eats 118 = .ok (.getfield 12, 3) := dk_180 0 12 (dk_at dksX3_eats_5 1 rfl rfl)
theorem dX3_eats_121 : decode cX3_eats 121 = .ok (.iload_n 1, 1) := dk_27 (dk_at dksX3_eats_5 4 rfl rfl)
theorem dX3_eats_122 : decode cX3_eats 122 = .ok (.iload 4, 2) := dk_21 4 (dk_at dksX3_eats_5 5 rfl rfl)
theorem dX3_eats_124 : decode cX3_eats 124 = .ok (.invokevirtual 61, 3) := dk_182 0 61 (dk_at dksX3_eats_5 7 rfl rfl)
theorem dX3_eats_127 : decode cX3_eats 127 = .ok (.ifCond .eq 7, 3) := dk_153 0 7 (dk_at dksX3_eats_5 10 rfl rfl)
theorem dX3_eats_130 : decode cX3_eats 130 = .ok (.iconst 0, 1) := dk_3 (dk_at dksX3_eats_5 13 rfl rfl)
theorem dX3_eats_131 : decode cX3_eats 131 = .ok (.goto 22, 3) := dk_167 0 22 (dk_at dksX3_eats_5 14 rfl rfl)
theorem dX3_eats_134 : decode cX3_eats 134 = .ok (.aload_n 2, 1) := dk_44 (dk_at dksX3_eats_5 17 rfl rfl)
theorem dX3_eats_135 : decode cX3_eats 135 = .ok (.iload_n 3, 1) := dk_29 (dk_at dksX3_eats_5 18 rfl rfl)
theorem dX3_eats_136 : decode cX3_eats 136 = .ok (.aload_n 0, 1) := dk_42 (dk_at dksX3_eats_5 19 rfl rfl)
theorem dX3_eats_137 : decode cX3_eats 137 = .ok (.getfield 65, 3) := dk_180 0 65 (dk_at dksX3_eats_5 20 rfl rfl)
theorem dX3_eats_140 : decode cX3_eats 140 = .ok (.aload_n 0, 1) := dk_42 (dk_at dksX3_eats_5 23 rfl rfl)
theorem dX3_eats_141 : decode cX3_eats 141 = .ok (.getfield 12, 3) := dk_180 0 12 (dk_at dksX3_eats_6 0 rfl rfl)
theorem dX3_eats_144 : decode cX3_eats 144 = .ok (.getfield 68, 3) := dk_180 0 68 (dk_at dksX3_eats_6 3 rfl rfl)
theorem dX3_eats_147 : decode cX3_eats 147 = .ok (.iload 4, 2) := dk_21 4 (dk_at dksX3_eats_6 6 rfl rfl)
theorem dX3_eats_149 : decode cX3_eats 149 = .ok (.iaload, 1) := dk_46 (dk_at dksX3_eats_6 8 rfl rfl)
theorem dX3_eats_150 : decode cX3_eats 150 = .ok (.invokevirtual 71, 3) := dk_182 0 71 (dk_at dksX3_eats_6 9 rfl rfl)
theorem dX3_eats_153 : decode cX3_eats 153 = .ok (.iastore, 1) := dk_79 (dk_at dksX3_eats_6 12 rfl rfl)
theorem dX3_eats_154 : decode cX3_eats 154 = .ok (.bipush 30, 2) := dk_16 30 (dk_at dksX3_eats_6 13 rfl rfl)
theorem dX3_eats_156 : decode cX3_eats 156 = .ok (.iload_n 3, 1) := dk_29 (dk_at dksX3_eats_6 15 rfl rfl)
theorem dX3_eats_157 : decode cX3_eats 157 = .ok (.aload_n 2, 1) := dk_44 (dk_at dksX3_eats_6 16 rfl rfl)
theorem dX3_eats_158 : decode cX3_eats 158 = .ok (.invokevirtual 74, 3) := dk_182 0 74 (dk_at dksX3_eats_6 17 rfl rfl)
theorem dX3_eats_161 : decode cX3_eats 161 = .ok (.iadd, 1) := dk_96 (dk_at dksX3_eats_6 20 rfl rfl)
theorem dX3_eats_162 : decode cX3_eats 162 = .ok (.invokestatic 78, 3) := dk_184 0 78 (dk_at dksX3_eats_6 21 rfl rfl)
theorem dX3_eats_165 : decode cX3_eats 165 = .ok (.istore_n 3, 1) := dk_62 (dk_at dksX3_eats_7 0 rfl rfl)
theorem dX3_eats_166 : decode cX3_eats 166 = .ok (.iinc 4 1, 3) := dk_132 4 1 (dk_at dksX3_eats_7 1 rfl rfl)
theorem dX3_eats_169 : decode cX3_eats 169 = .ok (.goto (-146), 3) := dk_167 255 110 (dk_at dksX3_eats_7 4 rfl rfl)
theorem dX3_eats_172 : decode cX3_eats 172 = .ok (.return_, 1) := dk_177 (dk_at dksX3_eats_7 7 rfl rfl)
abbrev cX3_shines_2 : ByteArray := prog_9_method_6_code
def yX3_shines_2 : MethodName := ⟨RX3, "shines", "(I)V"⟩
def dkwX3_shines_2_4 : List UInt8 := [182, 0, 45, 192, 0, 97, 180, 0, 99, 100, 104, 16, 100, 108, 79, 132, 2, 1, 167, 255, 148, 177]
abbrev dktX3_shines_2_4 : List UInt8 := dkwX3_shines_2_4 ++ []
def dkwX3_shines_2_3 : List UInt8 := [167, 255, 201, 42, 180, 0, 34, 16, 24, 27, 104, 28, 96, 29, 16, 100, 42, 180, 0, 12, 180, 0, 88, 27]
abbrev dktX3_shines_2_3 : List UInt8 := dkwX3_shines_2_3 ++ dktX3_shines_2_4
def dkwX3_shines_2_2 : List UInt8 := [27, 160, 0, 18, 29, 42, 180, 0, 31, 16, 24, 21, 4, 104, 28, 96, 46, 96, 62, 132, 4, 1]
abbrev dktX3_shines_2_2 : List UInt8 := dkwX3_shines_2_2 ++ dktX3_shines_2_3
def dkwX3_shines_2_1 : List UInt8 := [182, 0, 81, 162, 0, 46, 42, 180, 0, 12, 180, 0, 41, 21, 4, 182, 0, 45, 192, 0, 51, 180, 0, 94]
abbrev dktX3_shines_2_1 : List UInt8 := dkwX3_shines_2_1 ++ dktX3_shines_2_2
def dkwX3_shines_2_0 : List UInt8 := [3, 61, 28, 16, 24, 162, 0, 108, 3, 62, 3, 54, 4, 21, 4, 42, 180, 0, 12, 180, 0, 41]
abbrev dktX3_shines_2_0 : List UInt8 := dkwX3_shines_2_0 ++ dktX3_shines_2_1
theorem dksX3_shines_2_0 : cX3_shines_2.data.toList.drop 0 = dktX3_shines_2_0 := by decide +kernel
theorem dksX3_shines_2_1 : cX3_shines_2.data.toList.drop 22 = dktX3_shines_2_1 := dk_seg dksX3_shines_2_0 22 rfl rfl
theorem dksX3_shines_2_2 : cX3_shines_2.data.toList.drop 46 = dktX3_shines_2_2 := dk_seg dksX3_shines_2_1 24 rfl rfl
theorem dksX3_shines_2_3 : cX3_shines_2.data.toList.drop 68 = dktX3_shines_2_3 := dk_seg dksX3_shines_2_2 22 rfl rfl
theorem dksX3_shines_2_4 : cX3_shines_2.data.toList.drop 92 = dktX3_shines_2_4 := dk_seg dksX3_shines_2_3 24 rfl rfl
theorem dX3_shines_2_0 : decode cX3_shines_2 0 = .ok (.iconst 0, 1) := dk_3 (dk_at dksX3_shines_2_0 0 rfl rfl)
theorem dX3_shines_2_1 : decode cX3_shines_2 1 = .ok (.istore_n 2, 1) := dk_61 (dk_at dksX3_shines_2_0 1 rfl rfl)
theorem dX3_shines_2_2 : decode cX3_shines_2 2 = .ok (.iload_n 2, 1) := dk_28 (dk_at dksX3_shines_2_0 2 rfl rfl)
theorem dX3_shines_2_3 : decode cX3_shines_2 3 = .ok (.bipush 24, 2) := dk_16 24 (dk_at dksX3_shines_2_0 3 rfl rfl)
theorem dX3_shines_2_5 : decode cX3_shines_2 5 = .ok (.if_icmp .ge 108, 3) := dk_162 0 108 (dk_at dksX3_shines_2_0 5 rfl rfl)
theorem dX3_shines_2_8 : decode cX3_shines_2 8 = .ok (.iconst 0, 1) := dk_3 (dk_at dksX3_shines_2_0 8 rfl rfl)
theorem dX3_shines_2_9 : decode cX3_shines_2 9 = .ok (.istore_n 3, 1) := dk_62 (dk_at dksX3_shines_2_0 9 rfl rfl)
theorem dX3_shines_2_10 : decode cX3_shines_2 10 = .ok (.iconst 0, 1) := dk_3 (dk_at dksX3_shines_2_0 10 rfl rfl)
theorem dX3_shines_2_11 : decode cX3_shines_2 11 = .ok (.istore 4, 2) := dk_54 4 (dk_at dksX3_shines_2_0 11 rfl rfl)
theorem dX3_shines_2_13 : decode cX3_shines_2 13 = .ok (.iload 4, 2) := dk_21 4 (dk_at dksX3_shines_2_0 13 rfl rfl)
theorem dX3_shines_2_15 : decode cX3_shines_2 15 = .ok (.aload_n 0, 1) := dk_42 (dk_at dksX3_shines_2_0 15 rfl rfl)
theorem dX3_shines_2_16 : decode cX3_shines_2 16 = .ok (.getfield 12, 3) := dk_180 0 12 (dk_at dksX3_shines_2_0 16 rfl rfl)
theorem dX3_shines_2_19 : decode cX3_shines_2 19 = .ok (.getfield 41, 3) := dk_180 0 41 (dk_at dksX3_shines_2_0 19 rfl rfl)
theorem dX3_shines_2_22 : decode cX3_shines_2 22 = .ok (.invokevirtual 81, 3) := dk_182 0 81 (dk_at dksX3_shines_2_1 0 rfl rfl)
theorem dX3_shines_2_25 : decode cX3_shines_2 25 = .ok (.if_icmp .ge 46, 3) := dk_162 0 46 (dk_at dksX3_shines_2_1 3 rfl rfl)
theorem dX3_shines_2_28 : decode cX3_shines_2 28 = .ok (.aload_n 0, 1) := dk_42 (dk_at dksX3_shines_2_1 6 rfl rfl)
theorem dX3_shines_2_29 : decode cX3_shines_2 29 = .ok (.getfield 12, 3) := dk_180 0 12 (dk_at dksX3_shines_2_1 7 rfl rfl)
theorem dX3_shines_2_32 : decode cX3_shines_2 32 = .ok (.getfield 41, 3) := dk_180 0 41 (dk_at dksX3_shines_2_1 10 rfl rfl)
theorem dX3_shines_2_35 : decode cX3_shines_2 35 = .ok (.iload 4, 2) := dk_21 4 (dk_at dksX3_shines_2_1 13 rfl rfl)
theorem dX3_shines_2_37 : decode cX3_shines_2 37 = .ok (.invokevirtual 45, 3) := dk_182 0 45 (dk_at dksX3_shines_2_1 15 rfl rfl)
theorem dX3_shines_2_40 : decode cX3_shines_2 40 = .ok (.checkcast 51, 3) := dk_192 0 51 (dk_at dksX3_shines_2_1 18 rfl rfl)
theorem dX3_shines_2_43 : decode cX3_shines_2 43 = .ok (.getfield 94, 3) := dk_180 0 94 (dk_at dksX3_shines_2_1 21 rfl rfl)
theorem dX3_shines_2_46 : decode cX3_shines_2 46 = .ok (.iload_n 1, 1) := dk_27 (dk_at dksX3_shines_2_2 0 rfl rfl)
theorem dX3_shines_2_47 : decode cX3_shines_2 47 = .ok (.if_icmp .ne 18, 3) := dk_160 0 18 (dk_at dksX3_shines_2_2 1 rfl rfl)
theorem dX3_shines_2_50 : decode cX3_shines_2 50 = .ok (.iload_n 3, 1) := dk_29 (dk_at dksX3_shines_2_2 4 rfl rfl)
theorem dX3_shines_2_51 : decode cX3_shines_2 51 = .ok (.aload_n 0, 1) := dk_42 (dk_at dksX3_shines_2_2 5 rfl rfl)
theorem dX3_shines_2_52 : decode cX3_shines_2 52 = .ok (.getfield 31, 3) := dk_180 0 31 (dk_at dksX3_shines_2_2 6 rfl rfl)
theorem dX3_shines_2_55 : decode cX3_shines_2 55 = .ok (.bipush 24, 2) := dk_16 24 (dk_at dksX3_shines_2_2 9 rfl rfl)
theorem dX3_shines_2_57 : decode cX3_shines_2 57 = .ok (.iload 4, 2) := dk_21 4 (dk_at dksX3_shines_2_2 11 rfl rfl)
theorem dX3_shines_2_59 : decode cX3_shines_2 59 = .ok (.imul, 1) := dk_104 (dk_at dksX3_shines_2_2 13 rfl rfl)
theorem dX3_shines_2_60 : decode cX3_shines_2 60 = .ok (.iload_n 2, 1) := dk_28 (dk_at dksX3_shines_2_2 14 rfl rfl)
theorem dX3_shines_2_61 : decode cX3_shines_2 61 = .ok (.iadd, 1) := dk_96 (dk_at dksX3_shines_2_2 15 rfl rfl)
theorem dX3_shines_2_62 : decode cX3_shines_2 62 = .ok (.iaload, 1) := dk_46 (dk_at dksX3_shines_2_2 16 rfl rfl)
theorem dX3_shines_2_63 : decode cX3_shines_2 63 = .ok (.iadd, 1) := dk_96 (dk_at dksX3_shines_2_2 17 rfl rfl)
theorem dX3_shines_2_64 : decode cX3_shines_2 64 = .ok (.istore_n 3, 1) := dk_62 (dk_at dksX3_shines_2_2 18 rfl rfl)
theorem dX3_shines_2_65 : decode cX3_shines_2 65 = .ok (.iinc 4 1, 3) := dk_132 4 1 (dk_at dksX3_shines_2_2 19 rfl rfl)
theorem dX3_shines_2_68 : decode cX3_shines_2 68 = .ok (.goto (-55), 3) := dk_167 255 201 (dk_at dksX3_shines_2_3 0 rfl rfl)
theorem dX3_shines_2_71 : decode cX3_shines_2 71 = .ok (.aload_n 0, 1) := dk_42 (dk_at dksX3_shines_2_3 3 rfl rfl)
theorem dX3_shines_2_72 : decode cX3_shines_2 72 = .ok (.getfield 34, 3) := dk_180 0 34 (dk_at dksX3_shines_2_3 4 rfl rfl)
theorem dX3_shines_2_75 : decode cX3_shines_2 75 = .ok (.bipush 24, 2) := dk_16 24 (dk_at dksX3_shines_2_3 7 rfl rfl)
theorem dX3_shines_2_77 : decode cX3_shines_2 77 = .ok (.iload_n 1, 1) := dk_27 (dk_at dksX3_shines_2_3 9 rfl rfl)
theorem dX3_shines_2_78 : decode cX3_shines_2 78 = .ok (.imul, 1) := dk_104 (dk_at dksX3_shines_2_3 10 rfl rfl)
theorem dX3_shines_2_79 : decode cX3_shines_2 79 = .ok (.iload_n 2, 1) := dk_28 (dk_at dksX3_shines_2_3 11 rfl rfl)
theorem dX3_shines_2_80 : decode cX3_shines_2 80 = .ok (.iadd, 1) := dk_96 (dk_at dksX3_shines_2_3 12 rfl rfl)
theorem dX3_shines_2_81 : decode cX3_shines_2 81 = .ok (.iload_n 3, 1) := dk_29 (dk_at dksX3_shines_2_3 13 rfl rfl)
theorem dX3_shines_2_82 : decode cX3_shines_2 82 = .ok (.bipush 100, 2) := dk_16 100 (dk_at dksX3_shines_2_3 14 rfl rfl)
theorem dX3_shines_2_84 : decode cX3_shines_2 84 = .ok (.aload_n 0, 1) := dk_42 (dk_at dksX3_shines_2_3 16 rfl rfl)
theorem dX3_shines_2_85 : decode cX3_shines_2 85 = .ok (.getfield 12, 3) := dk_180 0 12 (dk_at dksX3_shines_2_3 17 rfl rfl)
theorem dX3_shines_2_88 : decode cX3_shines_2 88 = .ok (.getfield 88, 3) := dk_180 0 88 (dk_at dksX3_shines_2_3 20 rfl rfl)
theorem dX3_shines_2_91 : decode cX3_shines_2 91 = .ok (.iload_n 1, 1) := dk_27 (dk_at dksX3_shines_2_3 23 rfl rfl)
theorem dX3_shines_2_92 : decode cX3_shines_2 92 = .ok (.invokevirtual 45, 3) := dk_182 0 45 (dk_at dksX3_shines_2_4 0 rfl rfl)
theorem dX3_shines_2_95 : decode cX3_shines_2 95 = .ok (.checkcast 97, 3) := dk_192 0 97 (dk_at dksX3_shines_2_4 3 rfl rfl)
theorem dX3_shines_2_98 : decode cX3_shines_2 98 = .ok (.getfield 99, 3) := dk_180 0 99 (dk_at dksX3_shines_2_4 6 rfl rfl)
theorem dX3_shines_2_101 : decode cX3_shines_2 101 = .ok (.isub, 1) := dk_100 (dk_at dksX3_shines_2_4 9 rfl rfl)
theorem dX3_shines_2_102 : decode cX3_shines_2 102 = .ok (.imul, 1) := dk_104 (dk_at dksX3_shines_2_4 10 rfl rfl)
theorem dX3_shines_2_103 : decode cX3_shines_2 103 = .ok (.bipush 100, 2) := dk_16 100 (dk_at dksX3_shines_2_4 11 rfl rfl)
theorem dX3_shines_2_105 : decode cX3_shines_2 105 = .ok (.idiv, 1) := dk_108 (dk_at dksX3_shines_2_4 13 rfl rfl)
theorem dX3_shines_2_106 : decode cX3_shines_2 106 = .ok (.iastore, 1) := dk_79 (dk_at dksX3_shines_2_4 14 rfl rfl)
theorem dX3_shines_2_107 : decode cX3_shines_2 107 = .ok (.iinc 2 1, 3) := dk_132 2 1 (dk_at dksX3_shines_2_4 15 rfl rfl)
theorem dX3_shines_2_110 : decode cX3_shines_2 110 = .ok (.goto (-108), 3) := dk_167 255 148 (dk_at dksX3_shines_2_4 18 rfl rfl)
theorem dX3_shines_2_113 : decode cX3_shines_2 113 = .ok (.return_, 1) := dk_177 (dk_at dksX3_shines_2_4 21 rfl rfl)
abbrev cX3_like : ByteArray := prog_9_method_13_code
def yX3_like : MethodName := ⟨RX3, "like", "(LEelPort$Lit;)V"⟩
def dkwX3_like_2 : List UInt8 := [3, 16, 20, 184, 0, 128, 43, 180, 0, 25, 3, 42, 180, 0, 25, 3, 16, 20, 184, 0, 128, 177]
abbrev dktX3_like_2 : List UInt8 := dkwX3_like_2 ++ []
def dkwX3_like_1 : List UInt8 := [43, 180, 0, 18, 3, 42, 180, 0, 18, 3, 16, 20, 184, 0, 128, 43, 180, 0, 22, 3, 42, 180, 0, 22]
abbrev dktX3_like_1 : List UInt8 := dkwX3_like_1 ++ dktX3_like_2
def dkwX3_like_0 : List UInt8 := [42, 43, 180, 0, 12, 181, 0, 12, 42, 43, 180, 0, 37, 181, 0, 37, 42, 43, 180, 0, 65, 181, 0, 65]
abbrev dktX3_like_0 : List UInt8 := dkwX3_like_0 ++ dktX3_like_1
theorem dksX3_like_0 : cX3_like.data.toList.drop 0 = dktX3_like_0 := by decide +kernel
theorem dksX3_like_1 : cX3_like.data.toList.drop 24 = dktX3_like_1 := dk_seg dksX3_like_0 24 rfl rfl
theorem dksX3_like_2 : cX3_like.data.toList.drop 48 = dktX3_like_2 := dk_seg dksX3_like_1 24 rfl rfl
theorem dX3_like_0 : decode cX3_like 0 = .ok (.aload_n 0, 1) := dk_42 (dk_at dksX3_like_0 0 rfl rfl)
theorem dX3_like_1 : decode cX3_like 1 = .ok (.aload_n 1, 1) := dk_43 (dk_at dksX3_like_0 1 rfl rfl)
theorem dX3_like_2 : decode cX3_like 2 = .ok (.getfield 12, 3) := dk_180 0 12 (dk_at dksX3_like_0 2 rfl rfl)
theorem dX3_like_5 : decode cX3_like 5 = .ok (.putfield 12, 3) := dk_181 0 12 (dk_at dksX3_like_0 5 rfl rfl)
theorem dX3_like_8 : decode cX3_like 8 = .ok (.aload_n 0, 1) := dk_42 (dk_at dksX3_like_0 8 rfl rfl)
theorem dX3_like_9 : decode cX3_like 9 = .ok (.aload_n 1, 1) := dk_43 (dk_at dksX3_like_0 9 rfl rfl)
theorem dX3_like_10 : decode cX3_like 10 = .ok (.getfield 37, 3) := dk_180 0 37 (dk_at dksX3_like_0 10 rfl rfl)
theorem dX3_like_13 : decode cX3_like 13 = .ok (.putfield 37, 3) := dk_181 0 37 (dk_at dksX3_like_0 13 rfl rfl)
theorem dX3_like_16 : decode cX3_like 16 = .ok (.aload_n 0, 1) := dk_42 (dk_at dksX3_like_0 16 rfl rfl)
theorem dX3_like_17 : decode cX3_like 17 = .ok (.aload_n 1, 1) := dk_43 (dk_at dksX3_like_0 17 rfl rfl)
theorem dX3_like_18 : decode cX3_like 18 = .ok (.getfield 65, 3) := dk_180 0 65 (dk_at dksX3_like_0 18 rfl rfl)
theorem dX3_like_21 : decode cX3_like 21 = .ok (.putfield 65, 3) := dk_181 0 65 (dk_at dksX3_like_0 21 rfl rfl)
theorem dX3_like_24 : decode cX3_like 24 = .ok (.aload_n 1, 1) := dk_43 (dk_at dksX3_like_1 0 rfl rfl)
theorem dX3_like_25 : decode cX3_like 25 = .ok (.getfield 18, 3) := dk_180 0 18 (dk_at dksX3_like_1 1 rfl rfl)
theorem dX3_like_28 : decode cX3_like 28 = .ok (.iconst 0, 1) := dk_3 (dk_at dksX3_like_1 4 rfl rfl)
theorem dX3_like_29 : decode cX3_like 29 = .ok (.aload_n 0, 1) := dk_42 (dk_at dksX3_like_1 5 rfl rfl)
theorem dX3_like_30 : decode cX3_like 30 = .ok (.getfield 18, 3) := dk_180 0 18 (dk_at dksX3_like_1 6 rfl rfl)
theorem dX3_like_33 : decode cX3_like 33 = .ok (.iconst 0, 1) := dk_3 (dk_at dksX3_like_1 9 rfl rfl)
theorem dX3_like_34 : decode cX3_like 34 = .ok (.bipush 20, 2) := dk_16 20 (dk_at dksX3_like_1 10 rfl rfl)
theorem dX3_like_36 : decode cX3_like 36 = .ok (.invokestatic 128, 3) := dk_184 0 128 (dk_at dksX3_like_1 12 rfl rfl)
theorem dX3_like_39 : decode cX3_like 39 = .ok (.aload_n 1, 1) := dk_43 (dk_at dksX3_like_1 15 rfl rfl)
theorem dX3_like_40 : decode cX3_like 40 = .ok (.getfield 22, 3) := dk_180 0 22 (dk_at dksX3_like_1 16 rfl rfl)
theorem dX3_like_43 : decode cX3_like 43 = .ok (.iconst 0, 1) := dk_3 (dk_at dksX3_like_1 19 rfl rfl)
theorem dX3_like_44 : decode cX3_like 44 = .ok (.aload_n 0, 1) := dk_42 (dk_at dksX3_like_1 20 rfl rfl)
theorem dX3_like_45 : decode cX3_like 45 = .ok (.getfield 22, 3) := dk_180 0 22 (dk_at dksX3_like_1 21 rfl rfl)
theorem dX3_like_48 : decode cX3_like 48 = .ok (.iconst 0, 1) := dk_3 (dk_at dksX3_like_2 0 rfl rfl)
theorem dX3_like_49 : decode cX3_like 49 = .ok (.bipush 20, 2) := dk_16 20 (dk_at dksX3_like_2 1 rfl rfl)
theorem dX3_like_51 : decode cX3_like 51 = .ok (.invokestatic 128, 3) := dk_184 0 128 (dk_at dksX3_like_2 3 rfl rfl)
theorem dX3_like_54 : decode cX3_like 54 = .ok (.aload_n 1, 1) := dk_43 (dk_at dksX3_like_2 6 rfl rfl)
theorem dX3_like_55 : decode cX3_like 55 = .ok (.getfield 25, 3) := dk_180 0 25 (dk_at dksX3_like_2 7 rfl rfl)
theorem dX3_like_58 : decode cX3_like 58 = .ok (.iconst 0, 1) := dk_3 (dk_at dksX3_like_2 10 rfl rfl)
theorem dX3_like_59 : decode cX3_like 59 = .ok (.aload_n 0, 1) := dk_42 (dk_at dksX3_like_2 11 rfl rfl)
theorem dX3_like_60 : decode cX3_like 60 = .ok (.getfield 25, 3) := dk_180 0 25 (dk_at dksX3_like_2 12 rfl rfl)
theorem dX3_like_63 : decode cX3_like 63 = .ok (.iconst 0, 1) := dk_3 (dk_at dksX3_like_2 15 rfl rfl)
theorem dX3_like_64 : decode cX3_like 64 = .ok (.bipush 20, 2) := dk_16 20 (dk_at dksX3_like_2 16 rfl rfl)
theorem dX3_like_66 : decode cX3_like 66 = .ok (.invokestatic 128, 3) := dk_184 0 128 (dk_at dksX3_like_2 18 rfl rfl)
theorem dX3_like_69 : decode cX3_like 69 = .ok (.return_, 1) := dk_177 (dk_at dksX3_like_2 21 rfl rfl)
abbrev cX3_adds : ByteArray := prog_9_method_2_code
def yX3_adds : MethodName := ⟨RX3, "adds", "(III)V"⟩
def dkwX3_adds_1 : List UInt8 := [42, 180, 0, 37, 29, 79, 42, 89, 180, 0, 37, 4, 96, 181, 0, 37, 177]
abbrev dktX3_adds_1 : List UInt8 := dkwX3_adds_1 ++ []
def dkwX3_adds_0 : List UInt8 := [42, 180, 0, 18, 42, 180, 0, 37, 27, 79, 42, 180, 0, 22, 42, 180, 0, 37, 28, 79, 42, 180, 0, 25]
abbrev dktX3_adds_0 : List UInt8 := dkwX3_adds_0 ++ dktX3_adds_1
theorem dksX3_adds_0 : cX3_adds.data.toList.drop 0 = dktX3_adds_0 := by decide +kernel
theorem dksX3_adds_1 : cX3_adds.data.toList.drop 24 = dktX3_adds_1 := dk_seg dksX3_adds_0 24 rfl rfl
theorem dX3_adds_0 : decode cX3_adds 0 = .ok (.aload_n 0, 1) := dk_42 (dk_at dksX3_adds_0 0 rfl rfl)
theorem dX3_adds_1 : decode cX3_adds 1 = .ok (.getfield 18, 3) := dk_180 0 18 (dk_at dksX3_adds_0 1 rfl rfl)
theorem dX3_adds_4 : decode cX3_adds 4 = .ok (.aload_n 0, 1) := dk_42 (dk_at dksX3_adds_0 4 rfl rfl)
theorem dX3_adds_5 : decode cX3_adds 5 = .ok (.getfield 37, 3) := dk_180 0 37 (dk_at dksX3_adds_0 5 rfl rfl)
theorem dX3_adds_8 : decode cX3_adds 8 = .ok (.iload_n 1, 1) := dk_27 (dk_at dksX3_adds_0 8 rfl rfl)
theorem dX3_adds_9 : decode cX3_adds 9 = .ok (.iastore, 1) := dk_79 (dk_at dksX3_adds_0 9 rfl rfl)
theorem dX3_adds_10 : decode cX3_adds 10 = .ok (.aload_n 0, 1) := dk_42 (dk_at dksX3_adds_0 10 rfl rfl)
theorem dX3_adds_11 : decode cX3_adds 11 = .ok (.getfield 22, 3) := dk_180 0 22 (dk_at dksX3_adds_0 11 rfl rfl)
theorem dX3_adds_14 : decode cX3_adds 14 = .ok (.aload_n 0, 1) := dk_42 (dk_at dksX3_adds_0 14 rfl rfl)
theorem dX3_adds_15 : decode cX3_adds 15 = .ok (.getfield 37, 3) := dk_180 0 37 (dk_at dksX3_adds_0 15 rfl rfl)
theorem dX3_adds_18 : decode cX3_adds 18 = .ok (.iload_n 2, 1) := dk_28 (dk_at dksX3_adds_0 18 rfl rfl)
theorem dX3_adds_19 : decode cX3_adds 19 = .ok (.iastore, 1) := dk_79 (dk_at dksX3_adds_0 19 rfl rfl)
theorem dX3_adds_20 : decode cX3_adds 20 = .ok (.aload_n 0, 1) := dk_42 (dk_at dksX3_adds_0 20 rfl rfl)
theorem dX3_adds_21 : decode cX3_adds 21 = .ok (.getfield 25, 3) := dk_180 0 25 (dk_at dksX3_adds_0 21 rfl rfl)
theorem dX3_adds_24 : decode cX3_adds 24 = .ok (.aload_n 0, 1) := dk_42 (dk_at dksX3_adds_1 0 rfl rfl)
theorem dX3_adds_25 : decode cX3_adds 25 = .ok (.getfield 37, 3) := dk_180 0 37 (dk_at dksX3_adds_1 1 rfl rfl)
theorem dX3_adds_28 : decode cX3_adds 28 = .ok (.iload_n 3, 1) := dk_29 (dk_at dksX3_adds_1 4 rfl rfl)
theorem dX3_adds_29 : decode cX3_adds 29 = .ok (.iastore, 1) := dk_79 (dk_at dksX3_adds_1 5 rfl rfl)
theorem dX3_adds_30 : decode cX3_adds 30 = .ok (.aload_n 0, 1) := dk_42 (dk_at dksX3_adds_1 6 rfl rfl)
theorem dX3_adds_31 : decode cX3_adds 31 = .ok (.dup, 1) := dk_89 (dk_at dksX3_adds_1 7 rfl rfl)
theorem dX3_adds_32 : decode cX3_adds 32 = .ok (.getfield 37, 3) := dk_180 0 37 (dk_at dksX3_adds_1 8 rfl rfl)
theorem dX3_adds_35 : decode cX3_adds 35 = .ok (.iconst 1, 1) := dk_4 (dk_at dksX3_adds_1 11 rfl rfl)
theorem dX3_adds_36 : decode cX3_adds 36 = .ok (.iadd, 1) := dk_96 (dk_at dksX3_adds_1 12 rfl rfl)
theorem dX3_adds_37 : decode cX3_adds 37 = .ok (.putfield 37, 3) := dk_181 0 37 (dk_at dksX3_adds_1 13 rfl rfl)
theorem dX3_adds_40 : decode cX3_adds 40 = .ok (.return_, 1) := dk_177 (dk_at dksX3_adds_1 16 rfl rfl)
abbrev cX3_light : ByteArray := prog_9_method_7_code
def yX3_light : MethodName := ⟨RX3, "light", "(II)I"⟩
def dkwX3_light_1 : List UInt8 := [167, 0, 14, 42, 180, 0, 34, 16, 24, 27, 104, 29, 96, 46, 172]
abbrev dktX3_light_1 : List UInt8 := dkwX3_light_1 ++ []
def dkwX3_light_0 : List UInt8 := [42, 180, 0, 12, 180, 0, 88, 27, 182, 0, 45, 192, 0, 97, 28, 182, 0, 102, 62, 29, 156, 0, 7, 3]
abbrev dktX3_light_0 : List UInt8 := dkwX3_light_0 ++ dktX3_light_1
theorem dksX3_light_0 : cX3_light.data.toList.drop 0 = dktX3_light_0 := by decide +kernel
theorem dksX3_light_1 : cX3_light.data.toList.drop 24 = dktX3_light_1 := dk_seg dksX3_light_0 24 rfl rfl
theorem dX3_light_0 : decode cX3_light 0 = .ok (.aload_n 0, 1) := dk_42 (dk_at dksX3_light_0 0 rfl rfl)
theorem dX3_light_1 : decode cX3_light 1 = .ok (.getfield 12, 3) := dk_180 0 12 (dk_at dksX3_light_0 1 rfl rfl)
theorem dX3_light_4 : decode cX3_light 4 = .ok (.getfield 88, 3) := dk_180 0 88 (dk_at dksX3_light_0 4 rfl rfl)
theorem dX3_light_7 : decode cX3_light 7 = .ok (.iload_n 1, 1) := dk_27 (dk_at dksX3_light_0 7 rfl rfl)
theorem dX3_light_8 : decode cX3_light 8 = .ok (.invokevirtual 45, 3) := dk_182 0 45 (dk_at dksX3_light_0 8 rfl rfl)
theorem dX3_light_11 : decode cX3_light 11 = .ok (.checkcast 97, 3) := dk_192 0 97 (dk_at dksX3_light_0 11 rfl rfl)
theorem dX3_light_14 : decode cX3_light 14 = .ok (.iload_n 2, 1) := dk_28 (dk_at dksX3_light_0 14 rfl rfl)
theorem dX3_light_15 : decode cX3_light 15 = .ok (.invokevirtual 102, 3) := dk_182 0 102 (dk_at dksX3_light_0 15 rfl rfl)
theorem dX3_light_18 : decode cX3_light 18 = .ok (.istore_n 3, 1) := dk_62 (dk_at dksX3_light_0 18 rfl rfl)
theorem dX3_light_19 : decode cX3_light 19 = .ok (.iload_n 3, 1) := dk_29 (dk_at dksX3_light_0 19 rfl rfl)
theorem dX3_light_20 : decode cX3_light 20 = .ok (.ifCond .ge 7, 3) := dk_156 0 7 (dk_at dksX3_light_0 20 rfl rfl)
theorem dX3_light_23 : decode cX3_light 23 = .ok (.iconst 0, 1) := dk_3 (dk_at dksX3_light_0 23 rfl rfl)
theorem dX3_light_24 : decode cX3_light 24 = .ok (.goto 14, 3) := dk_167 0 14 (dk_at dksX3_light_1 0 rfl rfl)
theorem dX3_light_27 : decode cX3_light 27 = .ok (.aload_n 0, 1) := dk_42 (dk_at dksX3_light_1 3 rfl rfl)
theorem dX3_light_28 : decode cX3_light 28 = .ok (.getfield 34, 3) := dk_180 0 34 (dk_at dksX3_light_1 4 rfl rfl)
theorem dX3_light_31 : decode cX3_light 31 = .ok (.bipush 24, 2) := dk_16 24 (dk_at dksX3_light_1 7 rfl rfl)
theorem dX3_light_33 : decode cX3_light 33 = .ok (.iload_n 1, 1) := dk_27 (dk_at dksX3_light_1 9 rfl rfl)
theorem dX3_light_34 : decode cX3_light 34 = .ok (.imul, 1) := dk_104 (dk_at dksX3_light_1 10 rfl rfl)
theorem dX3_light_35 : decode cX3_light 35 = .ok (.iload_n 3, 1) := dk_29 (dk_at dksX3_light_1 11 rfl rfl)
theorem dX3_light_36 : decode cX3_light 36 = .ok (.iadd, 1) := dk_96 (dk_at dksX3_light_1 12 rfl rfl)
theorem dX3_light_37 : decode cX3_light 37 = .ok (.iaload, 1) := dk_46 (dk_at dksX3_light_1 13 rfl rfl)
theorem dX3_light_38 : decode cX3_light 38 = .ok (.ireturn, 1) := dk_172 (dk_at dksX3_light_1 14 rfl rfl)
abbrev cX3_at : ByteArray := prog_9_method_11_code
def yX3_at : MethodName := ⟨RX3, "at", "(LEelPort$Ship;I)I"⟩
def dkwX3_at_2 : List UInt8 := [132, 4, 1, 167, 255, 218, 29, 172]
abbrev dktX3_at_2 : List UInt8 := dkwX3_at_2 ++ []
def dkwX3_at_1 : List UInt8 := [29, 182, 0, 45, 192, 0, 97, 182, 0, 117, 154, 0, 18, 43, 42, 29, 21, 4, 182, 0, 120, 62]
abbrev dktX3_at_1 : List UInt8 := dkwX3_at_1 ++ dktX3_at_2
def dkwX3_at_0 : List UInt8 := [43, 180, 0, 112, 62, 43, 180, 0, 115, 54, 4, 21, 4, 28, 162, 0, 38, 42, 180, 0, 12, 180, 0, 88]
abbrev dktX3_at_0 : List UInt8 := dkwX3_at_0 ++ dktX3_at_1
theorem dksX3_at_0 : cX3_at.data.toList.drop 0 = dktX3_at_0 := by decide +kernel
theorem dksX3_at_1 : cX3_at.data.toList.drop 24 = dktX3_at_1 := dk_seg dksX3_at_0 24 rfl rfl
theorem dksX3_at_2 : cX3_at.data.toList.drop 46 = dktX3_at_2 := dk_seg dksX3_at_1 22 rfl rfl
theorem dX3_at_0 : decode cX3_at 0 = .ok (.aload_n 1, 1) := dk_43 (dk_at dksX3_at_0 0 rfl rfl)
theorem dX3_at_1 : decode cX3_at 1 = .ok (.getfield 112, 3) := dk_180 0 112 (dk_at dksX3_at_0 1 rfl rfl)
theorem dX3_at_4 : decode cX3_at 4 = .ok (.istore_n 3, 1) := dk_62 (dk_at dksX3_at_0 4 rfl rfl)
theorem dX3_at_5 : decode cX3_at 5 = .ok (.aload_n 1, 1) := dk_43 (dk_at dksX3_at_0 5 rfl rfl)
theorem dX3_at_6 : decode cX3_at 6 = .ok (.getfield 115, 3) := dk_180 0 115 (dk_at dksX3_at_0 6 rfl rfl)
theorem dX3_at_9 : decode cX3_at 9 = .ok (.istore 4, 2) := dk_54 4 (dk_at dksX3_at_0 9 rfl rfl)
theorem dX3_at_11 : decode cX3_at 11 = .ok (.iload 4, 2) := dk_21 4 (dk_at dksX3_at_0 11 rfl rfl)
theorem dX3_at_13 : decode cX3_at 13 = .ok (.iload_n 2, 1) := dk_28 (dk_at dksX3_at_0 13 rfl rfl)
theorem dX3_at_14 : decode cX3_at 14 = .ok (.if_icmp .ge 38, 3) := dk_162 0 38 (dk_at dksX3_at_0 14 rfl rfl)
theorem dX3_at_17 : decode cX3_at 17 = .ok (.aload_n 0, 1) := dk_42 (dk_at dksX3_at_0 17 rfl rfl)
theorem dX3_at_18 : decode cX3_at 18 = .ok (.getfield 12, 3) := dk_180 0 12 (dk_at dksX3_at_0 18 rfl rfl)
theorem dX3_at_21 : decode cX3_at 21 = .ok (.getfield 88, 3) := dk_180 0 88 (dk_at dksX3_at_0 21 rfl rfl)
theorem dX3_at_24 : decode cX3_at 24 = .ok (.iload_n 3, 1) := dk_29 (dk_at dksX3_at_1 0 rfl rfl)
theorem dX3_at_25 : decode cX3_at 25 = .ok (.invokevirtual 45, 3) := dk_182 0 45 (dk_at dksX3_at_1 1 rfl rfl)
theorem dX3_at_28 : decode cX3_at 28 = .ok (.checkcast 97, 3) := dk_192 0 97 (dk_at dksX3_at_1 4 rfl rfl)
theorem dX3_at_31 : decode cX3_at 31 = .ok (.invokevirtual 117, 3) := dk_182 0 117 (dk_at dksX3_at_1 7 rfl rfl)
theorem dX3_at_34 : decode cX3_at 34 = .ok (.ifCond .ne 18, 3) := dk_154 0 18 (dk_at dksX3_at_1 10 rfl rfl)
theorem dX3_at_37 : decode cX3_at 37 = .ok (.aload_n 1, 1) := dk_43 (dk_at dksX3_at_1 13 rfl rfl)
theorem dX3_at_38 : decode cX3_at 38 = .ok (.aload_n 0, 1) := dk_42 (dk_at dksX3_at_1 14 rfl rfl)
theorem dX3_at_39 : decode cX3_at 39 = .ok (.iload_n 3, 1) := dk_29 (dk_at dksX3_at_1 15 rfl rfl)
theorem dX3_at_40 : decode cX3_at 40 = .ok (.iload 4, 2) := dk_21 4 (dk_at dksX3_at_1 16 rfl rfl)
theorem dX3_at_42 : decode cX3_at 42 = .ok (.invokevirtual 120, 3) := dk_182 0 120 (dk_at dksX3_at_1 18 rfl rfl)
theorem dX3_at_45 : decode cX3_at 45 = .ok (.istore_n 3, 1) := dk_62 (dk_at dksX3_at_1 21 rfl rfl)
theorem dX3_at_46 : decode cX3_at 46 = .ok (.iinc 4 1, 3) := dk_132 4 1 (dk_at dksX3_at_2 0 rfl rfl)
theorem dX3_at_49 : decode cX3_at 49 = .ok (.goto (-38), 3) := dk_167 255 218 (dk_at dksX3_at_2 3 rfl rfl)
theorem dX3_at_52 : decode cX3_at 52 = .ok (.iload_n 3, 1) := dk_29 (dk_at dksX3_at_2 6 rfl rfl)
theorem dX3_at_53 : decode cX3_at 53 = .ok (.ireturn, 1) := dk_172 (dk_at dksX3_at_2 7 rfl rfl)
abbrev cX3_isWay : ByteArray := prog_9_method_8_code
def yX3_isWay : MethodName := ⟨RX3, "isWay", "(II)Z"⟩
def dkwX3_isWay_1 : List UInt8 := [160, 0, 7, 4, 167, 0, 4, 3, 172]
abbrev dktX3_isWay_1 : List UInt8 := dkwX3_isWay_1 ++ []
def dkwX3_isWay_0 : List UInt8 := [42, 180, 0, 12, 180, 0, 88, 27, 182, 0, 45, 192, 0, 97, 180, 0, 106, 28, 122, 4, 126, 4]
abbrev dktX3_isWay_0 : List UInt8 := dkwX3_isWay_0 ++ dktX3_isWay_1
theorem dksX3_isWay_0 : cX3_isWay.data.toList.drop 0 = dktX3_isWay_0 := by decide +kernel
theorem dksX3_isWay_1 : cX3_isWay.data.toList.drop 22 = dktX3_isWay_1 := dk_seg dksX3_isWay_0 22 rfl rfl
theorem dX3_isWay_0 : decode cX3_isWay 0 = .ok (.aload_n 0, 1) := dk_42 (dk_at dksX3_isWay_0 0 rfl rfl)
theorem dX3_isWay_1 : decode cX3_isWay 1 = .ok (.getfield 12, 3) := dk_180 0 12 (dk_at dksX3_isWay_0 1 rfl rfl)
theorem dX3_isWay_4 : decode cX3_isWay 4 = .ok (.getfield 88, 3) := dk_180 0 88 (dk_at dksX3_isWay_0 4 rfl rfl)
theorem dX3_isWay_7 : decode cX3_isWay 7 = .ok (.iload_n 1, 1) := dk_27 (dk_at dksX3_isWay_0 7 rfl rfl)
theorem dX3_isWay_8 : decode cX3_isWay 8 = .ok (.invokevirtual 45, 3) := dk_182 0 45 (dk_at dksX3_isWay_0 8 rfl rfl)
theorem dX3_isWay_11 : decode cX3_isWay 11 = .ok (.checkcast 97, 3) := dk_192 0 97 (dk_at dksX3_isWay_0 11 rfl rfl)
theorem dX3_isWay_14 : decode cX3_isWay 14 = .ok (.getfield 106, 3) := dk_180 0 106 (dk_at dksX3_isWay_0 14 rfl rfl)
theorem dX3_isWay_17 : decode cX3_isWay 17 = .ok (.iload_n 2, 1) := dk_28 (dk_at dksX3_isWay_0 17 rfl rfl)
theorem dX3_isWay_18 : decode cX3_isWay 18 = .ok (.ishr, 1) := dk_122 (dk_at dksX3_isWay_0 18 rfl rfl)
theorem dX3_isWay_19 : decode cX3_isWay 19 = .ok (.iconst 1, 1) := dk_4 (dk_at dksX3_isWay_0 19 rfl rfl)
theorem dX3_isWay_20 : decode cX3_isWay 20 = .ok (.iand, 1) := dk_126 (dk_at dksX3_isWay_0 20 rfl rfl)
theorem dX3_isWay_21 : decode cX3_isWay 21 = .ok (.iconst 1, 1) := dk_4 (dk_at dksX3_isWay_0 21 rfl rfl)
theorem dX3_isWay_22 : decode cX3_isWay 22 = .ok (.if_icmp .ne 7, 3) := dk_160 0 7 (dk_at dksX3_isWay_1 0 rfl rfl)
theorem dX3_isWay_25 : decode cX3_isWay 25 = .ok (.iconst 1, 1) := dk_4 (dk_at dksX3_isWay_1 3 rfl rfl)
theorem dX3_isWay_26 : decode cX3_isWay 26 = .ok (.goto 4, 3) := dk_167 0 4 (dk_at dksX3_isWay_1 4 rfl rfl)
theorem dX3_isWay_29 : decode cX3_isWay 29 = .ok (.iconst 0, 1) := dk_3 (dk_at dksX3_isWay_1 7 rfl rfl)
theorem dX3_isWay_30 : decode cX3_isWay 30 = .ok (.ireturn, 1) := dk_172 (dk_at dksX3_isWay_1 8 rfl rfl)
abbrev cX3_isSeen : ByteArray := prog_9_method_9_code
def yX3_isSeen : MethodName := ⟨RX3, "isSeen", "(III)Z"⟩
def dkwX3_isSeen_1 : List UInt8 := [29, 161, 0, 7, 4, 167, 0, 4, 3, 172]
abbrev dktX3_isSeen_1 : List UInt8 := dkwX3_isSeen_1 ++ []
def dkwX3_isSeen_0 : List UInt8 := [42, 27, 28, 182, 0, 109, 42, 180, 0, 12, 180, 0, 68, 28, 46, 164, 0, 17, 42, 27, 28, 182, 0, 109]
abbrev dktX3_isSeen_0 : List UInt8 := dkwX3_isSeen_0 ++ dktX3_isSeen_1
theorem dksX3_isSeen_0 : cX3_isSeen.data.toList.drop 0 = dktX3_isSeen_0 := by decide +kernel
theorem dksX3_isSeen_1 : cX3_isSeen.data.toList.drop 24 = dktX3_isSeen_1 := dk_seg dksX3_isSeen_0 24 rfl rfl
theorem dX3_isSeen_0 : decode cX3_isSeen 0 = .ok (.aload_n 0, 1) := dk_42 (dk_at dksX3_isSeen_0 0 rfl rfl)
theorem dX3_isSeen_1 : decode cX3_isSeen 1 = .ok (.iload_n 1, 1) := dk_27 (dk_at dksX3_isSeen_0 1 rfl rfl)
theorem dX3_isSeen_2 : decode cX3_isSeen 2 = .ok (.iload_n 2, 1) := dk_28 (dk_at dksX3_isSeen_0 2 rfl rfl)
theorem dX3_isSeen_3 : decode cX3_isSeen 3 = .ok (.invokevirtual 109, 3) := dk_182 0 109 (dk_at dksX3_isSeen_0 3 rfl rfl)
theorem dX3_isSeen_6 : decode cX3_isSeen 6 = .ok (.aload_n 0, 1) := dk_42 (dk_at dksX3_isSeen_0 6 rfl rfl)
theorem dX3_isSeen_7 : decode cX3_isSeen 7 = .ok (.getfield 12, 3) := dk_180 0 12 (dk_at dksX3_isSeen_0 7 rfl rfl)
theorem dX3_isSeen_10 : decode cX3_isSeen 10 = .ok (.getfield 68, 3) := dk_180 0 68 (dk_at dksX3_isSeen_0 10 rfl rfl)
theorem dX3_isSeen_13 : decode cX3_isSeen 13 = .ok (.iload_n 2, 1) := dk_28 (dk_at dksX3_isSeen_0 13 rfl rfl)
theorem dX3_isSeen_14 : decode cX3_isSeen 14 = .ok (.iaload, 1) := dk_46 (dk_at dksX3_isSeen_0 14 rfl rfl)
theorem dX3_isSeen_15 : decode cX3_isSeen 15 = .ok (.if_icmp .le 17, 3) := dk_164 0 17 (dk_at dksX3_isSeen_0 15 rfl rfl)
theorem dX3_isSeen_18 : decode cX3_isSeen 18 = .ok (.aload_n 0, 1) := dk_42 (dk_at dksX3_isSeen_0 18 rfl rfl)
theorem dX3_isSeen_19 : decode cX3_isSeen 19 = .ok (.iload_n 1, 1) := dk_27 (dk_at dksX3_isSeen_0 19 rfl rfl)
theorem dX3_isSeen_20 : decode cX3_isSeen 20 = .ok (.iload_n 2, 1) := dk_28 (dk_at dksX3_isSeen_0 20 rfl rfl)
theorem dX3_isSeen_21 : decode cX3_isSeen 21 = .ok (.invokevirtual 109, 3) := dk_182 0 109 (dk_at dksX3_isSeen_0 21 rfl rfl)
theorem dX3_isSeen_24 : decode cX3_isSeen 24 = .ok (.iload_n 3, 1) := dk_29 (dk_at dksX3_isSeen_1 0 rfl rfl)
theorem dX3_isSeen_25 : decode cX3_isSeen 25 = .ok (.if_icmp .lt 7, 3) := dk_161 0 7 (dk_at dksX3_isSeen_1 1 rfl rfl)
theorem dX3_isSeen_28 : decode cX3_isSeen 28 = .ok (.iconst 1, 1) := dk_4 (dk_at dksX3_isSeen_1 4 rfl rfl)
theorem dX3_isSeen_29 : decode cX3_isSeen 29 = .ok (.goto 4, 3) := dk_167 0 4 (dk_at dksX3_isSeen_1 5 rfl rfl)
theorem dX3_isSeen_32 : decode cX3_isSeen 32 = .ok (.iconst 0, 1) := dk_3 (dk_at dksX3_isSeen_1 8 rfl rfl)
theorem dX3_isSeen_33 : decode cX3_isSeen 33 = .ok (.ireturn, 1) := dk_172 (dk_at dksX3_isSeen_1 9 rfl rfl)
abbrev cX3_hungry : ByteArray := prog_9_method_10_code
def yX3_hungry : MethodName := ⟨RX3, "hungry", "(II)I"⟩
def dkwX3_hungry_2 : List UInt8 := [180, 0, 28, 16, 24, 21, 4, 104, 28, 96, 46, 96, 62, 132, 4, 1, 167, 255, 197, 29, 172]
abbrev dktX3_hungry_2 : List UInt8 := dkwX3_hungry_2 ++ []
def dkwX3_hungry_1 : List UInt8 := [180, 0, 41, 21, 4, 182, 0, 45, 192, 0, 51, 180, 0, 94, 27, 160, 0, 22, 3, 29, 184, 0, 55, 42]
abbrev dktX3_hungry_1 : List UInt8 := dkwX3_hungry_1 ++ dktX3_hungry_2
def dkwX3_hungry_0 : List UInt8 := [2, 62, 3, 54, 4, 21, 4, 42, 180, 0, 12, 180, 0, 41, 182, 0, 81, 162, 0, 50, 42, 180, 0, 12]
abbrev dktX3_hungry_0 : List UInt8 := dkwX3_hungry_0 ++ dktX3_hungry_1
theorem dksX3_hungry_0 : cX3_hungry.data.toList.drop 0 = dktX3_hungry_0 := by decide +kernel
theorem dksX3_hungry_1 : cX3_hungry.data.toList.drop 24 = dktX3_hungry_1 := dk_seg dksX3_hungry_0 24 rfl rfl
theorem dksX3_hungry_2 : cX3_hungry.data.toList.drop 48 = dktX3_hungry_2 := dk_seg dksX3_hungry_1 24 rfl rfl
theorem dX3_hungry_0 : decode cX3_hungry 0 = .ok (.iconst (-1), 1) := dk_2 (dk_at dksX3_hungry_0 0 rfl rfl)
theorem dX3_hungry_1 : decode cX3_hungry 1 = .ok (.istore_n 3, 1) := dk_62 (dk_at dksX3_hungry_0 1 rfl rfl)
theorem dX3_hungry_2 : decode cX3_hungry 2 = .ok (.iconst 0, 1) := dk_3 (dk_at dksX3_hungry_0 2 rfl rfl)
theorem dX3_hungry_3 : decode cX3_hungry 3 = .ok (.istore 4, 2) := dk_54 4 (dk_at dksX3_hungry_0 3 rfl rfl)
theorem dX3_hungry_5 : decode cX3_hungry 5 = .ok (.iload 4, 2) := dk_21 4 (dk_at dksX3_hungry_0 5 rfl rfl)
theorem dX3_hungry_7 : decode cX3_hungry 7 = .ok (.aload_n 0, 1) := dk_42 (dk_at dksX3_hungry_0 7 rfl rfl)
theorem dX3_hungry_8 : decode cX3_hungry 8 = .ok (.getfield 12, 3) := dk_180 0 12 (dk_at dksX3_hungry_0 8 rfl rfl)
theorem dX3_hungry_11 : decode cX3_hungry 11 = .ok (.getfield 41, 3) := dk_180 0 41 (dk_at dksX3_hungry_0 11 rfl rfl)
theorem dX3_hungry_14 : decode cX3_hungry 14 = .ok (.invokevirtual 81, 3) := dk_182 0 81 (dk_at dksX3_hungry_0 14 rfl rfl)
theorem dX3_hungry_17 : decode cX3_hungry 17 = .ok (.if_icmp .ge 50, 3) := dk_162 0 50 (dk_at dksX3_hungry_0 17 rfl rfl)
theorem dX3_hungry_20 : decode cX3_hungry 20 = .ok (.aload_n 0, 1) := dk_42 (dk_at dksX3_hungry_0 20 rfl rfl)
theorem dX3_hungry_21 : decode cX3_hungry 21 = .ok (.getfield 12, 3) := dk_180 0 12 (dk_at dksX3_hungry_0 21 rfl rfl)
theorem dX3_hungry_24 : decode cX3_hungry 24 = .ok (.getfield 41, 3) := dk_180 0 41 (dk_at dksX3_hungry_1 0 rfl rfl)
theorem dX3_hungry_27 : decode cX3_hungry 27 = .ok (.iload 4, 2) := dk_21 4 (dk_at dksX3_hungry_1 3 rfl rfl)
theorem dX3_hungry_29 : decode cX3_hungry 29 = .ok (.invokevirtual 45, 3) := dk_182 0 45 (dk_at dksX3_hungry_1 5 rfl rfl)
theorem dX3_hungry_32 : decode cX3_hungry 32 = .ok (.checkcast 51, 3) := dk_192 0 51 (dk_at dksX3_hungry_1 8 rfl rfl)
theorem dX3_hungry_35 : decode cX3_hungry 35 = .ok (.getfield 94, 3) := dk_180 0 94 (dk_at dksX3_hungry_1 11 rfl rfl)
theorem dX3_hungry_38 : decode cX3_hungry 38 = .ok (.iload_n 1, 1) := dk_27 (dk_at dksX3_hungry_1 14 rfl rfl)
theorem dX3_hungry_39 : decode cX3_hungry 39 = .ok (.if_icmp .ne 22, 3) := dk_160 0 22 (dk_at dksX3_hungry_1 15 rfl rfl)
theorem dX3_hungry_42 : decode cX3_hungry 42 = .ok (.iconst 0, 1) := dk_3 (dk_at dksX3_hungry_1 18 rfl rfl)
theorem dX3_hungry_43 : decode cX3_hungry 43 = .ok (.iload_n 3, 1) := dk_29 (dk_at dksX3_hungry_1 19 rfl rfl)
theorem dX3_hungry_44 : decode cX3_hungry 44 = .ok (.invokestatic 55, 3) := dk_184 0 55 (dk_at dksX3_hungry_1 20 rfl rfl)
theorem dX3_hungry_47 : decode cX3_hungry 47 = .ok (.aload_n 0, 1) := dk_42 (dk_at dksX3_hungry_1 23 rfl rfl)
theorem dX3_hungry_48 : decode cX3_hungry 48 = .ok (.getfield 28, 3) := dk_180 0 28 (dk_at dksX3_hungry_2 0 rfl rfl)
theorem dX3_hungry_51 : decode cX3_hungry 51 = .ok (.bipush 24, 2) := dk_16 24 (dk_at dksX3_hungry_2 3 rfl rfl)
theorem dX3_hungry_53 : decode cX3_hungry 53 = .ok (.iload 4, 2) := dk_21 4 (dk_at dksX3_hungry_2 5 rfl rfl)
theorem dX3_hungry_55 : decode cX3_hungry 55 = .ok (.imul, 1) := dk_104 (dk_at dksX3_hungry_2 7 rfl rfl)
theorem dX3_hungry_56 : decode cX3_hungry 56 = .ok (.iload_n 2, 1) := dk_28 (dk_at dksX3_hungry_2 8 rfl rfl)
theorem dX3_hungry_57 : decode cX3_hungry 57 = .ok (.iadd, 1) := dk_96 (dk_at dksX3_hungry_2 9 rfl rfl)
theorem dX3_hungry_58 : decode cX3_hungry 58 = .ok (.iaload, 1) := dk_46 (dk_at dksX3_hungry_2 10 rfl rfl)
theorem dX3_hungry_59 : decode cX3_hungry 59 = .ok (.iadd, 1) := dk_96 (dk_at dksX3_hungry_2 11 rfl rfl)
theorem dX3_hungry_60 : decode cX3_hungry 60 = .ok (.istore_n 3, 1) := dk_62 (dk_at dksX3_hungry_2 12 rfl rfl)
theorem dX3_hungry_61 : decode cX3_hungry 61 = .ok (.iinc 4 1, 3) := dk_132 4 1 (dk_at dksX3_hungry_2 13 rfl rfl)
theorem dX3_hungry_64 : decode cX3_hungry 64 = .ok (.goto (-59), 3) := dk_167 255 197 (dk_at dksX3_hungry_2 16 rfl rfl)
theorem dX3_hungry_67 : decode cX3_hungry 67 = .ok (.iload_n 3, 1) := dk_29 (dk_at dksX3_hungry_2 19 rfl rfl)
theorem dX3_hungry_68 : decode cX3_hungry 68 = .ok (.ireturn, 1) := dk_172 (dk_at dksX3_hungry_2 20 rfl rfl)
abbrev cX3_end : ByteArray := prog_9_method_12_code
def yX3_end : MethodName := ⟨RX3, "end", "(LEelPort$Ship;)I"⟩
def dkwX3_end_0 : List UInt8 := [42, 180, 0, 12, 180, 0, 88, 42, 43, 16, 24, 182, 0, 124, 182, 0, 45, 192, 0, 97, 182, 0, 117, 172]
abbrev dktX3_end_0 : List UInt8 := dkwX3_end_0 ++ []
theorem dksX3_end_0 : cX3_end.data.toList.drop 0 = dktX3_end_0 := by decide +kernel
theorem dX3_end_0 : decode cX3_end 0 = .ok (.aload_n 0, 1) := dk_42 (dk_at dksX3_end_0 0 rfl rfl)
theorem dX3_end_1 : decode cX3_end 1 = .ok (.getfield 12, 3) := dk_180 0 12 (dk_at dksX3_end_0 1 rfl rfl)
theorem dX3_end_4 : decode cX3_end 4 = .ok (.getfield 88, 3) := dk_180 0 88 (dk_at dksX3_end_0 4 rfl rfl)
theorem dX3_end_7 : decode cX3_end 7 = .ok (.aload_n 0, 1) := dk_42 (dk_at dksX3_end_0 7 rfl rfl)
theorem dX3_end_8 : decode cX3_end 8 = .ok (.aload_n 1, 1) := dk_43 (dk_at dksX3_end_0 8 rfl rfl)
theorem dX3_end_9 : decode cX3_end 9 = .ok (.bipush 24, 2) := dk_16 24 (dk_at dksX3_end_0 9 rfl rfl)
theorem dX3_end_11 : decode cX3_end 11 = .ok (.invokevirtual 124, 3) := dk_182 0 124 (dk_at dksX3_end_0 11 rfl rfl)
theorem dX3_end_14 : decode cX3_end 14 = .ok (.invokevirtual 45, 3) := dk_182 0 45 (dk_at dksX3_end_0 14 rfl rfl)
theorem dX3_end_17 : decode cX3_end 17 = .ok (.checkcast 97, 3) := dk_192 0 97 (dk_at dksX3_end_0 17 rfl rfl)
theorem dX3_end_20 : decode cX3_end 20 = .ok (.invokevirtual 117, 3) := dk_182 0 117 (dk_at dksX3_end_0 20 rfl rfl)
theorem dX3_end_23 : decode cX3_end 23 = .ok (.ireturn, 1) := dk_172 (dk_at dksX3_end_0 23 rfl rfl)
abbrev cX3_shinesAt : ByteArray := prog_9_method_5_code
def yX3_shinesAt : MethodName := ⟨RX3, "shinesAt", "(I)V"⟩
def dkwX3_shinesAt_2 : List UInt8 := [42, 27, 182, 0, 91, 177]
abbrev dktX3_shinesAt_2 : List UInt8 := dkwX3_shinesAt_2 ++ []
def dkwX3_shinesAt_1 : List UInt8 := [182, 0, 45, 192, 0, 51, 180, 0, 94, 27, 160, 0, 8, 42, 28, 182, 0, 84, 132, 2, 1, 167, 255, 213]
abbrev dktX3_shinesAt_1 : List UInt8 := dkwX3_shinesAt_1 ++ dktX3_shinesAt_2
def dkwX3_shinesAt_0 : List UInt8 := [3, 61, 28, 42, 180, 0, 12, 180, 0, 41, 182, 0, 81, 162, 0, 35, 42, 180, 0, 12, 180, 0, 41, 28]
abbrev dktX3_shinesAt_0 : List UInt8 := dkwX3_shinesAt_0 ++ dktX3_shinesAt_1
theorem dksX3_shinesAt_0 : cX3_shinesAt.data.toList.drop 0 = dktX3_shinesAt_0 := by decide +kernel
theorem dksX3_shinesAt_1 : cX3_shinesAt.data.toList.drop 24 = dktX3_shinesAt_1 := dk_seg dksX3_shinesAt_0 24 rfl rfl
theorem dksX3_shinesAt_2 : cX3_shinesAt.data.toList.drop 48 = dktX3_shinesAt_2 := dk_seg dksX3_shinesAt_1 24 rfl rfl
theorem dX3_shinesAt_0 : decode cX3_shinesAt 0 = .ok (.iconst 0, 1) := dk_3 (dk_at dksX3_shinesAt_0 0 rfl rfl)
theorem dX3_shinesAt_1 : decode cX3_shinesAt 1 = .ok (.istore_n 2, 1) := dk_61 (dk_at dksX3_shinesAt_0 1 rfl rfl)
theorem dX3_shinesAt_2 : decode cX3_shinesAt 2 = .ok (.iload_n 2, 1) := dk_28 (dk_at dksX3_shinesAt_0 2 rfl rfl)
theorem dX3_shinesAt_3 : decode cX3_shinesAt 3 = .ok (.aload_n 0, 1) := dk_42 (dk_at dksX3_shinesAt_0 3 rfl rfl)
theorem dX3_shinesAt_4 : decode cX3_shinesAt 4 = .ok (.getfield 12, 3) := dk_180 0 12 (dk_at dksX3_shinesAt_0 4 rfl rfl)
theorem dX3_shinesAt_7 : decode cX3_shinesAt 7 = .ok (.getfield 41, 3) := dk_180 0 41 (dk_at dksX3_shinesAt_0 7 rfl rfl)
theorem dX3_shinesAt_10 : decode cX3_shinesAt 10 = .ok (.invokevirtual 81, 3) := dk_182 0 81 (dk_at dksX3_shinesAt_0 10 rfl rfl)
theorem dX3_shinesAt_13 : decode cX3_shinesAt 13 = .ok (.if_icmp .ge 35, 3) := dk_162 0 35 (dk_at dksX3_shinesAt_0 13 rfl rfl)
theorem dX3_shinesAt_16 : decode cX3_shinesAt 16 = .ok (.aload_n 0, 1) := dk_42 (dk_at dksX3_shinesAt_0 16 rfl rfl)
theorem dX3_shinesAt_17 : decode cX3_shinesAt 17 = .ok (.getfield 12, 3) := dk_180 0 12 (dk_at dksX3_shinesAt_0 17 rfl rfl)
theorem dX3_shinesAt_20 : decode cX3_shinesAt 20 = .ok (.getfield 41, 3) := dk_180 0 41 (dk_at dksX3_shinesAt_0 20 rfl rfl)
theorem dX3_shinesAt_23 : decode cX3_shinesAt 23 = .ok (.iload_n 2, 1) := dk_28 (dk_at dksX3_shinesAt_0 23 rfl rfl)
theorem dX3_shinesAt_24 : decode cX3_shinesAt 24 = .ok (.invokevirtual 45, 3) := dk_182 0 45 (dk_at dksX3_shinesAt_1 0 rfl rfl)
theorem dX3_shinesAt_27 : decode cX3_shinesAt 27 = .ok (.checkcast 51, 3) := dk_192 0 51 (dk_at dksX3_shinesAt_1 3 rfl rfl)
theorem dX3_shinesAt_30 : decode cX3_shinesAt 30 = .ok (.getfield 94, 3) := dk_180 0 94 (dk_at dksX3_shinesAt_1 6 rfl rfl)
theorem dX3_shinesAt_33 : decode cX3_shinesAt 33 = .ok (.iload_n 1, 1) := dk_27 (dk_at dksX3_shinesAt_1 9 rfl rfl)
theorem dX3_shinesAt_34 : decode cX3_shinesAt 34 = .ok (.if_icmp .ne 8, 3) := dk_160 0 8 (dk_at dksX3_shinesAt_1 10 rfl rfl)
theorem dX3_shinesAt_37 : decode cX3_shinesAt 37 = .ok (.aload_n 0, 1) := dk_42 (dk_at dksX3_shinesAt_1 13 rfl rfl)
theorem dX3_shinesAt_38 : decode cX3_shinesAt 38 = .ok (.iload_n 2, 1) := dk_28 (dk_at dksX3_shinesAt_1 14 rfl rfl)
theorem dX3_shinesAt_39 : decode cX3_shinesAt 39 = .ok (.invokevirtual 84, 3) := dk_182 0 84 (dk_at dksX3_shinesAt_1 15 rfl rfl)
theorem dX3_shinesAt_42 : decode cX3_shinesAt 42 = .ok (.iinc 2 1, 3) := dk_132 2 1 (dk_at dksX3_shinesAt_1 18 rfl rfl)
theorem dX3_shinesAt_45 : decode cX3_shinesAt 45 = .ok (.goto (-43), 3) := dk_167 255 213 (dk_at dksX3_shinesAt_1 21 rfl rfl)
theorem dX3_shinesAt_48 : decode cX3_shinesAt 48 = .ok (.aload_n 0, 1) := dk_42 (dk_at dksX3_shinesAt_2 0 rfl rfl)
theorem dX3_shinesAt_49 : decode cX3_shinesAt 49 = .ok (.iload_n 1, 1) := dk_27 (dk_at dksX3_shinesAt_2 1 rfl rfl)
theorem dX3_shinesAt_50 : decode cX3_shinesAt 50 = .ok (.invokevirtual 91, 3) := dk_182 0 91 (dk_at dksX3_shinesAt_2 2 rfl rfl)
theorem dX3_shinesAt_53 : decode cX3_shinesAt 53 = .ok (.return_, 1) := dk_177 (dk_at dksX3_shinesAt_2 5 rfl rfl)
theorem q80 : (Jvm.Cond.initialized "EelPort$Lit") ∈ lw_all := lw_g (lw_at lw_m1 3 rfl) rfl
theorem q137 : (Jvm.Cond.instantiable "EelPort$Lit" (9 : Nat)) ∈ lw_all := lw_g (lw_at lw_m1 60 rfl) rfl
theorem q139 : (Jvm.Cond.instanceMethod ({ cls := "EelPort$Lit", name := "<init>", desc := "()V" } : Jvm.MethodName)) ∈ lw_all := lw_g (lw_at lw_m1 62 rfl) rfl
theorem q140 : (Jvm.Cond.code ({ cls := "EelPort$Lit", name := "<init>", desc := "()V" } : Jvm.MethodName) prog_9_method_1_code (1 : Nat) (Option.none : Option Jvm.ClassFile.FieldType)) ∈ lw_all := lw_g (lw_at lw_m1 63 rfl) rfl
theorem q141 : (Jvm.Cond.methodLink "EelPort$Lit" (3 : Nat) ({ cls := "java/lang/Object", name := "<init>", desc := "()V" } : Jvm.MethodName)) ∈ lw_all := lw_g (lw_at lw_m1 64 rfl) rfl
theorem q142 : (Jvm.Cond.classLink "EelPort$Lit" (9 : Nat) "EelPort$Port") ∈ lw_all := lw_g (lw_at lw_m1 65 rfl) rfl
theorem q144 : (Jvm.Cond.methodLink "EelPort$Lit" (11 : Nat) ({ cls := "EelPort$Port", name := "<init>", desc := "()V" } : Jvm.MethodName)) ∈ lw_all := lw_g (lw_at lw_m1 67 rfl) rfl
theorem q501 : (Jvm.Cond.fieldLinkNest "EelPort$Lit" (88 : Nat) "EelPort$Port" "quays" "Ljava/util/ArrayList;" "EelPort") ∈ lw_tbl := lw_at lw_m2 184 rfl
theorem q505 : (Jvm.Cond.fieldLinkNest "EelPort$Lit" (41 : Nat) "EelPort$Port" "eels" "Ljava/util/ArrayList;" "EelPort") ∈ lw_tbl := lw_at lw_m2 188 rfl
theorem q512 : (Jvm.Cond.fieldLinkNest "EelPort$Lit" (68 : Nat) "EelPort$Port" "moon" "[I" "EelPort") ∈ lw_tbl := lw_at lw_m2 195 rfl
theorem q548 : (Jvm.Cond.fieldLink "EelPort$Lit" (12 : Nat) "EelPort$Lit" "port" "LEelPort$Port;") ∈ lw_all := lw_g (lw_at lw_m2 231 rfl) rfl
theorem q554 : (Jvm.Cond.fieldLink "EelPort$Lit" (37 : Nat) "EelPort$Lit" "meals" "I") ∈ lw_all := lw_g (lw_at lw_m2 237 rfl) rfl
theorem q556 : (Jvm.Cond.fieldLink "EelPort$Lit" (65 : Nat) "EelPort$Lit" "cold" "I") ∈ lw_all := lw_g (lw_at lw_m2 239 rfl) rfl
theorem q558 : (Jvm.Cond.fieldLink "EelPort$Lit" (18 : Nat) "EelPort$Lit" "eel" "[I") ∈ lw_all := lw_g (lw_at lw_m3 1 rfl) rfl
theorem q560 : (Jvm.Cond.fieldLink "EelPort$Lit" (22 : Nat) "EelPort$Lit" "hour" "[I") ∈ lw_all := lw_g (lw_at lw_m3 3 rfl) rfl
theorem q562 : (Jvm.Cond.fieldLink "EelPort$Lit" (25 : Nat) "EelPort$Lit" "sort" "[I") ∈ lw_all := lw_g (lw_at lw_m3 5 rfl) rfl
theorem q564 : (Jvm.Cond.fieldLink "EelPort$Lit" (28 : Nat) "EelPort$Lit" "hunger" "[I") ∈ lw_all := lw_g (lw_at lw_m3 7 rfl) rfl
theorem q566 : (Jvm.Cond.fieldLink "EelPort$Lit" (31 : Nat) "EelPort$Lit" "glow" "[I") ∈ lw_all := lw_g (lw_at lw_m3 9 rfl) rfl
theorem q568 : (Jvm.Cond.fieldLink "EelPort$Lit" (34 : Nat) "EelPort$Lit" "raw" "[I") ∈ lw_all := lw_g (lw_at lw_m3 11 rfl) rfl
theorem q569 : (Jvm.Cond.lays "EelPort$Lit" "EelPort$Lit" "port" "LEelPort$Port;") ∈ lw_all := lw_g (lw_at lw_m3 12 rfl) rfl
theorem q570 : (Jvm.Cond.soleField "EelPort$Lit" "port") ∈ lw_all := lw_g (lw_at lw_m3 13 rfl) rfl
theorem q571 : (Jvm.Cond.lays "EelPort$Lit" "EelPort$Lit" "meals" "I") ∈ lw_all := lw_g (lw_at lw_m3 14 rfl) rfl
theorem q572 : (Jvm.Cond.soleField "EelPort$Lit" "meals") ∈ lw_all := lw_g (lw_at lw_m3 15 rfl) rfl
theorem q573 : (Jvm.Cond.lays "EelPort$Lit" "EelPort$Lit" "cold" "I") ∈ lw_all := lw_g (lw_at lw_m3 16 rfl) rfl
theorem q574 : (Jvm.Cond.soleField "EelPort$Lit" "cold") ∈ lw_all := lw_g (lw_at lw_m3 17 rfl) rfl
theorem q575 : (Jvm.Cond.laysFinal "EelPort$Lit" "EelPort$Lit" "eel" "[I") ∈ lw_all := lw_g (lw_at lw_m3 18 rfl) rfl
theorem q576 : (Jvm.Cond.soleField "EelPort$Lit" "eel") ∈ lw_all := lw_g (lw_at lw_m3 19 rfl) rfl
theorem q577 : (Jvm.Cond.laysFinal "EelPort$Lit" "EelPort$Lit" "hour" "[I") ∈ lw_all := lw_g (lw_at lw_m3 20 rfl) rfl
theorem q578 : (Jvm.Cond.soleField "EelPort$Lit" "hour") ∈ lw_all := lw_g (lw_at lw_m3 21 rfl) rfl
theorem q579 : (Jvm.Cond.laysFinal "EelPort$Lit" "EelPort$Lit" "sort" "[I") ∈ lw_all := lw_g (lw_at lw_m3 22 rfl) rfl
theorem q580 : (Jvm.Cond.soleField "EelPort$Lit" "sort") ∈ lw_all := lw_g (lw_at lw_m3 23 rfl) rfl
theorem q581 : (Jvm.Cond.laysFinal "EelPort$Lit" "EelPort$Lit" "hunger" "[I") ∈ lw_all := lw_g (lw_at lw_m3 24 rfl) rfl
theorem q582 : (Jvm.Cond.soleField "EelPort$Lit" "hunger") ∈ lw_all := lw_g (lw_at lw_m3 25 rfl) rfl
theorem q583 : (Jvm.Cond.laysFinal "EelPort$Lit" "EelPort$Lit" "glow" "[I") ∈ lw_all := lw_g (lw_at lw_m3 26 rfl) rfl
theorem q584 : (Jvm.Cond.soleField "EelPort$Lit" "glow") ∈ lw_all := lw_g (lw_at lw_m3 27 rfl) rfl
theorem q585 : (Jvm.Cond.laysFinal "EelPort$Lit" "EelPort$Lit" "raw" "[I") ∈ lw_all := lw_g (lw_at lw_m3 28 rfl) rfl
theorem q586 : (Jvm.Cond.soleField "EelPort$Lit" "raw") ∈ lw_all := lw_g (lw_at lw_m3 29 rfl) rfl
theorem q587 : (Jvm.Cond.superclass "EelPort$Lit" "java/lang/Object") ∈ lw_all := lw_g (lw_at lw_m3 30 rfl) rfl
theorem q675 : (Jvm.Cond.instanceMethod ({ cls := "EelPort$Lit", name := "shines", desc := "()V" } : Jvm.MethodName)) ∈ lw_all := lw_g (lw_at lw_m3 118 rfl) rfl
theorem q676 : (Jvm.Cond.selects "EelPort$Lit" ({ cls := "EelPort$Lit", name := "shines", desc := "()V" } : Jvm.MethodName) ({ cls := "EelPort$Lit", name := "shines", desc := "()V" } : Jvm.MethodName)) ∈ lw_all := lw_g (lw_at lw_m3 119 rfl) rfl
theorem q677 : (Jvm.Cond.code ({ cls := "EelPort$Lit", name := "shines", desc := "()V" } : Jvm.MethodName) prog_9_method_4_code (2 : Nat) (Option.none : Option Jvm.ClassFile.FieldType)) ∈ lw_all := lw_g (lw_at lw_m3 120 rfl) rfl
theorem q678 : (Jvm.Cond.methodLink "EelPort$Lit" (81 : Nat) ({ cls := "java/util/ArrayList", name := "size", desc := "()I" } : Jvm.MethodName)) ∈ lw_all := lw_g (lw_at lw_m3 121 rfl) rfl
theorem q682 : (Jvm.Cond.methodLink "EelPort$Lit" (84 : Nat) ({ cls := "EelPort$Lit", name := "eats", desc := "(I)V" } : Jvm.MethodName)) ∈ lw_all := lw_g (lw_at lw_m3 125 rfl) rfl
theorem q683 : (Jvm.Cond.privateMethod ({ cls := "EelPort$Lit", name := "eats", desc := "(I)V" } : Jvm.MethodName)) ∈ lw_tbl := lw_at lw_m3 126 rfl
theorem q684 : (Jvm.Cond.instanceMethod ({ cls := "EelPort$Lit", name := "eats", desc := "(I)V" } : Jvm.MethodName)) ∈ lw_all := lw_g (lw_at lw_m3 127 rfl) rfl
theorem q685 : (Jvm.Cond.code ({ cls := "EelPort$Lit", name := "eats", desc := "(I)V" } : Jvm.MethodName) prog_9_method_3_code (6 : Nat) (Option.none : Option Jvm.ClassFile.FieldType)) ∈ lw_all := lw_g (lw_at lw_m3 128 rfl) rfl
theorem q686 : (Jvm.Cond.methodLink "EelPort$Lit" (45 : Nat) ({ cls := "java/util/ArrayList", name := "get", desc := "(I)Ljava/lang/Object;" } : Jvm.MethodName)) ∈ lw_all := lw_g (lw_at lw_m3 129 rfl) rfl
theorem q700 : (Jvm.Cond.classLink "EelPort$Lit" (51 : Nat) "EelPort$Eel") ∈ lw_all := lw_g (lw_at lw_m3 143 rfl) rfl
theorem q701 : (Jvm.Cond.methodLink "EelPort$Lit" (55 : Nat) ({ cls := "java/lang/Math", name := "max", desc := "(II)I" } : Jvm.MethodName)) ∈ lw_all := lw_g (lw_at lw_m3 144 rfl) rfl
theorem q702 : (Jvm.Cond.methodLink "EelPort$Lit" (61 : Nat) ({ cls := "EelPort$Port", name := "isHooded", desc := "(II)Z" } : Jvm.MethodName)) ∈ lw_all := lw_g (lw_at lw_m3 145 rfl) rfl
theorem q706 : (Jvm.Cond.methodLink "EelPort$Lit" (71 : Nat) ({ cls := "EelPort$Eel", name := "glow", desc := "(III)I" } : Jvm.MethodName)) ∈ lw_all := lw_g (lw_at lw_m3 149 rfl) rfl
theorem q731 : (Jvm.Cond.methodLink "EelPort$Lit" (74 : Nat) ({ cls := "EelPort$Eel", name := "grows", desc := "()I" } : Jvm.MethodName)) ∈ lw_all := lw_g (lw_at lw_m3 174 rfl) rfl
theorem q743 : (Jvm.Cond.methodLink "EelPort$Lit" (78 : Nat) ({ cls := "java/lang/Math", name := "min", desc := "(II)I" } : Jvm.MethodName)) ∈ lw_all := lw_g (lw_at lw_m3 186 rfl) rfl
theorem q744 : (Jvm.Cond.methodLink "EelPort$Lit" (91 : Nat) ({ cls := "EelPort$Lit", name := "shines", desc := "(I)V" } : Jvm.MethodName)) ∈ lw_all := lw_g (lw_at lw_m3 187 rfl) rfl
theorem q745 : (Jvm.Cond.privateMethod ({ cls := "EelPort$Lit", name := "shines", desc := "(I)V" } : Jvm.MethodName)) ∈ lw_tbl := lw_at lw_m3 188 rfl
theorem q746 : (Jvm.Cond.instanceMethod ({ cls := "EelPort$Lit", name := "shines", desc := "(I)V" } : Jvm.MethodName)) ∈ lw_all := lw_g (lw_at lw_m3 189 rfl) rfl
theorem q747 : (Jvm.Cond.code ({ cls := "EelPort$Lit", name := "shines", desc := "(I)V" } : Jvm.MethodName) prog_9_method_6_code (5 : Nat) (Option.none : Option Jvm.ClassFile.FieldType)) ∈ lw_all := lw_g (lw_at lw_m3 190 rfl) rfl
theorem q748 : (Jvm.Cond.classLink "EelPort$Lit" (97 : Nat) "EelPort$Quay") ∈ lw_all := lw_g (lw_at lw_m3 191 rfl) rfl
theorem q769 : (Jvm.Cond.instanceMethod ({ cls := "EelPort$Lit", name := "like", desc := "(LEelPort$Lit;)V" } : Jvm.MethodName)) ∈ lw_all := lw_g (lw_at lw_m3 212 rfl) rfl
theorem q770 : (Jvm.Cond.selects "EelPort$Lit" ({ cls := "EelPort$Lit", name := "like", desc := "(LEelPort$Lit;)V" } : Jvm.MethodName) ({ cls := "EelPort$Lit", name := "like", desc := "(LEelPort$Lit;)V" } : Jvm.MethodName)) ∈ lw_all := lw_g (lw_at lw_m3 213 rfl) rfl
theorem q771 : (Jvm.Cond.code ({ cls := "EelPort$Lit", name := "like", desc := "(LEelPort$Lit;)V" } : Jvm.MethodName) prog_9_method_13_code (2 : Nat) (Option.none : Option Jvm.ClassFile.FieldType)) ∈ lw_all := lw_g (lw_at lw_m3 214 rfl) rfl
theorem q772 : (Jvm.Cond.methodLink "EelPort$Lit" (128 : Nat) ({ cls := "java/lang/System", name := "arraycopy", desc := "(Ljava/lang/Object;ILjava/lang/Object;II)V" } : Jvm.MethodName)) ∈ lw_all := lw_g (lw_at lw_m3 215 rfl) rfl
theorem q920 : (Jvm.Cond.fieldLinkNest "EelPort$Lit" (94 : Nat) "EelPort$Eel" "quay" "I" "EelPort") ∈ lw_tbl := lw_at lw_m4 123 rfl
theorem q926 : (Jvm.Cond.fieldLinkNest "EelPort$Lit" (53 : Nat) "EelPort$Eel" "hunger" "I" "EelPort") ∈ lw_tbl := lw_at lw_m4 129 rfl
theorem q984 : (Jvm.Cond.fieldLink "EelPort$Lit" (112 : Nat) "EelPort$Ship" "quay" "I") ∈ lw_all := lw_g (lw_at lw_m4 187 rfl) rfl
theorem q987 : (Jvm.Cond.fieldLink "EelPort$Lit" (115 : Nat) "EelPort$Ship" "hour" "I") ∈ lw_all := lw_g (lw_at lw_m4 190 rfl) rfl
theorem q1110 : (Jvm.Cond.selects "EelPort$Lit" ({ cls := "java/lang/Object", name := "getClass", desc := "()Ljava/lang/Class;" } : Jvm.MethodName) ({ cls := "java/lang/Object", name := "getClass", desc := "()Ljava/lang/Class;" } : Jvm.MethodName)) ∈ lw_all := lw_g (lw_at lw_m5 73 rfl) rfl
theorem q1166 : (Jvm.Cond.fieldLink "EelPort$Lit" (99 : Nat) "EelPort$Quay" "salt" "I") ∈ lw_all := lw_g (lw_at lw_m5 129 rfl) rfl
theorem q1169 : (Jvm.Cond.fieldLink "EelPort$Lit" (106 : Nat) "EelPort$Quay" "ways" "I") ∈ lw_all := lw_g (lw_at lw_m5 132 rfl) rfl
theorem q1349 : (Jvm.Cond.instanceMethod ({ cls := "EelPort$Lit", name := "adds", desc := "(III)V" } : Jvm.MethodName)) ∈ lw_all := lw_g (lw_at lw_m6 72 rfl) rfl
theorem q1350 : (Jvm.Cond.selects "EelPort$Lit" ({ cls := "EelPort$Lit", name := "adds", desc := "(III)V" } : Jvm.MethodName) ({ cls := "EelPort$Lit", name := "adds", desc := "(III)V" } : Jvm.MethodName)) ∈ lw_all := lw_g (lw_at lw_m6 73 rfl) rfl
theorem q1351 : (Jvm.Cond.code ({ cls := "EelPort$Lit", name := "adds", desc := "(III)V" } : Jvm.MethodName) prog_9_method_2_code (4 : Nat) (Option.none : Option Jvm.ClassFile.FieldType)) ∈ lw_all := lw_g (lw_at lw_m6 74 rfl) rfl
theorem q1384 : (Jvm.Cond.instanceMethod ({ cls := "EelPort$Lit", name := "light", desc := "(II)I" } : Jvm.MethodName)) ∈ lw_all := lw_g (lw_at lw_m6 107 rfl) rfl
theorem q1385 : (Jvm.Cond.selects "EelPort$Lit" ({ cls := "EelPort$Lit", name := "light", desc := "(II)I" } : Jvm.MethodName) ({ cls := "EelPort$Lit", name := "light", desc := "(II)I" } : Jvm.MethodName)) ∈ lw_all := lw_g (lw_at lw_m6 108 rfl) rfl
theorem q1386 : (Jvm.Cond.code ({ cls := "EelPort$Lit", name := "light", desc := "(II)I" } : Jvm.MethodName) prog_9_method_7_code (4 : Nat) (Option.some Jvm.ClassFile.FieldType.int)) ∈ lw_all := lw_g (lw_at lw_m6 109 rfl) rfl
theorem q1387 : (Jvm.Cond.methodLink "EelPort$Lit" (102 : Nat) ({ cls := "EelPort$Quay", name := "lit", desc := "(I)I" } : Jvm.MethodName)) ∈ lw_all := lw_g (lw_at lw_m6 110 rfl) rfl
theorem q1406 : (Jvm.Cond.instanceMethod ({ cls := "EelPort$Lit", name := "at", desc := "(LEelPort$Ship;I)I" } : Jvm.MethodName)) ∈ lw_all := lw_g (lw_at lw_m6 129 rfl) rfl
theorem q1407 : (Jvm.Cond.selects "EelPort$Lit" ({ cls := "EelPort$Lit", name := "at", desc := "(LEelPort$Ship;I)I" } : Jvm.MethodName) ({ cls := "EelPort$Lit", name := "at", desc := "(LEelPort$Ship;I)I" } : Jvm.MethodName)) ∈ lw_all := lw_g (lw_at lw_m6 130 rfl) rfl
theorem q1408 : (Jvm.Cond.code ({ cls := "EelPort$Lit", name := "at", desc := "(LEelPort$Ship;I)I" } : Jvm.MethodName) prog_9_method_11_code (5 : Nat) (Option.some Jvm.ClassFile.FieldType.int)) ∈ lw_all := lw_g (lw_at lw_m6 131 rfl) rfl
theorem q1409 : (Jvm.Cond.methodLink "EelPort$Lit" (117 : Nat) ({ cls := "EelPort$Quay", name := "end", desc := "()I" } : Jvm.MethodName)) ∈ lw_all := lw_g (lw_at lw_m6 132 rfl) rfl
theorem q1421 : (Jvm.Cond.methodLink "EelPort$Lit" (120 : Nat) ({ cls := "EelPort$Ship", name := "goes", desc := "(LEelPort$Lit;II)I" } : Jvm.MethodName)) ∈ lw_all := lw_g (lw_at lw_m6 144 rfl) rfl
theorem q1436 : (Jvm.Cond.instanceMethod ({ cls := "EelPort$Lit", name := "isWay", desc := "(II)Z" } : Jvm.MethodName)) ∈ lw_all := lw_g (lw_at lw_m6 159 rfl) rfl
theorem q1437 : (Jvm.Cond.selects "EelPort$Lit" ({ cls := "EelPort$Lit", name := "isWay", desc := "(II)Z" } : Jvm.MethodName) ({ cls := "EelPort$Lit", name := "isWay", desc := "(II)Z" } : Jvm.MethodName)) ∈ lw_all := lw_g (lw_at lw_m6 160 rfl) rfl
theorem q1438 : (Jvm.Cond.code ({ cls := "EelPort$Lit", name := "isWay", desc := "(II)Z" } : Jvm.MethodName) prog_9_method_8_code (3 : Nat) (Option.some Jvm.ClassFile.FieldType.boolean)) ∈ lw_all := lw_g (lw_at lw_m6 161 rfl) rfl
theorem q1440 : (Jvm.Cond.instanceMethod ({ cls := "EelPort$Lit", name := "isSeen", desc := "(III)Z" } : Jvm.MethodName)) ∈ lw_all := lw_g (lw_at lw_m6 163 rfl) rfl
theorem q1441 : (Jvm.Cond.selects "EelPort$Lit" ({ cls := "EelPort$Lit", name := "isSeen", desc := "(III)Z" } : Jvm.MethodName) ({ cls := "EelPort$Lit", name := "isSeen", desc := "(III)Z" } : Jvm.MethodName)) ∈ lw_all := lw_g (lw_at lw_m6 164 rfl) rfl
theorem q1442 : (Jvm.Cond.code ({ cls := "EelPort$Lit", name := "isSeen", desc := "(III)Z" } : Jvm.MethodName) prog_9_method_9_code (4 : Nat) (Option.some Jvm.ClassFile.FieldType.boolean)) ∈ lw_all := lw_g (lw_at lw_m6 165 rfl) rfl
theorem q1443 : (Jvm.Cond.methodLink "EelPort$Lit" (109 : Nat) ({ cls := "EelPort$Lit", name := "light", desc := "(II)I" } : Jvm.MethodName)) ∈ lw_all := lw_g (lw_at lw_m6 166 rfl) rfl
theorem q1458 : (Jvm.Cond.instanceMethod ({ cls := "EelPort$Lit", name := "hungry", desc := "(II)I" } : Jvm.MethodName)) ∈ lw_all := lw_g (lw_at lw_m6 181 rfl) rfl
theorem q1459 : (Jvm.Cond.selects "EelPort$Lit" ({ cls := "EelPort$Lit", name := "hungry", desc := "(II)I" } : Jvm.MethodName) ({ cls := "EelPort$Lit", name := "hungry", desc := "(II)I" } : Jvm.MethodName)) ∈ lw_all := lw_g (lw_at lw_m6 182 rfl) rfl
theorem q1460 : (Jvm.Cond.code ({ cls := "EelPort$Lit", name := "hungry", desc := "(II)I" } : Jvm.MethodName) prog_9_method_10_code (5 : Nat) (Option.some Jvm.ClassFile.FieldType.int)) ∈ lw_all := lw_g (lw_at lw_m6 183 rfl) rfl
theorem q1475 : (Jvm.Cond.instanceMethod ({ cls := "EelPort$Lit", name := "end", desc := "(LEelPort$Ship;)I" } : Jvm.MethodName)) ∈ lw_all := lw_g (lw_at lw_m6 198 rfl) rfl
theorem q1476 : (Jvm.Cond.selects "EelPort$Lit" ({ cls := "EelPort$Lit", name := "end", desc := "(LEelPort$Ship;)I" } : Jvm.MethodName) ({ cls := "EelPort$Lit", name := "end", desc := "(LEelPort$Ship;)I" } : Jvm.MethodName)) ∈ lw_all := lw_g (lw_at lw_m6 199 rfl) rfl
theorem q1477 : (Jvm.Cond.code ({ cls := "EelPort$Lit", name := "end", desc := "(LEelPort$Ship;)I" } : Jvm.MethodName) prog_9_method_12_code (2 : Nat) (Option.some Jvm.ClassFile.FieldType.int)) ∈ lw_all := lw_g (lw_at lw_m6 200 rfl) rfl
theorem q1478 : (Jvm.Cond.methodLink "EelPort$Lit" (124 : Nat) ({ cls := "EelPort$Lit", name := "at", desc := "(LEelPort$Ship;I)I" } : Jvm.MethodName)) ∈ lw_all := lw_g (lw_at lw_m6 201 rfl) rfl
theorem q1525 : (Jvm.Cond.instanceMethod ({ cls := "EelPort$Lit", name := "shinesAt", desc := "(I)V" } : Jvm.MethodName)) ∈ lw_all := lw_g (lw_at lw_m7 8 rfl) rfl
theorem q1526 : (Jvm.Cond.selects "EelPort$Lit" ({ cls := "EelPort$Lit", name := "shinesAt", desc := "(I)V" } : Jvm.MethodName) ({ cls := "EelPort$Lit", name := "shinesAt", desc := "(I)V" } : Jvm.MethodName)) ∈ lw_all := lw_g (lw_at lw_m7 9 rfl) rfl
theorem q1527 : (Jvm.Cond.code ({ cls := "EelPort$Lit", name := "shinesAt", desc := "(I)V" } : Jvm.MethodName) prog_9_method_5_code (3 : Nat) (Option.none : Option Jvm.ClassFile.FieldType)) ∈ lw_all := lw_g (lw_at lw_m7 10 rfl) rfl
theorem q2199 : (Jvm.Cond.castable "EelPort$Lit" "java/lang/Object") ∈ lw_tbl := lw_at lw_m9 202 rfl
theorem in_X3 : ∀ w ∈ wsX30, w ∈ lw_all := lw_in wsX30 [569, 571, 573, 575, 577, 579, 581, 583, 585] (by decide +kernel) (by decide +kernel)

/-! EelPort$Book -/
set_option maxRecDepth 100000
def RX2 : String := "EelPort$Book"
def TX2 : u_T := fun k => match k with
  | 0 => ("EelPort$Book", "lit", "LEelPort$Lit;", true)
  | 1 => ("EelPort$Book", "quay", "[I", true)
  | 2 => ("EelPort$Book", "hour", "[I", true)
  | 3 => ("EelPort$Book", "light", "[I", true)
  | 4 => ("EelPort$Book", "refused", "[I", true)
  | _ => ("EelPort$Book", "shone", "I", false)
def tyX2 : Nat → FieldType := fun k => match k with
  | 0 => .object "EelPort$Lit"
  | 1 => .array .int
  | 2 => .array .int
  | 3 => .array .int
  | 4 => .array .int
  | _ => .int
abbrev wsX20 : List Cond := u_ws RX2 TX2 6
theorem nmX2 : ∀ a, a < 6 → ∀ b, b < 6 → a ≠ b → (TX2 a).2.1 ≠ (TX2 b).2.1 := by decide +kernel
theorem tyX2_ok : ∀ k, k < 6 → parseFieldDescriptor (TX2 k).2.2.1 = some (tyX2 k) := by decide +kernel
abbrev cX2_init : ByteArray := prog_3_method_1_code
def yX2_init : MethodName := ⟨RX2, "<init>", "()V"⟩
def dkwX2_init_1 : List UInt8 := [16, 12, 188, 10, 181, 0, 22, 42, 16, 12, 188, 10, 181, 0, 25, 42, 6, 188, 10, 181, 0, 28, 177]
abbrev dktX2_init_1 : List UInt8 := dkwX2_init_1 ++ []
def dkwX2_init_0 : List UInt8 := [42, 183, 0, 3, 42, 187, 0, 9, 89, 183, 0, 11, 181, 0, 12, 42, 16, 12, 188, 10, 181, 0, 18, 42]
abbrev dktX2_init_0 : List UInt8 := dkwX2_init_0 ++ dktX2_init_1
theorem dksX2_init_0 : cX2_init.data.toList.drop 0 = dktX2_init_0 := by decide +kernel
theorem dksX2_init_1 : cX2_init.data.toList.drop 24 = dktX2_init_1 := dk_seg dksX2_init_0 24 rfl rfl
theorem dX2_init_0 : decode cX2_init 0 = .ok (.aload_n 0, 1) := dk_42 (dk_at dksX2_init_0 0 rfl rfl)
theorem dX2_init_1 : decode cX2_init 1 = .ok (.invokespecial 3, 3) := dk_183 0 3 (dk_at dksX2_init_0 1 rfl rfl)
theorem dX2_init_4 : decode cX2_init 4 = .ok (.aload_n 0, 1) := dk_42 (dk_at dksX2_init_0 4 rfl rfl)
theorem dX2_init_5 : decode cX2_init 5 = .ok (.new 9, 3) := dk_187 0 9 (dk_at dksX2_init_0 5 rfl rfl)
theorem dX2_init_8 : decode cX2_init 8 = .ok (.dup, 1) := dk_89 (dk_at dksX2_init_0 8 rfl rfl)
theorem dX2_init_9 : decode cX2_init 9 = .ok (.invokespecial 11, 3) := dk_183 0 11 (dk_at dksX2_init_0 9 rfl rfl)
theorem dX2_init_12 : decode cX2_init 12 = .ok (.putfield 12, 3) := dk_181 0 12 (dk_at dksX2_init_0 12 rfl rfl)
theorem dX2_init_15 : decode cX2_init 15 = .ok (.aload_n 0, 1) := dk_42 (dk_at dksX2_init_0 15 rfl rfl)
theorem dX2_init_16 : decode cX2_init 16 = .ok (.bipush 12, 2) := dk_16 12 (dk_at dksX2_init_0 16 rfl rfl)
theorem dX2_init_18 : decode cX2_init 18 = .ok (.newarray .int, 2) := dk_188_10 (dk_at dksX2_init_0 18 rfl rfl)
theorem dX2_init_20 : decode cX2_init 20 = .ok (.putfield 18, 3) := dk_181 0 18 (dk_at dksX2_init_0 20 rfl rfl)
theorem dX2_init_23 : decode cX2_init 23 = .ok (.aload_n 0, 1) := dk_42 (dk_at dksX2_init_0 23 rfl rfl)
theorem dX2_init_24 : decode cX2_init 24 = .ok (.bipush 12, 2) := dk_16 12 (dk_at dksX2_init_1 0 rfl rfl)
theorem dX2_init_26 : decode cX2_init 26 = .ok (.newarray .int, 2) := dk_188_10 (dk_at dksX2_init_1 2 rfl rfl)
theorem dX2_init_28 : decode cX2_init 28 = .ok (.putfield 22, 3) := dk_181 0 22 (dk_at dksX2_init_1 4 rfl rfl)
theorem dX2_init_31 : decode cX2_init 31 = .ok (.aload_n 0, 1) := dk_42 (dk_at dksX2_init_1 7 rfl rfl)
theorem dX2_init_32 : decode cX2_init 32 = .ok (.bipush 12, 2) := dk_16 12 (dk_at dksX2_init_1 8 rfl rfl)
theorem dX2_init_34 : decode cX2_init 34 = .ok (.newarray .int, 2) := dk_188_10 (dk_at dksX2_init_1 10 rfl rfl)
theorem dX2_init_36 : decode cX2_init 36 = .ok (.putfield 25, 3) := dk_181 0 25 (dk_at dksX2_init_1 12 rfl rfl)
theorem dX2_init_39 : decode cX2_init 39 = .ok (.aload_n 0, 1) := dk_42 (dk_at dksX2_init_1 15 rfl rfl)
theorem dX2_init_40 : decode cX2_init 40 = .ok (.iconst 3, 1) := dk_6 (dk_at dksX2_init_1 16 rfl rfl)
theorem dX2_init_41 : decode cX2_init 41 = .ok (.newarray .int, 2) := dk_188_10 (dk_at dksX2_init_1 17 rfl rfl)
theorem dX2_init_43 : decode cX2_init 43 = .ok (.putfield 28, 3) := dk_181 0 28 (dk_at dksX2_init_1 19 rfl rfl)
theorem dX2_init_46 : decode cX2_init 46 = .ok (.return_, 1) := dk_177 (dk_at dksX2_init_1 22 rfl rfl)
abbrev cX2_like : ByteArray := prog_3_method_2_code
def yX2_like : MethodName := ⟨RX2, "like", "(LEelPort$Book;)V"⟩
def dkwX2_like_3 : List UInt8 := [184, 0, 35, 42, 43, 180, 0, 41, 181, 0, 41, 177]
abbrev dktX2_like_3 : List UInt8 := dkwX2_like_3 ++ []
def dkwX2_like_2 : List UInt8 := [180, 0, 25, 3, 16, 12, 184, 0, 35, 43, 180, 0, 28, 3, 42, 180, 0, 28, 3, 42, 180, 0, 28, 190]
abbrev dktX2_like_2 : List UInt8 := dkwX2_like_2 ++ dktX2_like_3
def dkwX2_like_1 : List UInt8 := [184, 0, 35, 43, 180, 0, 22, 3, 42, 180, 0, 22, 3, 16, 12, 184, 0, 35, 43, 180, 0, 25, 3, 42]
abbrev dktX2_like_1 : List UInt8 := dkwX2_like_1 ++ dktX2_like_2
def dkwX2_like_0 : List UInt8 := [42, 180, 0, 12, 43, 180, 0, 12, 182, 0, 31, 43, 180, 0, 18, 3, 42, 180, 0, 18, 3, 16, 12]
abbrev dktX2_like_0 : List UInt8 := dkwX2_like_0 ++ dktX2_like_1
theorem dksX2_like_0 : cX2_like.data.toList.drop 0 = dktX2_like_0 := by decide +kernel
theorem dksX2_like_1 : cX2_like.data.toList.drop 23 = dktX2_like_1 := dk_seg dksX2_like_0 23 rfl rfl
theorem dksX2_like_2 : cX2_like.data.toList.drop 47 = dktX2_like_2 := dk_seg dksX2_like_1 24 rfl rfl
theorem dksX2_like_3 : cX2_like.data.toList.drop 71 = dktX2_like_3 := dk_seg dksX2_like_2 24 rfl rfl
theorem dX2_like_0 : decode cX2_like 0 = .ok (.aload_n 0, 1) := dk_42 (dk_at dksX2_like_0 0 rfl rfl)
theorem dX2_like_1 : decode cX2_like 1 = .ok (.getfield 12, 3) := dk_180 0 12 (dk_at dksX2_like_0 1 rfl rfl)
theorem dX2_like_4 : decode cX2_like 4 = .ok (.aload_n 1, 1) := dk_43 (dk_at dksX2_like_0 4 rfl rfl)
theorem dX2_like_5 : decode cX2_like 5 = .ok (.getfield 12, 3) := dk_180 0 12 (dk_at dksX2_like_0 5 rfl rfl)
theorem dX2_like_8 : decode cX2_like 8 = .ok (.invokevirtual 31, 3) := dk_182 0 31 (dk_at dksX2_like_0 8 rfl rfl)
theorem dX2_like_11 : decode cX2_like 11 = .ok (.aload_n 1, 1) := dk_43 (dk_at dksX2_like_0 11 rfl rfl)
theorem dX2_like_12 : decode cX2_like 12 = .ok (.getfield 18, 3) := dk_180 0 18 (dk_at dksX2_like_0 12 rfl rfl)
theorem dX2_like_15 : decode cX2_like 15 = .ok (.iconst 0, 1) := dk_3 (dk_at dksX2_like_0 15 rfl rfl)
theorem dX2_like_16 : decode cX2_like 16 = .ok (.aload_n 0, 1) := dk_42 (dk_at dksX2_like_0 16 rfl rfl)
theorem dX2_like_17 : decode cX2_like 17 = .ok (.getfield 18, 3) := dk_180 0 18 (dk_at dksX2_like_0 17 rfl rfl)
theorem dX2_like_20 : decode cX2_like 20 = .ok (.iconst 0, 1) := dk_3 (dk_at dksX2_like_0 20 rfl rfl)
theorem dX2_like_21 : decode cX2_like 21 = .ok (.bipush 12, 2) := dk_16 12 (dk_at dksX2_like_0 21 rfl rfl)
theorem dX2_like_23 : decode cX2_like 23 = .ok (.invokestatic 35, 3) := dk_184 0 35 (dk_at dksX2_like_1 0 rfl rfl)
theorem dX2_like_26 : decode cX2_like 26 = .ok (.aload_n 1, 1) := dk_43 (dk_at dksX2_like_1 3 rfl rfl)
theorem dX2_like_27 : decode cX2_like 27 = .ok (.getfield 22, 3) := dk_180 0 22 (dk_at dksX2_like_1 4 rfl rfl)
theorem dX2_like_30 : decode cX2_like 30 = .ok (.iconst 0, 1) := dk_3 (dk_at dksX2_like_1 7 rfl rfl)
theorem dX2_like_31 : decode cX2_like 31 = .ok (.aload_n 0, 1) := dk_42 (dk_at dksX2_like_1 8 rfl rfl)
theorem dX2_like_32 : decode cX2_like 32 = .ok (.getfield 22, 3) := dk_180 0 22 (dk_at dksX2_like_1 9 rfl rfl)
theorem dX2_like_35 : decode cX2_like 35 = .ok (.iconst 0, 1) := dk_3 (dk_at dksX2_like_1 12 rfl rfl)
theorem dX2_like_36 : decode cX2_like 36 = .ok (.bipush 12, 2) := dk_16 12 (dk_at dksX2_like_1 13 rfl rfl)
theorem dX2_like_38 : decode cX2_like 38 = .ok (.invokestatic 35, 3) := dk_184 0 35 (dk_at dksX2_like_1 15 rfl rfl)
theorem dX2_like_41 : decode cX2_like 41 = .ok (.aload_n 1, 1) := dk_43 (dk_at dksX2_like_1 18 rfl rfl)
theorem dX2_like_42 : decode cX2_like 42 = .ok (.getfield 25, 3) := dk_180 0 25 (dk_at dksX2_like_1 19 rfl rfl)
theorem dX2_like_45 : decode cX2_like 45 = .ok (.iconst 0, 1) := dk_3 (dk_at dksX2_like_1 22 rfl rfl)
theorem dX2_like_46 : decode cX2_like 46 = .ok (.aload_n 0, 1) := dk_42 (dk_at dksX2_like_1 23 rfl rfl)
theorem dX2_like_47 : decode cX2_like 47 = .ok (.getfield 25, 3) := dk_180 0 25 (dk_at dksX2_like_2 0 rfl rfl)
theorem dX2_like_50 : decode cX2_like 50 = .ok (.iconst 0, 1) := dk_3 (dk_at dksX2_like_2 3 rfl rfl)
theorem dX2_like_51 : decode cX2_like 51 = .ok (.bipush 12, 2) := dk_16 12 (dk_at dksX2_like_2 4 rfl rfl)
theorem dX2_like_53 : decode cX2_like 53 = .ok (.invokestatic 35, 3) := dk_184 0 35 (dk_at dksX2_like_2 6 rfl rfl)
theorem dX2_like_56 : decode cX2_like 56 = .ok (.aload_n 1, 1) := dk_43 (dk_at dksX2_like_2 9 rfl rfl)
theorem dX2_like_57 : decode cX2_like 57 = .ok (.getfield 28, 3) := dk_180 0 28 (dk_at dksX2_like_2 10 rfl rfl)
theorem dX2_like_60 : decode cX2_like 60 = .ok (.iconst 0, 1) := dk_3 (dk_at dksX2_like_2 13 rfl rfl)
theorem dX2_like_61 : decode cX2_like 61 = .ok (.aload_n 0, 1) := dk_42 (dk_at dksX2_like_2 14 rfl rfl)
theorem dX2_like_62 : decode cX2_like 62 = .ok (.getfield 28, 3) := dk_180 0 28 (dk_at dksX2_like_2 15 rfl rfl)
theorem dX2_like_65 : decode cX2_like 65 = .ok (.iconst 0, 1) := dk_3 (dk_at dksX2_like_2 18 rfl rfl)
theorem dX2_like_66 : decode cX2_like 66 = .ok (.aload_n 0, 1) := dk_42 (dk_at dksX2_like_2 19 rfl rfl)
theorem dX2_like_67 : decode cX2_like 67 = .ok (.getfield 28, 3) := dk_180 0 28 (dk_at dksX2_like_2 20 rfl rfl)
theorem dX2_like_70 : decode cX2_like 70 = .ok (.arraylength, 1) := dk_190 (dk_at dksX2_like_2 23 rfl rfl)
theorem dX2_like_71 : decode cX2_like 71 = .ok (.invokestatic 35, 3) := dk_184 0 35 (dk_at dksX2_like_3 0 rfl rfl)
theorem dX2_like_74 : decode cX2_like 74 = .ok (.aload_n 0, 1) := dk_42 (dk_at dksX2_like_3 3 rfl rfl)
theorem dX2_like_75 : decode cX2_like 75 = .ok (.aload_n 1, 1) := dk_43 (dk_at dksX2_like_3 4 rfl rfl)
theorem dX2_like_76 : decode cX2_like 76 = .ok (.getfield 41, 3) := dk_180 0 41 (dk_at dksX2_like_3 5 rfl rfl)
theorem dX2_like_79 : decode cX2_like 79 = .ok (.putfield 41, 3) := dk_181 0 41 (dk_at dksX2_like_3 8 rfl rfl)
theorem dX2_like_82 : decode cX2_like 82 = .ok (.return_, 1) := dk_177 (dk_at dksX2_like_3 11 rfl rfl)
theorem q79 : (Jvm.Cond.initialized "EelPort$Book") ∈ lw_all := lw_g (lw_at lw_m1 2 rfl) rfl
theorem q131 : (Jvm.Cond.instantiable "EelPort$Book" (6 : Nat)) ∈ lw_all := lw_g (lw_at lw_m1 54 rfl) rfl
theorem q133 : (Jvm.Cond.instanceMethod ({ cls := "EelPort$Book", name := "<init>", desc := "()V" } : Jvm.MethodName)) ∈ lw_all := lw_g (lw_at lw_m1 56 rfl) rfl
theorem q134 : (Jvm.Cond.code ({ cls := "EelPort$Book", name := "<init>", desc := "()V" } : Jvm.MethodName) prog_3_method_1_code (1 : Nat) (Option.none : Option Jvm.ClassFile.FieldType)) ∈ lw_all := lw_g (lw_at lw_m1 57 rfl) rfl
theorem q135 : (Jvm.Cond.methodLink "EelPort$Book" (3 : Nat) ({ cls := "java/lang/Object", name := "<init>", desc := "()V" } : Jvm.MethodName)) ∈ lw_all := lw_g (lw_at lw_m1 58 rfl) rfl
theorem q136 : (Jvm.Cond.classLink "EelPort$Book" (9 : Nat) "EelPort$Lit") ∈ lw_all := lw_g (lw_at lw_m1 59 rfl) rfl
theorem q138 : (Jvm.Cond.methodLinkNest "EelPort$Book" (11 : Nat) ({ cls := "EelPort$Lit", name := "<init>", desc := "()V" } : Jvm.MethodName) "EelPort") ∈ lw_tbl := lw_at lw_m1 61 rfl
theorem q588 : (Jvm.Cond.fieldLink "EelPort$Book" (12 : Nat) "EelPort$Book" "lit" "LEelPort$Lit;") ∈ lw_all := lw_g (lw_at lw_m3 31 rfl) rfl
theorem q590 : (Jvm.Cond.fieldLink "EelPort$Book" (18 : Nat) "EelPort$Book" "quay" "[I") ∈ lw_all := lw_g (lw_at lw_m3 33 rfl) rfl
theorem q592 : (Jvm.Cond.fieldLink "EelPort$Book" (22 : Nat) "EelPort$Book" "hour" "[I") ∈ lw_all := lw_g (lw_at lw_m3 35 rfl) rfl
theorem q594 : (Jvm.Cond.fieldLink "EelPort$Book" (25 : Nat) "EelPort$Book" "light" "[I") ∈ lw_all := lw_g (lw_at lw_m3 37 rfl) rfl
theorem q596 : (Jvm.Cond.fieldLink "EelPort$Book" (28 : Nat) "EelPort$Book" "refused" "[I") ∈ lw_all := lw_g (lw_at lw_m3 39 rfl) rfl
theorem q598 : (Jvm.Cond.fieldLink "EelPort$Book" (41 : Nat) "EelPort$Book" "shone" "I") ∈ lw_all := lw_g (lw_at lw_m3 41 rfl) rfl
theorem q600 : (Jvm.Cond.laysFinal "EelPort$Book" "EelPort$Book" "lit" "LEelPort$Lit;") ∈ lw_all := lw_g (lw_at lw_m3 43 rfl) rfl
theorem q601 : (Jvm.Cond.soleField "EelPort$Book" "lit") ∈ lw_all := lw_g (lw_at lw_m3 44 rfl) rfl
theorem q602 : (Jvm.Cond.laysFinal "EelPort$Book" "EelPort$Book" "quay" "[I") ∈ lw_all := lw_g (lw_at lw_m3 45 rfl) rfl
theorem q603 : (Jvm.Cond.soleField "EelPort$Book" "quay") ∈ lw_all := lw_g (lw_at lw_m3 46 rfl) rfl
theorem q604 : (Jvm.Cond.laysFinal "EelPort$Book" "EelPort$Book" "hour" "[I") ∈ lw_all := lw_g (lw_at lw_m3 47 rfl) rfl
theorem q605 : (Jvm.Cond.soleField "EelPort$Book" "hour") ∈ lw_all := lw_g (lw_at lw_m3 48 rfl) rfl
theorem q606 : (Jvm.Cond.laysFinal "EelPort$Book" "EelPort$Book" "light" "[I") ∈ lw_all := lw_g (lw_at lw_m3 49 rfl) rfl
theorem q607 : (Jvm.Cond.soleField "EelPort$Book" "light") ∈ lw_all := lw_g (lw_at lw_m3 50 rfl) rfl
theorem q608 : (Jvm.Cond.laysFinal "EelPort$Book" "EelPort$Book" "refused" "[I") ∈ lw_all := lw_g (lw_at lw_m3 51 rfl) rfl
theorem q609 : (Jvm.Cond.soleField "EelPort$Book" "refused") ∈ lw_all := lw_g (lw_at lw_m3 52 rfl) rfl
theorem q610 : (Jvm.Cond.lays "EelPort$Book" "EelPort$Book" "shone" "I") ∈ lw_all := lw_g (lw_at lw_m3 53 rfl) rfl
theorem q611 : (Jvm.Cond.soleField "EelPort$Book" "shone") ∈ lw_all := lw_g (lw_at lw_m3 54 rfl) rfl
theorem q612 : (Jvm.Cond.superclass "EelPort$Book" "java/lang/Object") ∈ lw_all := lw_g (lw_at lw_m3 55 rfl) rfl
theorem q765 : (Jvm.Cond.instanceMethod ({ cls := "EelPort$Book", name := "like", desc := "(LEelPort$Book;)V" } : Jvm.MethodName)) ∈ lw_all := lw_g (lw_at lw_m3 208 rfl) rfl
theorem q766 : (Jvm.Cond.selects "EelPort$Book" ({ cls := "EelPort$Book", name := "like", desc := "(LEelPort$Book;)V" } : Jvm.MethodName) ({ cls := "EelPort$Book", name := "like", desc := "(LEelPort$Book;)V" } : Jvm.MethodName)) ∈ lw_all := lw_g (lw_at lw_m3 209 rfl) rfl
theorem q767 : (Jvm.Cond.code ({ cls := "EelPort$Book", name := "like", desc := "(LEelPort$Book;)V" } : Jvm.MethodName) prog_3_method_2_code (2 : Nat) (Option.none : Option Jvm.ClassFile.FieldType)) ∈ lw_all := lw_g (lw_at lw_m3 210 rfl) rfl
theorem q768 : (Jvm.Cond.methodLink "EelPort$Book" (31 : Nat) ({ cls := "EelPort$Lit", name := "like", desc := "(LEelPort$Lit;)V" } : Jvm.MethodName)) ∈ lw_all := lw_g (lw_at lw_m3 211 rfl) rfl
theorem q773 : (Jvm.Cond.methodLink "EelPort$Book" (35 : Nat) ({ cls := "java/lang/System", name := "arraycopy", desc := "(Ljava/lang/Object;ILjava/lang/Object;II)V" } : Jvm.MethodName)) ∈ lw_all := lw_g (lw_at lw_m3 216 rfl) rfl
theorem q1104 : (Jvm.Cond.selects "EelPort$Book" ({ cls := "java/lang/Object", name := "getClass", desc := "()Ljava/lang/Class;" } : Jvm.MethodName) ({ cls := "java/lang/Object", name := "getClass", desc := "()Ljava/lang/Class;" } : Jvm.MethodName)) ∈ lw_all := lw_g (lw_at lw_m5 67 rfl) rfl
theorem q2198 : (Jvm.Cond.castable "EelPort$Book" "java/lang/Object") ∈ lw_tbl := lw_at lw_m9 201 rfl
theorem in_X2 : ∀ w ∈ wsX20, w ∈ lw_all := lw_in wsX20 [600, 602, 604, 606, 608, 610] (by decide +kernel) (by decide +kernel)

/-! EelPort$Reader -/
set_option maxRecDepth 100000
def RX6 : String := "EelPort$Reader"
def TX6 : u_T := fun k => match k with
  | 0 => ("EelPort$Reader", "text", "[B", true)
  | 1 => ("EelPort$Reader", "size", "I", true)
  | 2 => ("EelPort$Reader", "next", "I", false)
  | 3 => ("EelPort$Reader", "place", "I", false)
  | 4 => ("EelPort$Reader", "value", "I", false)
  | 5 => ("EelPort$Reader", "isLong", "Z", false)
  | 6 => ("EelPort$Reader", "sort", "LEelPort$Sort;", false)
  | 7 => ("EelPort$Reader", "word", "Ljava/lang/String;", false)
  | 8 => ("EelPort$Reader", "hasPrice", "Z", false)
  | 9 => ("EelPort$Reader", "hasMoon", "[Z", true)
  | _ => ("EelPort$Reader", "hasCold", "[Z", true)
def tyX6 : Nat → FieldType := fun k => match k with
  | 0 => .array .byte
  | 1 => .int
  | 2 => .int
  | 3 => .int
  | 4 => .int
  | 5 => .boolean
  | 6 => .object "EelPort$Sort"
  | 7 => .object "java/lang/String"
  | 8 => .boolean
  | 9 => .array .boolean
  | _ => .array .boolean
abbrev wsX60 : List Cond := u_ws RX6 TX6 11
theorem nmX6 : ∀ a, a < 11 → ∀ b, b < 11 → a ≠ b → (TX6 a).2.1 ≠ (TX6 b).2.1 := by decide +kernel
theorem tyX6_ok : ∀ k, k < 11 → parseFieldDescriptor (TX6 k).2.2.1 = some (tyX6 k) := by decide +kernel
abbrev cX6_init : ByteArray := prog_16_method_1_code
def yX6_init : MethodName := ⟨RX6, "<init>", "([BI)V"⟩
def dkwX6_init_1 : List UInt8 := [181, 0, 21, 42, 43, 181, 0, 24, 42, 28, 181, 0, 28, 42, 182, 0, 32, 177]
abbrev dktX6_init_1 : List UInt8 := dkwX6_init_1 ++ []
def dkwX6_init_0 : List UInt8 := [42, 183, 0, 3, 42, 18, 9, 181, 0, 11, 42, 16, 24, 188, 4, 181, 0, 17, 42, 16, 10, 188, 4]
abbrev dktX6_init_0 : List UInt8 := dkwX6_init_0 ++ dktX6_init_1
theorem dksX6_init_0 : cX6_init.data.toList.drop 0 = dktX6_init_0 := by decide +kernel
theorem dksX6_init_1 : cX6_init.data.toList.drop 23 = dktX6_init_1 := dk_seg dksX6_init_0 23 rfl rfl
theorem dX6_init_0 : decode cX6_init 0 = .ok (.aload_n 0, 1) := dk_42 (dk_at dksX6_init_0 0 rfl rfl)
theorem dX6_init_1 : decode cX6_init 1 = .ok (.invokespecial 3, 3) := dk_183 0 3 (dk_at dksX6_init_0 1 rfl rfl)
theorem dX6_init_4 : decode cX6_init 4 = .ok (.aload_n 0, 1) := dk_42 (dk_at dksX6_init_0 4 rfl rfl)
theorem dX6_init_5 : decode cX6_init 5 = .ok (.ldc 9, 2) := dk_18 9 (dk_at dksX6_init_0 5 rfl rfl)
theorem dX6_init_7 : decode cX6_init 7 = .ok (.putfield 11, 3) := dk_181 0 11 (dk_at dksX6_init_0 7 rfl rfl)
theorem dX6_init_10 : decode cX6_init 10 = .ok (.aload_n 0, 1) := dk_42 (dk_at dksX6_init_0 10 rfl rfl)
theorem dX6_init_11 : decode cX6_init 11 = .ok (.bipush 24, 2) := dk_16 24 (dk_at dksX6_init_0 11 rfl rfl)
theorem dX6_init_13 : decode cX6_init 13 = .ok (.newarray .boolean, 2) := dk_188_4 (dk_at dksX6_init_0 13 rfl rfl)
theorem dX6_init_15 : decode cX6_init 15 = .ok (.putfield 17, 3) := dk_181 0 17 (dk_at dksX6_init_0 15 rfl rfl)
theorem dX6_init_18 : decode cX6_init 18 = .ok (.aload_n 0, 1) := dk_42 (dk_at dksX6_init_0 18 rfl rfl)
theorem dX6_init_19 : decode cX6_init 19 = .ok (.bipush 10, 2) := dk_16 10 (dk_at dksX6_init_0 19 rfl rfl)
theorem dX6_init_21 : decode cX6_init 21 = .ok (.newarray .boolean, 2) := dk_188_4 (dk_at dksX6_init_0 21 rfl rfl)
theorem dX6_init_23 : decode cX6_init 23 = .ok (.putfield 21, 3) := dk_181 0 21 (dk_at dksX6_init_1 0 rfl rfl)
theorem dX6_init_26 : decode cX6_init 26 = .ok (.aload_n 0, 1) := dk_42 (dk_at dksX6_init_1 3 rfl rfl)
theorem dX6_init_27 : decode cX6_init 27 = .ok (.aload_n 1, 1) := dk_43 (dk_at dksX6_init_1 4 rfl rfl)
theorem dX6_init_28 : decode cX6_init 28 = .ok (.putfield 24, 3) := dk_181 0 24 (dk_at dksX6_init_1 5 rfl rfl)
theorem dX6_init_31 : decode cX6_init 31 = .ok (.aload_n 0, 1) := dk_42 (dk_at dksX6_init_1 8 rfl rfl)
theorem dX6_init_32 : decode cX6_init 32 = .ok (.iload_n 2, 1) := dk_28 (dk_at dksX6_init_1 9 rfl rfl)
theorem dX6_init_33 : decode cX6_init 33 = .ok (.putfield 28, 3) := dk_181 0 28 (dk_at dksX6_init_1 10 rfl rfl)
theorem dX6_init_36 : decode cX6_init 36 = .ok (.aload_n 0, 1) := dk_42 (dk_at dksX6_init_1 13 rfl rfl)
theorem dX6_init_37 : decode cX6_init 37 = .ok (.invokevirtual 32, 3) := dk_182 0 32 (dk_at dksX6_init_1 14 rfl rfl)
theorem dX6_init_40 : decode cX6_init 40 = .ok (.return_, 1) := dk_177 (dk_at dksX6_init_1 17 rfl rfl)
abbrev cX6_go : ByteArray := prog_16_method_5_code
def yX6_go : MethodName := ⟨RX6, "go", "()V"⟩
def dkwX6_go_14 : List UInt8 := [181, 0, 11, 42, 89, 180, 0, 35, 4, 96, 181, 0, 35, 177]
abbrev dktX6_go_14 : List UInt8 := dkwX6_go_14 ++ []
def dkwX6_go_13 : List UInt8 := [167, 0, 6, 178, 0, 94, 181, 0, 55, 42, 180, 0, 55, 178, 0, 91, 166, 0, 9, 42, 18, 97]
abbrev dktX6_go_13 : List UInt8 := dkwX6_go_13 ++ dktX6_go_14
def dkwX6_go_12 : List UInt8 := [3, 181, 0, 45, 42, 178, 0, 88, 181, 0, 55, 167, 0, 48, 42, 27, 16, 59, 160, 0, 9, 178, 0, 91]
abbrev dktX6_go_12 : List UInt8 := dkwX6_go_12 ++ dktX6_go_13
def dkwX6_go_11 : List UInt8 := [181, 0, 35, 167, 255, 196, 42, 42, 180, 0, 35, 42, 180, 0, 42, 100, 6, 164, 0, 7, 4, 167, 0, 4]
abbrev dktX6_go_11 : List UInt8 := dkwX6_go_11 ++ dktX6_go_12
def dkwX6_go_10 : List UInt8 := [42, 42, 180, 0, 35, 182, 0, 38, 96, 16, 48, 100, 181, 0, 85, 42, 89, 180, 0, 35, 4, 96]
abbrev dktX6_go_10 : List UInt8 := dkwX6_go_10 ++ dktX6_go_11
def dkwX6_go_9 : List UInt8 := [153, 0, 52, 42, 180, 0, 35, 42, 180, 0, 42, 100, 6, 162, 0, 26, 42, 16, 10, 42, 180, 0, 85, 104]
abbrev dktX6_go_9 : List UInt8 := dkwX6_go_9 ++ dktX6_go_10
def dkwX6_go_8 : List UInt8 := [184, 0, 82, 153, 0, 103, 42, 3, 181, 0, 85, 42, 42, 180, 0, 35, 182, 0, 38, 184, 0, 82]
abbrev dktX6_go_8 : List UInt8 := dkwX6_go_8 ++ dktX6_go_9
def dkwX6_go_7 : List UInt8 := [167, 255, 209, 42, 44, 182, 0, 75, 181, 0, 11, 42, 178, 0, 79, 181, 0, 55, 167, 0, 155, 27]
abbrev dktX6_go_7 : List UInt8 := dkwX6_go_7 ++ dktX6_go_8
def dkwX6_go_6 : List UInt8 := [42, 180, 0, 35, 182, 0, 38, 146, 182, 0, 71, 87, 42, 89, 180, 0, 35, 4, 96, 181, 0, 35]
abbrev dktX6_go_6 : List UInt8 := dkwX6_go_6 ++ dktX6_go_7
def dkwX6_go_5 : List UInt8 := [42, 180, 0, 35, 182, 0, 38, 184, 0, 58, 153, 0, 39, 44, 182, 0, 67, 16, 9, 162, 0, 17, 44, 42]
abbrev dktX6_go_5 : List UInt8 := dkwX6_go_5 ++ dktX6_go_6
def dkwX6_go_4 : List UInt8 := [181, 0, 55, 167, 0, 240, 27, 184, 0, 58, 153, 0, 81, 187, 0, 62, 89, 16, 9, 183, 0, 64, 77, 42]
abbrev dktX6_go_4 : List UInt8 := dkwX6_go_4 ++ dktX6_go_5
def dkwX6_go_3 : List UInt8 := [180, 0, 35, 182, 0, 38, 60, 42, 180, 0, 35, 42, 180, 0, 28, 161, 0, 13, 42, 178, 0, 49]
abbrev dktX6_go_3 : List UInt8 := dkwX6_go_3 ++ dktX6_go_4
def dkwX6_go_2 : List UInt8 := [167, 255, 209, 42, 42, 180, 0, 35, 181, 0, 42, 42, 18, 9, 181, 0, 11, 42, 3, 181, 0, 45, 42, 42]
abbrev dktX6_go_2 : List UInt8 := dkwX6_go_2 ++ dktX6_go_3
def dkwX6_go_1 : List UInt8 := [42, 42, 180, 0, 35, 182, 0, 38, 16, 10, 160, 0, 16, 42, 89, 180, 0, 35, 4, 96, 181, 0, 35]
abbrev dktX6_go_1 : List UInt8 := dkwX6_go_1 ++ dktX6_go_2
def dkwX6_go_0 : List UInt8 := [42, 180, 0, 35, 42, 180, 0, 28, 162, 0, 42, 42, 42, 180, 0, 35, 182, 0, 38, 16, 32, 159, 0, 16]
abbrev dktX6_go_0 : List UInt8 := dkwX6_go_0 ++ dktX6_go_1
theorem dksX6_go_0 : cX6_go.data.toList.drop 0 = dktX6_go_0 := by decide +kernel
theorem dksX6_go_1 : cX6_go.data.toList.drop 24 = dktX6_go_1 := dk_seg dksX6_go_0 24 rfl rfl
theorem dksX6_go_2 : cX6_go.data.toList.drop 47 = dktX6_go_2 := dk_seg dksX6_go_1 23 rfl rfl
theorem dksX6_go_3 : cX6_go.data.toList.drop 71 = dktX6_go_3 := dk_seg dksX6_go_2 24 rfl rfl
theorem dksX6_go_4 : cX6_go.data.toList.drop 93 = dktX6_go_4 := dk_seg dksX6_go_3 22 rfl rfl
theorem dksX6_go_5 : cX6_go.data.toList.drop 117 = dktX6_go_5 := dk_seg dksX6_go_4 24 rfl rfl
theorem dksX6_go_6 : cX6_go.data.toList.drop 141 = dktX6_go_6 := dk_seg dksX6_go_5 24 rfl rfl
theorem dksX6_go_7 : cX6_go.data.toList.drop 163 = dktX6_go_7 := dk_seg dksX6_go_6 22 rfl rfl
theorem dksX6_go_8 : cX6_go.data.toList.drop 185 = dktX6_go_8 := dk_seg dksX6_go_7 22 rfl rfl
theorem dksX6_go_9 : cX6_go.data.toList.drop 207 = dktX6_go_9 := dk_seg dksX6_go_8 22 rfl rfl
theorem dksX6_go_10 : cX6_go.data.toList.drop 231 = dktX6_go_10 := dk_seg dksX6_go_9 24 rfl rfl
theorem dksX6_go_11 : cX6_go.data.toList.drop 253 = dktX6_go_11 := dk_seg dksX6_go_10 22 rfl rfl
theorem dksX6_go_12 : cX6_go.data.toList.drop 277 = dktX6_go_12 := dk_seg dksX6_go_11 24 rfl rfl
theorem dksX6_go_13 : cX6_go.data.toList.drop 301 = dktX6_go_13 := dk_seg dksX6_go_12 24 rfl rfl
theorem dksX6_go_14 : cX6_go.data.toList.drop 323 = dktX6_go_14 := dk_seg dksX6_go_13 22 rfl rfl
theorem dX6_go_0 : decode cX6_go 0 = .ok (.aload_n 0, 1) := dk_42 (dk_at dksX6_go_0 0 rfl rfl)
theorem dX6_go_1 : decode cX6_go 1 = .ok (.getfield 35, 3) := dk_180 0 35 (dk_at dksX6_go_0 1 rfl rfl)
theorem dX6_go_4 : decode cX6_go 4 = .ok (.aload_n 0, 1) := dk_42 (dk_at dksX6_go_0 4 rfl rfl)
theorem dX6_go_5 : decode cX6_go 5 = .ok (.getfield 28, 3) := dk_180 0 28 (dk_at dksX6_go_0 5 rfl rfl)
theorem dX6_go_8 : decode cX6_go 8 = .ok (.if_icmp .ge 42, 3) := dk_162 0 42 (dk_at dksX6_go_0 8 rfl rfl)
theorem dX6_go_11 : decode cX6_go 11 = .ok (.aload_n 0, 1) := dk_42 (dk_at dksX6_go_0 11 rfl rfl)
theorem dX6_go_12 : decode cX6_go 12 = .ok (.aload_n 0, 1) := dk_42 (dk_at dksX6_go_0 12 rfl rfl)
theorem dX6_go_13 : decode cX6_go 13 = .ok (.getfield 35, 3) := dk_180 0 35 (dk_at dksX6_go_0 13 rfl rfl)
theorem dX6_go_16 : decode cX6_go 16 = .ok (.invokevirtual 38, 3) := dk_182 0 38 (dk_at dksX6_go_0 16 rfl rfl)
theorem dX6_go_19 : decode cX6_go 19 = .ok (.bipush 32, 2) := dk_16 32 (dk_at dksX6_go_0 19 rfl rfl)
theorem dX6_go_21 : decode cX6_go 21 = .ok (.if_icmp .eq 16, 3) := dk_159 0 16 (dk_at dksX6_go_0 21 rfl rfl)
theorem dX6_go_24 : decode cX6_go 24 = .ok (.aload_n 0, 1) := dk_42 (dk_at dksX6_go_1 0 rfl rfl)
theorem dX6_go_25 : decode cX6_go 25 = .ok (.aload_n 0, 1) := dk_42 (dk_at dksX6_go_1 1 rfl rfl)
theorem dX6_go_26 : decode cX6_go 26 = .ok (.getfield 35, 3) := dk_180 0 35 (dk_at dksX6_go_1 2 rfl rfl)
theorem dX6_go_29 : decode cX6_go 29 = .ok (.invokevirtual 38, 3) := dk_182 0 38 (dk_at dksX6_go_1 5 rfl rfl)
theorem dX6_go_32 : decode cX6_go 32 = .ok (.bipush 10, 2) := dk_16 10 (dk_at dksX6_go_1 8 rfl rfl)
theorem dX6_go_34 : decode cX6_go 34 = .ok (.if_icmp .ne 16, 3) := dk_160 0 16 (dk_at dksX6_go_1 10 rfl rfl)
theorem dX6_go_37 : decode cX6_go 37 = .ok (.aload_n 0, 1) := dk_42 (dk_at dksX6_go_1 13 rfl rfl)
theorem dX6_go_38 : decode cX6_go 38 = .ok (.dup, 1) := dk_89 (dk_at dksX6_go_1 14 rfl rfl)
theorem dX6_go_39 : decode cX6_go 39 = .ok (.getfield 35, 3) := dk_180 0 35 (dk_at dksX6_go_1 15 rfl rfl)
theorem dX6_go_42 : decode cX6_go 42 = .ok (.iconst 1, 1) := dk_4 (dk_at dksX6_go_1 18 rfl rfl)
theorem dX6_go_43 : decode cX6_go 43 = .ok (.iadd, 1) := dk_96 (dk_at dksX6_go_1 19 rfl rfl)
theorem dX6_go_44 : decode cX6_go 44 = .ok (.putfield 35, 3) := dk_181 0 35 (dk_at dksX6_go_1 20 rfl rfl)
theorem dX6_go_47 : decode cX6_go 47 = .ok (.goto (-47), 3) := dk_167 255 209 (dk_at dksX6_go_2 0 rfl rfl)
theorem dX6_go_50 : decode cX6_go 50 = .ok (.aload_n 0, 1) := dk_42 (dk_at dksX6_go_2 3 rfl rfl)
theorem dX6_go_51 : decode cX6_go 51 = .ok (.aload_n 0, 1) := dk_42 (dk_at dksX6_go_2 4 rfl rfl)
theorem dX6_go_52 : decode cX6_go 52 = .ok (.getfield 35, 3) := dk_180 0 35 (dk_at dksX6_go_2 5 rfl rfl)
theorem dX6_go_55 : decode cX6_go 55 = .ok (.putfield 42, 3) := dk_181 0 42 (dk_at dksX6_go_2 8 rfl rfl)
theorem dX6_go_58 : decode cX6_go 58 = .ok (.aload_n 0, 1) := dk_42 (dk_at dksX6_go_2 11 rfl rfl)
theorem dX6_go_59 : decode cX6_go 59 = .ok (.ldc 9, 2) := dk_18 9 (dk_at dksX6_go_2 12 rfl rfl)
theorem dX6_go_61 : decode cX6_go 61 = .ok (.putfield 11, 3) := dk_181 0 11 (dk_at dksX6_go_2 14 rfl rfl)
theorem dX6_go_64 : decode cX6_go 64 = .ok (.aload_n 0, 1) := dk_42 (dk_at dksX6_go_2 17 rfl rfl)
theorem dX6_go_65 : decode cX6_go 65 = .ok (.iconst 0, 1) := dk_3 (dk_at dksX6_go_2 18 rfl rfl)
theorem dX6_go_66 : decode cX6_go 66 = .ok (.putfield 45, 3) := dk_181 0 45 (dk_at dksX6_go_2 19 rfl rfl)
theorem dX6_go_69 : decode cX6_go 69 = .ok (.aload_n 0, 1) := dk_42 (dk_at dksX6_go_2 22 rfl rfl)
theorem dX6_go_70 : decode cX6_go 70 = .ok (.aload_n 0, 1) := dk_42 (dk_at dksX6_go_2 23 rfl rfl)
theorem dX6_go_71 : decode cX6_go 71 = .ok (.getfield 35, 3) := dk_180 0 35 (dk_at dksX6_go_3 0 rfl rfl)
theorem dX6_go_74 : decode cX6_go 74 = .ok (.invokevirtual 38, 3) := dk_182 0 38 (dk_at dksX6_go_3 3 rfl rfl)
theorem dX6_go_77 : decode cX6_go 77 = .ok (.istore_n 1, 1) := dk_60 (dk_at dksX6_go_3 6 rfl rfl)
theorem dX6_go_78 : decode cX6_go 78 = .ok (.aload_n 0, 1) := dk_42 (dk_at dksX6_go_3 7 rfl rfl)
theorem dX6_go_79 : decode cX6_go 79 = .ok (.getfield 35, 3) := dk_180 0 35 (dk_at dksX6_go_3 8 rfl rfl)
theorem dX6_go_82 : decode cX6_go 82 = .ok (.aload_n 0, 1) := dk_42 (dk_at dksX6_go_3 11 rfl rfl)
theorem dX6_go_83 : decode cX6_go 83 = .ok (.getfield 28, 3) := dk_180 0 28 (dk_at dksX6_go_3 12 rfl rfl)
theorem dX6_go_86 : decode cX6_go 86 = .ok (.if_icmp .lt 13, 3) := dk_161 0 13 (dk_at dksX6_go_3 15 rfl rfl)
theorem dX6_go_89 : decode cX6_go 89 = .ok (.aload_n 0, 1) := dk_42 (dk_at dksX6_go_3 18 rfl rfl)
theorem dX6_go_90 : decode cX6_go 90 = .ok (.getstatic 49, 3) := dk_178 0 49 (dk_at dksX6_go_3 19 rfl rfl)
theorem dX6_go_93 : decode cX6_go 93 = .ok (.putfield 55, 3) := dk_181 0 55 (dk_at dksX6_go_4 0 rfl rfl)
theorem dX6_go_96 : decode cX6_go 96 = .ok (.goto 240, 3) := dk_167 0 240 (dk_at dksX6_go_4 3 rfl rfl)
theorem dX6_go_99 : decode cX6_go 99 = .ok (.iload_n 1, 1) := dk_27 (dk_at dksX6_go_4 6 rfl rfl)
theorem dX6_go_100 : decode cX6_go 100 = .ok (.invokestatic 58, 3) := dk_184 0 58 (dk_at dksX6_go_4 7 rfl rfl)
theorem dX6_go_103 : decode cX6_go 103 = .ok (.ifCond .eq 81, 3) := dk_153 0 81 (dk_at dksX6_go_4 10 rfl rfl)
theorem dX6_go_106 : decode cX6_go 106 = .ok (.new 62, 3) := dk_187 0 62 (dk_at dksX6_go_4 13 rfl rfl)
theorem dX6_go_109 : decode cX6_go 109 = .ok (.dup, 1) := dk_89 (dk_at dksX6_go_4 16 rfl rfl)
theorem dX6_go_110 : decode cX6_go 110 = .ok (.bipush 9, 2) := dk_16 9 (dk_at dksX6_go_4 17 rfl rfl)
theorem dX6_go_112 : decode cX6_go 112 = .ok (.invokespecial 64, 3) := dk_183 0 64 (dk_at dksX6_go_4 19 rfl rfl)
theorem dX6_go_115 : decode cX6_go 115 = .ok (.astore_n 2, 1) := dk_77 (dk_at dksX6_go_4 22 rfl rfl)
theorem dX6_go_116 : decode cX6_go 116 = .ok (.aload_n 0, 1) := dk_42 (dk_at dksX6_go_4 23 rfl rfl)
theorem dX6_go_117 : decode cX6_go 117 = .ok (.aload_n 0, 1) := dk_42 (dk_at dksX6_go_5 0 rfl rfl)
theorem dX6_go_118 : decode cX6_go 118 = .ok (.getfield 35, 3) := dk_180 0 35 (dk_at dksX6_go_5 1 rfl rfl)
theorem dX6_go_121 : decode cX6_go 121 = .ok (.invokevirtual 38, 3) := dk_182 0 38 (dk_at dksX6_go_5 4 rfl rfl)
theorem dX6_go_124 : decode cX6_go 124 = .ok (.invokestatic 58, 3) := dk_184 0 58 (dk_at dksX6_go_5 7 rfl rfl)
theorem dX6_go_127 : decode cX6_go 127 = .ok (.ifCond .eq 39, 3) := dk_153 0 39 (dk_at dksX6_go_5 10 rfl rfl)
theorem dX6_go_130 : decode cX6_go 130 = .ok (.aload_n 2, 1) := dk_44 (dk_at dksX6_go_5 13 rfl rfl)
theorem dX6_go_131 : decode cX6_go 131 = .ok (.invokevirtual 67, 3) := dk_182 0 67 (dk_at dksX6_go_5 14 rfl rfl)
theorem dX6_go_134 : decode cX6_go 134 = .ok (.bipush 9, 2) := dk_16 9 (dk_at dksX6_go_5 17 rfl rfl)
theorem dX6_go_136 : decode cX6_go 136 = .ok (.if_icmp .ge 17, 3) := dk_162 0 17 (dk_at dksX6_go_5 19 rfl rfl)
theorem dX6_go_139 : decode cX6_go 139 = .ok (.aload_n 2, 1) := dk_44 (dk_at dksX6_go_5 22 rfl rfl)
theorem dX6_go_140 : decode cX6_go 140 = .ok (.aload_n 0, 1) := dk_42 (dk_at dksX6_go_5 23 rfl rfl)
theorem dX6_go_141 : decode cX6_go 141 = .ok (.aload_n 0, 1) := dk_42 (dk_at dksX6_go_6 0 rfl rfl)
theorem dX6_go_142 : decode cX6_go 142 = .ok (.getfield 35, 3) := dk_180 0 35 (dk_at dksX6_go_6 1 rfl rfl)
theorem dX6_go_145 : decode cX6_go 145 = .ok (.invokevirtual 38, 3) := dk_182 0 38 (dk_at dksX6_go_6 4 rfl rfl)
theorem dX6_go_148 : decode cX6_go 148 = .ok (.i2c, 1) := dk_146 (dk_at dksX6_go_6 7 rfl rfl)
theorem dX6_go_149 : decode cX6_go 149 = .ok (.invokevirtual 71, 3) := dk_182 0 71 (dk_at dksX6_go_6 8 rfl rfl)
theorem dX6_go_152 : decode cX6_go 152 = .ok (.pop, 1) := dk_87 (dk_at dksX6_go_6 11 rfl rfl)
theorem dX6_go_153 : decode cX6_go 153 = .ok (.aload_n 0, 1) := dk_42 (dk_at dksX6_go_6 12 rfl rfl)
theorem dX6_go_154 : decode cX6_go 154 = .ok (.dup, 1) := dk_89 (dk_at dksX6_go_6 13 rfl rfl)
theorem dX6_go_155 : decode cX6_go 155 = .ok (.getfield 35, 3) := dk_180 0 35 (dk_at dksX6_go_6 14 rfl rfl)
theorem dX6_go_158 : decode cX6_go 158 = .ok (.iconst 1, 1) := dk_4 (dk_at dksX6_go_6 17 rfl rfl)
theorem dX6_go_159 : decode cX6_go 159 = .ok (.iadd, 1) := dk_96 (dk_at dksX6_go_6 18 rfl rfl)
theorem dX6_go_160 : decode cX6_go 160 = .ok (.putfield 35, 3) := dk_181 0 35 (dk_at dksX6_go_6 19 rfl rfl)
theorem dX6_go_163 : decode cX6_go 163 = .ok (.goto (-47), 3) := dk_167 255 209 (dk_at dksX6_go_7 0 rfl rfl)
theorem dX6_go_166 : decode cX6_go 166 = .ok (.aload_n 0, 1) := dk_42 (dk_at dksX6_go_7 3 rfl rfl)
theorem dX6_go_167 : decode cX6_go 167 = .ok (.aload_n 2, 1) := dk_44 (dk_at dksX6_go_7 4 rfl rfl)
theorem dX6_go_168 : decode cX6_go 168 = .ok (.invokevirtual 75, 3) := dk_182 0 75 (dk_at dksX6_go_7 5 rfl rfl)
theorem dX6_go_171 : decode cX6_go 171 = .ok (.putfield 11, 3) := dk_181 0 11 (dk_at dksX6_go_7 8 rfl rfl)
theorem dX6_go_174 : decode cX6_go 174 = .ok (.aload_n 0, 1) := dk_42 (dk_at dksX6_go_7 11 rfl rfl)
theorem dX6_go_175 : decode cX6_go 175 = .ok (.getstatic 79, 3) := dk_178 0 79 (dk_at dksX6_go_7 12 rfl rfl)
theorem dX6_go_178 : decode cX6_go 178 = .ok (.putfield 55, 3) := dk_181 0 55 (dk_at dksX6_go_7 15 rfl rfl)
theorem dX6_go_181 : decode cX6_go 181 = .ok (.goto 155, 3) := dk_167 0 155 (dk_at dksX6_go_7 18 rfl rfl)
theorem dX6_go_184 : decode cX6_go 184 = .ok (.iload_n 1, 1) := dk_27 (dk_at dksX6_go_7 21 rfl rfl)
theorem dX6_go_185 : decode cX6_go 185 = .ok (.invokestatic 82, 3) := dk_184 0 82 (dk_at dksX6_go_8 0 rfl rfl)
theorem dX6_go_188 : decode cX6_go 188 = .ok (.ifCond .eq 103, 3) := dk_153 0 103 (dk_at dksX6_go_8 3 rfl rfl)
theorem dX6_go_191 : decode cX6_go 191 = .ok (.aload_n 0, 1) := dk_42 (dk_at dksX6_go_8 6 rfl rfl)
theorem dX6_go_192 : decode cX6_go 192 = .ok (.iconst 0, 1) := dk_3 (dk_at dksX6_go_8 7 rfl rfl)
theorem dX6_go_193 : decode cX6_go 193 = .ok (.putfield 85, 3) := dk_181 0 85 (dk_at dksX6_go_8 8 rfl rfl)
theorem dX6_go_196 : decode cX6_go 196 = .ok (.aload_n 0, 1) := dk_42 (dk_at dksX6_go_8 11 rfl rfl)
theorem dX6_go_197 : decode cX6_go 197 = .ok (.aload_n 0, 1) := dk_42 (dk_at dksX6_go_8 12 rfl rfl)
theorem dX6_go_198 : decode cX6_go 198 = .ok (.getfield 35, 3) := dk_180 0 35 (dk_at dksX6_go_8 13 rfl rfl)
theorem dX6_go_201 : decode cX6_go 201 = .ok (.invokevirtual 38, 3) := dk_182 0 38 (dk_at dksX6_go_8 16 rfl rfl)
theorem dX6_go_204 : decode cX6_go 204 = .ok (.invokestatic 82, 3) := dk_184 0 82 (dk_at dksX6_go_8 19 rfl rfl)
theorem dX6_go_207 : decode cX6_go 207 = .ok (.ifCond .eq 52, 3) := dk_153 0 52 (dk_at dksX6_go_9 0 rfl rfl)
theorem dX6_go_210 : decode cX6_go 210 = .ok (.aload_n 0, 1) := dk_42 (dk_at dksX6_go_9 3 rfl rfl)
theorem dX6_go_211 : decode cX6_go 211 = .ok (.getfield 35, 3) := dk_180 0 35 (dk_at dksX6_go_9 4 rfl rfl)
theorem dX6_go_214 : decode cX6_go 214 = .ok (.aload_n 0, 1) := dk_42 (dk_at dksX6_go_9 7 rfl rfl)
theorem dX6_go_215 : decode cX6_go 215 = .ok (.getfield 42, 3) := dk_180 0 42 (dk_at dksX6_go_9 8 rfl rfl)
theorem dX6_go_218 : decode cX6_go 218 = .ok (.isub, 1) := dk_100 (dk_at dksX6_go_9 11 rfl rfl)
theorem dX6_go_219 : decode cX6_go 219 = .ok (.iconst 3, 1) := dk_6 (dk_at dksX6_go_9 12 rfl rfl)
theorem dX6_go_220 : decode cX6_go 220 = .ok (.if_icmp .ge 26, 3) := dk_162 0 26 (dk_at dksX6_go_9 13 rfl rfl)
theorem dX6_go_223 : decode cX6_go 223 = .ok (.aload_n 0, 1) := dk_42 (dk_at dksX6_go_9 16 rfl rfl)
theorem dX6_go_224 : decode cX6_go 224 = .ok (.bipush 10, 2) := dk_16 10 (dk_at dksX6_go_9 17 rfl rfl)
theorem dX6_go_226 : decode cX6_go 226 = .ok (.aload_n 0, 1) := dk_42 (dk_at dksX6_go_9 19 rfl rfl)
theorem dX6_go_227 : decode cX6_go 227 = .ok (.getfield 85, 3) := dk_180 0 85 (dk_at dksX6_go_9 20 rfl rfl)
theorem dX6_go_230 : decode cX6_go 230 = .ok (.imul, 1) := dk_104 (dk_at dksX6_go_9 23 rfl rfl)
theorem dX6_go_231 : decode cX6_go 231 = .ok (.aload_n 0, 1) := dk_42 (dk_at dksX6_go_10 0 rfl rfl)
theorem dX6_go_232 : decode cX6_go 232 = .ok (.aload_n 0, 1) := dk_42 (dk_at dksX6_go_10 1 rfl rfl)
theorem dX6_go_233 : decode cX6_go 233 = .ok (.getfield 35, 3) := dk_180 0 35 (dk_at dksX6_go_10 2 rfl rfl)
theorem dX6_go_236 : decode cX6_go 236 = .ok (.invokevirtual 38, 3) := dk_182 0 38 (dk_at dksX6_go_10 5 rfl rfl)
theorem dX6_go_239 : decode cX6_go 239 = .ok (.iadd, 1) := dk_96 (dk_at dksX6_go_10 8 rfl rfl)
theorem dX6_go_240 : decode cX6_go 240 = .ok (.bipush 48, 2) := dk_16 48 (dk_at dksX6_go_10 9 rfl rfl)
theorem dX6_go_242 : decode cX6_go 242 = .ok (.isub, 1) := dk_100 (dk_at dksX6_go_10 11 rfl rfl)
theorem dX6_go_243 : decode cX6_go 243 = .ok (.putfield 85, 3) := dk_181 0 85 (dk_at dksX6_go_10 12 rfl rfl)
theorem dX6_go_246 : decode cX6_go 246 = .ok (.aload_n 0, 1) := dk_42 (dk_at dksX6_go_10 15 rfl rfl)
theorem dX6_go_247 : decode cX6_go 247 = .ok (.dup, 1) := dk_89 (dk_at dksX6_go_10 16 rfl rfl)
theorem dX6_go_248 : decode cX6_go 248 = .ok (.getfield 35, 3) := dk_180 0 35 (dk_at dksX6_go_10 17 rfl rfl)
theorem dX6_go_251 : decode cX6_go 251 = .ok (.iconst 1, 1) := dk_4 (dk_at dksX6_go_10 20 rfl rfl)
theorem dX6_go_252 : decode cX6_go 252 = .ok (.iadd, 1) := dk_96 (dk_at dksX6_go_10 21 rfl rfl)
theorem dX6_go_253 : decode cX6_go 253 = .ok (.putfield 35, 3) := dk_181 0 35 (dk_at dksX6_go_11 0 rfl rfl)
theorem dX6_go_256 : decode cX6_go 256 = .ok (.goto (-60), 3) := dk_167 255 196 (dk_at dksX6_go_11 3 rfl rfl)
theorem dX6_go_259 : decode cX6_go 259 = .ok (.aload_n 0, 1) := dk_42 (dk_at dksX6_go_11 6 rfl rfl)
theorem dX6_go_260 : decode cX6_go 260 = .ok (.aload_n 0, 1) := dk_42 (dk_at dksX6_go_11 7 rfl rfl)
theorem dX6_go_261 : decode cX6_go 261 = .ok (.getfield 35, 3) := dk_180 0 35 (dk_at dksX6_go_11 8 rfl rfl)
theorem dX6_go_264 : decode cX6_go 264 = .ok (.aload_n 0, 1) := dk_42 (dk_at dksX6_go_11 11 rfl rfl)
theorem dX6_go_265 : decode cX6_go 265 = .ok (.getfield 42, 3) := dk_180 0 42 (dk_at dksX6_go_11 12 rfl rfl)
theorem dX6_go_268 : decode cX6_go 268 = .ok (.isub, 1) := dk_100 (dk_at dksX6_go_11 15 rfl rfl)
theorem dX6_go_269 : decode cX6_go 269 = .ok (.iconst 3, 1) := dk_6 (dk_at dksX6_go_11 16 rfl rfl)
theorem dX6_go_270 : decode cX6_go 270 = .ok (.if_icmp .le 7, 3) := dk_164 0 7 (dk_at dksX6_go_11 17 rfl rfl)
theorem dX6_go_273 : decode cX6_go 273 = .ok (.iconst 1, 1) := dk_4 (dk_at dksX6_go_11 20 rfl rfl)
theorem dX6_go_274 : decode cX6_go 274 = .ok (.goto 4, 3) := dk_167 0 4 (dk_at dksX6_go_11 21 rfl rfl)
theorem dX6_go_277 : decode cX6_go 277 = .ok (.iconst 0, 1) := dk_3 (dk_at dksX6_go_12 0 rfl rfl)
theorem dX6_go_278 : decode cX6_go 278 = .ok (.putfield 45, 3) := dk_181 0 45 (dk_at dksX6_go_12 1 rfl rfl)
theorem dX6_go_281 : decode cX6_go 281 = .ok (.aload_n 0, 1) := dk_42 (dk_at dksX6_go_12 4 rfl rfl)
theorem dX6_go_282 : decode cX6_go 282 = .ok (.getstatic 88, 3) := dk_178 0 88 (dk_at dksX6_go_12 5 rfl rfl)
theorem dX6_go_285 : decode cX6_go 285 = .ok (.putfield 55, 3) := dk_181 0 55 (dk_at dksX6_go_12 8 rfl rfl)
theorem dX6_go_288 : decode cX6_go 288 = .ok (.goto 48, 3) := dk_167 0 48 (dk_at dksX6_go_12 11 rfl rfl)
theorem dX6_go_291 : decode cX6_go 291 = .ok (.aload_n 0, 1) := dk_42 (dk_at dksX6_go_12 14 rfl rfl)
theorem dX6_go_292 : decode cX6_go 292 = .ok (.iload_n 1, 1) := dk_27 (dk_at dksX6_go_12 15 rfl rfl)
theorem dX6_go_293 : decode cX6_go 293 = .ok (.bipush 59, 2) := dk_16 59 (dk_at dksX6_go_12 16 rfl rfl)
theorem dX6_go_295 : decode cX6_go 295 = .ok (.if_icmp .ne 9, 3) := dk_160 0 9 (dk_at dksX6_go_12 18 rfl rfl)
theorem dX6_go_298 : decode cX6_go 298 = .ok (.getstatic 91, 3) := dk_178 0 91 (dk_at dksX6_go_12 21 rfl rfl)
theorem dX6_go_301 : decode cX6_go 301 = .ok (.goto 6, 3) := dk_167 0 6 (dk_at dksX6_go_13 0 rfl rfl)
theorem dX6_go_304 : decode cX6_go 304 = .ok (.getstatic 94, 3) := dk_178 0 94 (dk_at dksX6_go_13 3 rfl rfl)
theorem dX6_go_307 : decode cX6_go 307 = .ok (.putfield 55, 3) := dk_181 0 55 (dk_at dksX6_go_13 6 rfl rfl)
theorem dX6_go_310 : decode cX6_go 310 = .ok (.aload_n 0, 1) := dk_42 (dk_at dksX6_go_13 9 rfl rfl)
theorem dX6_go_311 : decode cX6_go 311 = .ok (.getfield 55, 3) := dk_180 0 55 (dk_at dksX6_go_13 10 rfl rfl)
theorem dX6_go_314 : decode cX6_go 314 = .ok (.getstatic 91, 3) := dk_178 0 91 (dk_at dksX6_go_13 13 rfl rfl)
theorem dX6_go_317 : decode cX6_go 317 = .ok (.if_acmp .ne 9, 3) := dk_166 0 9 (dk_at dksX6_go_13 16 rfl rfl)
theorem dX6_go_320 : decode cX6_go 320 = .ok (.aload_n 0, 1) := dk_42 (dk_at dksX6_go_13 19 rfl rfl)
theorem dX6_go_321 : decode cX6_go 321 = .ok (.ldc 97, 2) := dk_18 97 (dk_at dksX6_go_13 20 rfl rfl)
theorem dX6_go_323 : decode cX6_go 323 = .ok (.putfield 11, 3) := dk_181 0 11 (dk_at dksX6_go_14 0 rfl rfl)
theorem dX6_go_326 : decode cX6_go 326 = .ok (.aload_n 0, 1) := dk_42 (dk_at dksX6_go_14 3 rfl rfl)
theorem dX6_go_327 : decode cX6_go 327 = .ok (.dup, 1) := dk_89 (dk_at dksX6_go_14 4 rfl rfl)
theorem dX6_go_328 : decode cX6_go 328 = .ok (.getfield 35, 3) := dk_180 0 35 (dk_at dksX6_go_14 5 rfl rfl)
theorem dX6_go_331 : decode cX6_go 331 = .ok (.iconst 1, 1) := dk_4 (dk_at dksX6_go_14 8 rfl rfl)
theorem dX6_go_332 : decode cX6_go 332 = .ok (.iadd, 1) := dk_96 (dk_at dksX6_go_14 9 rfl rfl)
theorem dX6_go_333 : decode cX6_go 333 = .ok (.putfield 35, 3) := dk_181 0 35 (dk_at dksX6_go_14 10 rfl rfl)
theorem dX6_go_336 : decode cX6_go 336 = .ok (.return_, 1) := dk_177 (dk_at dksX6_go_14 13 rfl rfl)
abbrev cX6_byteAt : ByteArray := prog_16_method_2_code
def yX6_byteAt : MethodName := ⟨RX6, "byteAt", "(I)I"⟩
def dkwX6_byteAt_0 : List UInt8 := [27, 42, 180, 0, 28, 162, 0, 16, 42, 180, 0, 24, 27, 51, 17, 0, 255, 126, 167, 0, 4, 3, 172]
abbrev dktX6_byteAt_0 : List UInt8 := dkwX6_byteAt_0 ++ []
theorem dksX6_byteAt_0 : cX6_byteAt.data.toList.drop 0 = dktX6_byteAt_0 := by decide +kernel
theorem dX6_byteAt_0 : decode cX6_byteAt 0 = .ok (.iload_n 1, 1) := dk_27 (dk_at dksX6_byteAt_0 0 rfl rfl)
theorem dX6_byteAt_1 : decode cX6_byteAt 1 = .ok (.aload_n 0, 1) := dk_42 (dk_at dksX6_byteAt_0 1 rfl rfl)
theorem dX6_byteAt_2 : decode cX6_byteAt 2 = .ok (.getfield 28, 3) := dk_180 0 28 (dk_at dksX6_byteAt_0 2 rfl rfl)
theorem dX6_byteAt_5 : decode cX6_byteAt 5 = .ok (.if_icmp .ge 16, 3) := dk_162 0 16 (dk_at dksX6_byteAt_0 5 rfl rfl)
theorem dX6_byteAt_8 : decode cX6_byteAt 8 = .ok (.aload_n 0, 1) := dk_42 (dk_at dksX6_byteAt_0 8 rfl rfl)
theorem dX6_byteAt_9 : decode cX6_byteAt 9 = .ok (.getfield 24, 3) := dk_180 0 24 (dk_at dksX6_byteAt_0 9 rfl rfl)
theorem dX6_byteAt_12 : decode cX6_byteAt 12 = .ok (.iload_n 1, 1) := dk_27 (dk_at dksX6_byteAt_0 12 rfl rfl)
theorem dX6_byteAt_13 : decode cX6_byteAt 13 = .ok (.baload, 1) := dk_51 (dk_at dksX6_byteAt_0 13 rfl rfl)
theorem dX6_byteAt_14 : decode cX6_byteAt 14 = .ok (.sipush 255, 3) := dk_17 0 255 (dk_at dksX6_byteAt_0 14 rfl rfl)
theorem dX6_byteAt_17 : decode cX6_byteAt 17 = .ok (.iand, 1) := dk_126 (dk_at dksX6_byteAt_0 17 rfl rfl)
theorem dX6_byteAt_18 : decode cX6_byteAt 18 = .ok (.goto 4, 3) := dk_167 0 4 (dk_at dksX6_byteAt_0 18 rfl rfl)
theorem dX6_byteAt_21 : decode cX6_byteAt 21 = .ok (.iconst 0, 1) := dk_3 (dk_at dksX6_byteAt_0 21 rfl rfl)
theorem dX6_byteAt_22 : decode cX6_byteAt 22 = .ok (.ireturn, 1) := dk_172 (dk_at dksX6_byteAt_0 22 rfl rfl)
abbrev cX6_isLetter : ByteArray := prog_16_method_3_code
def yX6_isLetter : MethodName := ⟨RX6, "isLetter", "(I)Z"⟩
def dkwX6_isLetter_0 : List UInt8 := [26, 16, 97, 161, 0, 13, 26, 16, 122, 163, 0, 7, 4, 167, 0, 4, 3, 172]
abbrev dktX6_isLetter_0 : List UInt8 := dkwX6_isLetter_0 ++ []
theorem dksX6_isLetter_0 : cX6_isLetter.data.toList.drop 0 = dktX6_isLetter_0 := by decide +kernel
theorem dX6_isLetter_0 : decode cX6_isLetter 0 = .ok (.iload_n 0, 1) := dk_26 (dk_at dksX6_isLetter_0 0 rfl rfl)
theorem dX6_isLetter_1 : decode cX6_isLetter 1 = .ok (.bipush 97, 2) := dk_16 97 (dk_at dksX6_isLetter_0 1 rfl rfl)
theorem dX6_isLetter_3 : decode cX6_isLetter 3 = .ok (.if_icmp .lt 13, 3) := dk_161 0 13 (dk_at dksX6_isLetter_0 3 rfl rfl)
theorem dX6_isLetter_6 : decode cX6_isLetter 6 = .ok (.iload_n 0, 1) := dk_26 (dk_at dksX6_isLetter_0 6 rfl rfl)
theorem dX6_isLetter_7 : decode cX6_isLetter 7 = .ok (.bipush 122, 2) := dk_16 122 (dk_at dksX6_isLetter_0 7 rfl rfl)
theorem dX6_isLetter_9 : decode cX6_isLetter 9 = .ok (.if_icmp .gt 7, 3) := dk_163 0 7 (dk_at dksX6_isLetter_0 9 rfl rfl)
theorem dX6_isLetter_12 : decode cX6_isLetter 12 = .ok (.iconst 1, 1) := dk_4 (dk_at dksX6_isLetter_0 12 rfl rfl)
theorem dX6_isLetter_13 : decode cX6_isLetter 13 = .ok (.goto 4, 3) := dk_167 0 4 (dk_at dksX6_isLetter_0 13 rfl rfl)
theorem dX6_isLetter_16 : decode cX6_isLetter 16 = .ok (.iconst 0, 1) := dk_3 (dk_at dksX6_isLetter_0 16 rfl rfl)
theorem dX6_isLetter_17 : decode cX6_isLetter 17 = .ok (.ireturn, 1) := dk_172 (dk_at dksX6_isLetter_0 17 rfl rfl)
abbrev cX6_isDigit : ByteArray := prog_16_method_4_code
def yX6_isDigit : MethodName := ⟨RX6, "isDigit", "(I)Z"⟩
def dkwX6_isDigit_0 : List UInt8 := [26, 16, 48, 161, 0, 13, 26, 16, 57, 163, 0, 7, 4, 167, 0, 4, 3, 172]
abbrev dktX6_isDigit_0 : List UInt8 := dkwX6_isDigit_0 ++ []
theorem dksX6_isDigit_0 : cX6_isDigit.data.toList.drop 0 = dktX6_isDigit_0 := by decide +kernel
theorem dX6_isDigit_0 : decode cX6_isDigit 0 = .ok (.iload_n 0, 1) := dk_26 (dk_at dksX6_isDigit_0 0 rfl rfl)
theorem dX6_isDigit_1 : decode cX6_isDigit 1 = .ok (.bipush 48, 2) := dk_16 48 (dk_at dksX6_isDigit_0 1 rfl rfl)
theorem dX6_isDigit_3 : decode cX6_isDigit 3 = .ok (.if_icmp .lt 13, 3) := dk_161 0 13 (dk_at dksX6_isDigit_0 3 rfl rfl)
theorem dX6_isDigit_6 : decode cX6_isDigit 6 = .ok (.iload_n 0, 1) := dk_26 (dk_at dksX6_isDigit_0 6 rfl rfl)
theorem dX6_isDigit_7 : decode cX6_isDigit 7 = .ok (.bipush 57, 2) := dk_16 57 (dk_at dksX6_isDigit_0 7 rfl rfl)
theorem dX6_isDigit_9 : decode cX6_isDigit 9 = .ok (.if_icmp .gt 7, 3) := dk_163 0 7 (dk_at dksX6_isDigit_0 9 rfl rfl)
theorem dX6_isDigit_12 : decode cX6_isDigit 12 = .ok (.iconst 1, 1) := dk_4 (dk_at dksX6_isDigit_0 12 rfl rfl)
theorem dX6_isDigit_13 : decode cX6_isDigit 13 = .ok (.goto 4, 3) := dk_167 0 4 (dk_at dksX6_isDigit_0 13 rfl rfl)
theorem dX6_isDigit_16 : decode cX6_isDigit 16 = .ok (.iconst 0, 1) := dk_3 (dk_at dksX6_isDigit_0 16 rfl rfl)
theorem dX6_isDigit_17 : decode cX6_isDigit 17 = .ok (.ireturn, 1) := dk_172 (dk_at dksX6_isDigit_0 17 rfl rfl)
abbrev cX6_port : ByteArray := prog_16_method_16_code
def yX6_port : MethodName := ⟨RX6, "port", "()LEelPort$Port;"⟩
def dkwX6_port_26 : List UInt8 := [167, 0, 8, 42, 43, 182, 1, 14, 42, 18, 97, 182, 1, 17, 167, 253, 162, 43, 176]
abbrev dktX6_port_26 : List UInt8 := dkwX6_port_26 ++ []
def dkwX6_port_25 : List UInt8 := [43, 42, 3, 16, 99, 182, 0, 184, 181, 1, 8, 43, 42, 3, 16, 99, 182, 0, 184, 181, 1, 11]
abbrev dktX6_port_25 : List UInt8 := dkwX6_port_25 ++ dktX6_port_26
def dkwX6_port_24 : List UInt8 := [180, 1, 5, 154, 0, 7, 4, 167, 0, 4, 3, 8, 182, 0, 114, 42, 4, 181, 1, 5, 42, 182, 0, 32]
abbrev dktX6_port_24 : List UInt8 := dkwX6_port_24 ++ dktX6_port_25
def dkwX6_port_23 : List UInt8 := [180, 0, 247, 4, 96, 181, 0, 247, 167, 0, 69, 42, 19, 1, 3, 182, 0, 110, 153, 0, 54, 42, 42]
abbrev dktX6_port_23 : List UInt8 := dkwX6_port_23 ++ dktX6_port_24
def dkwX6_port_22 : List UInt8 := [43, 180, 0, 247, 42, 43, 180, 0, 253, 43, 180, 0, 247, 46, 16, 23, 182, 0, 184, 79, 43, 89]
abbrev dktX6_port_22 : List UInt8 := dkwX6_port_22 ++ dktX6_port_23
def dkwX6_port_21 : List UInt8 := [182, 0, 193, 79, 43, 180, 0, 253, 43, 180, 0, 247, 42, 3, 16, 23, 182, 0, 184, 79, 43, 180, 1, 0]
abbrev dktX6_port_21 : List UInt8 := dkwX6_port_21 ++ dktX6_port_22
def dkwX6_port_20 : List UInt8 := [182, 0, 114, 42, 182, 0, 32, 43, 180, 0, 250, 43, 180, 0, 247, 42, 43, 180, 0, 176, 182, 0, 180]
abbrev dktX6_port_20 : List UInt8 := dkwX6_port_20 ++ dktX6_port_21
def dkwX6_port_19 : List UInt8 := [182, 0, 110, 153, 0, 99, 42, 43, 180, 0, 247, 16, 6, 162, 0, 7, 4, 167, 0, 4, 3, 5]
abbrev dktX6_port_19 : List UInt8 := dkwX6_port_19 ++ dktX6_port_20
def dkwX6_port_18 : List UInt8 := [54, 4, 43, 180, 0, 242, 21, 4, 42, 3, 16, 99, 182, 0, 184, 79, 167, 0, 174, 42, 18, 245]
abbrev dktX6_port_18 : List UInt8 := dkwX6_port_18 ++ dktX6_port_19
def dkwX6_port_17 : List UInt8 := [167, 0, 214, 42, 18, 240, 182, 0, 110, 153, 0, 34, 42, 182, 0, 32, 42, 42, 180, 0, 21, 182, 0, 233]
abbrev dktX6_port_17 : List UInt8 := dkwX6_port_17 ++ dktX6_port_18
def dkwX6_port_16 : List UInt8 := [42, 180, 0, 17, 182, 0, 233, 54, 4, 43, 180, 0, 237, 21, 4, 42, 3, 16, 20, 182, 0, 184, 79]
abbrev dktX6_port_16 : List UInt8 := dkwX6_port_16 ++ dktX6_port_17
def dkwX6_port_15 : List UInt8 := [21, 4, 120, 128, 181, 0, 228, 167, 0, 254, 42, 18, 231, 182, 0, 110, 153, 0, 34, 42, 182, 0, 32, 42]
abbrev dktX6_port_15 : List UInt8 := dkwX6_port_15 ++ dktX6_port_16
def dkwX6_port_14 : List UInt8 := [21, 6, 120, 128, 181, 0, 228, 43, 180, 0, 190, 21, 6, 182, 0, 222, 192, 0, 226, 89, 180, 0, 228, 4]
abbrev dktX6_port_14 : List UInt8 := dkwX6_port_14 ++ dktX6_port_15
def dkwX6_port_13 : List UInt8 := [154, 0, 7, 4, 167, 0, 4, 3, 7, 182, 0, 114, 42, 182, 0, 32, 25, 5, 89, 180, 0, 228, 4]
abbrev dktX6_port_13 : List UInt8 := dkwX6_port_13 ++ dktX6_port_14
def dkwX6_port_12 : List UInt8 := [182, 0, 122, 54, 6, 42, 21, 6, 21, 4, 159, 0, 20, 25, 5, 180, 0, 228, 21, 6, 122, 4, 126]
abbrev dktX6_port_12 : List UInt8 := dkwX6_port_12 ++ dktX6_port_13
def dkwX6_port_11 : List UInt8 := [54, 4, 43, 180, 0, 190, 21, 4, 182, 0, 222, 192, 0, 226, 58, 5, 42, 43, 180, 0, 190, 182, 0, 180]
abbrev dktX6_port_11 : List UInt8 := dkwX6_port_11 ++ dktX6_port_12
def dkwX6_port_10 : List UInt8 := [18, 220, 182, 0, 110, 153, 0, 122, 42, 182, 0, 32, 42, 43, 180, 0, 190, 182, 0, 180, 182, 0, 193]
abbrev dktX6_port_10 : List UInt8 := dkwX6_port_10 ++ dktX6_port_11
def dkwX6_port_9 : List UInt8 := [42, 3, 16, 40, 182, 0, 184, 181, 0, 217, 43, 180, 0, 208, 45, 182, 0, 205, 87, 167, 1, 126, 42]
abbrev dktX6_port_9 : List UInt8 := dkwX6_port_9 ++ dktX6_port_10
def dkwX6_port_8 : List UInt8 := [180, 0, 190, 182, 0, 180, 182, 0, 193, 181, 0, 211, 45, 42, 3, 16, 23, 182, 0, 184, 181, 0, 214, 45]
abbrev dktX6_port_8 : List UInt8 := dkwX6_port_8 ++ dktX6_port_9
def dkwX6_port_7 : List UInt8 := [182, 0, 180, 7, 162, 0, 7, 4, 167, 0, 4, 3, 5, 182, 0, 114, 42, 182, 0, 32, 45, 42, 43]
abbrev dktX6_port_7 : List UInt8 := dkwX6_port_7 ++ dktX6_port_8
def dkwX6_port_6 : List UInt8 := [181, 0, 202, 43, 180, 0, 176, 44, 182, 0, 205, 87, 167, 1, 204, 45, 198, 0, 77, 42, 43, 180, 0, 208]
abbrev dktX6_port_6 : List UInt8 := dkwX6_port_6 ++ dktX6_port_7
def dkwX6_port_5 : List UInt8 := [181, 0, 196, 44, 42, 4, 16, 40, 182, 0, 184, 181, 0, 199, 44, 42, 3, 16, 20, 182, 0, 184]
abbrev dktX6_port_5 : List UInt8 := dkwX6_port_5 ++ dktX6_port_6
def dkwX6_port_4 : List UInt8 := [44, 42, 3, 4, 182, 0, 184, 181, 0, 187, 44, 42, 43, 180, 0, 190, 182, 0, 180, 182, 0, 193]
abbrev dktX6_port_4 : List UInt8 := dkwX6_port_4 ++ dktX6_port_5
def dkwX6_port_3 : List UInt8 := [180, 0, 176, 182, 0, 180, 16, 6, 162, 0, 7, 4, 167, 0, 4, 3, 5, 182, 0, 114, 42, 182, 0, 32]
abbrev dktX6_port_3 : List UInt8 := dkwX6_port_3 ++ dktX6_port_4
def dkwX6_port_2 : List UInt8 := [178, 0, 79, 166, 0, 13, 42, 180, 0, 11, 184, 0, 172, 167, 0, 4, 1, 78, 44, 198, 0, 88, 42, 43]
abbrev dktX6_port_2 : List UInt8 := dkwX6_port_2 ++ dktX6_port_3
def dkwX6_port_1 : List UInt8 := [178, 0, 79, 166, 0, 13, 42, 180, 0, 11, 184, 0, 168, 167, 0, 4, 1, 77, 42, 180, 0, 55]
abbrev dktX6_port_1 : List UInt8 := dkwX6_port_1 ++ dktX6_port_2
def dkwX6_port_0 : List UInt8 := [187, 0, 165, 89, 183, 0, 167, 76, 42, 180, 0, 55, 178, 0, 49, 165, 2, 90, 42, 180, 0, 55]
abbrev dktX6_port_0 : List UInt8 := dkwX6_port_0 ++ dktX6_port_1
theorem dksX6_port_0 : cX6_port.data.toList.drop 0 = dktX6_port_0 := by decide +kernel
theorem dksX6_port_1 : cX6_port.data.toList.drop 22 = dktX6_port_1 := dk_seg dksX6_port_0 22 rfl rfl
theorem dksX6_port_2 : cX6_port.data.toList.drop 44 = dktX6_port_2 := dk_seg dksX6_port_1 22 rfl rfl
theorem dksX6_port_3 : cX6_port.data.toList.drop 68 = dktX6_port_3 := dk_seg dksX6_port_2 24 rfl rfl
theorem dksX6_port_4 : cX6_port.data.toList.drop 92 = dktX6_port_4 := dk_seg dksX6_port_3 24 rfl rfl
theorem dksX6_port_5 : cX6_port.data.toList.drop 114 = dktX6_port_5 := dk_seg dksX6_port_4 22 rfl rfl
theorem dksX6_port_6 : cX6_port.data.toList.drop 136 = dktX6_port_6 := dk_seg dksX6_port_5 22 rfl rfl
theorem dksX6_port_7 : cX6_port.data.toList.drop 160 = dktX6_port_7 := dk_seg dksX6_port_6 24 rfl rfl
theorem dksX6_port_8 : cX6_port.data.toList.drop 183 = dktX6_port_8 := dk_seg dksX6_port_7 23 rfl rfl
theorem dksX6_port_9 : cX6_port.data.toList.drop 207 = dktX6_port_9 := dk_seg dksX6_port_8 24 rfl rfl
theorem dksX6_port_10 : cX6_port.data.toList.drop 230 = dktX6_port_10 := dk_seg dksX6_port_9 23 rfl rfl
theorem dksX6_port_11 : cX6_port.data.toList.drop 253 = dktX6_port_11 := dk_seg dksX6_port_10 23 rfl rfl
theorem dksX6_port_12 : cX6_port.data.toList.drop 277 = dktX6_port_12 := dk_seg dksX6_port_11 24 rfl rfl
theorem dksX6_port_13 : cX6_port.data.toList.drop 300 = dktX6_port_13 := dk_seg dksX6_port_12 23 rfl rfl
theorem dksX6_port_14 : cX6_port.data.toList.drop 323 = dktX6_port_14 := dk_seg dksX6_port_13 23 rfl rfl
theorem dksX6_port_15 : cX6_port.data.toList.drop 347 = dktX6_port_15 := dk_seg dksX6_port_14 24 rfl rfl
theorem dksX6_port_16 : cX6_port.data.toList.drop 371 = dktX6_port_16 := dk_seg dksX6_port_15 24 rfl rfl
theorem dksX6_port_17 : cX6_port.data.toList.drop 394 = dktX6_port_17 := dk_seg dksX6_port_16 23 rfl rfl
theorem dksX6_port_18 : cX6_port.data.toList.drop 418 = dktX6_port_18 := dk_seg dksX6_port_17 24 rfl rfl
theorem dksX6_port_19 : cX6_port.data.toList.drop 440 = dktX6_port_19 := dk_seg dksX6_port_18 22 rfl rfl
theorem dksX6_port_20 : cX6_port.data.toList.drop 462 = dktX6_port_20 := dk_seg dksX6_port_19 22 rfl rfl
theorem dksX6_port_21 : cX6_port.data.toList.drop 485 = dktX6_port_21 := dk_seg dksX6_port_20 23 rfl rfl
theorem dksX6_port_22 : cX6_port.data.toList.drop 509 = dktX6_port_22 := dk_seg dksX6_port_21 24 rfl rfl
theorem dksX6_port_23 : cX6_port.data.toList.drop 531 = dktX6_port_23 := dk_seg dksX6_port_22 22 rfl rfl
theorem dksX6_port_24 : cX6_port.data.toList.drop 554 = dktX6_port_24 := dk_seg dksX6_port_23 23 rfl rfl
theorem dksX6_port_25 : cX6_port.data.toList.drop 578 = dktX6_port_25 := dk_seg dksX6_port_24 24 rfl rfl
theorem dksX6_port_26 : cX6_port.data.toList.drop 600 = dktX6_port_26 := dk_seg dksX6_port_25 22 rfl rfl
theorem dX6_port_0 : decode cX6_port 0 = .ok (.new 165, 3) := dk_187 0 165 (dk_at dksX6_port_0 0 rfl rfl)
theorem dX6_port_3 : decode cX6_port 3 = .ok (.dup, 1) := dk_89 (dk_at dksX6_port_0 3 rfl rfl)
theorem dX6_port_4 : decode cX6_port 4 = .ok (.invokespecial 167, 3) := dk_183 0 167 (dk_at dksX6_port_0 4 rfl rfl)
theorem dX6_port_7 : decode cX6_port 7 = .ok (.astore_n 1, 1) := dk_76 (dk_at dksX6_port_0 7 rfl rfl)
theorem dX6_port_8 : decode cX6_port 8 = .ok (.aload_n 0, 1) := dk_42 (dk_at dksX6_port_0 8 rfl rfl)
theorem dX6_port_9 : decode cX6_port 9 = .ok (.getfield 55, 3) := dk_180 0 55 (dk_at dksX6_port_0 9 rfl rfl)
theorem dX6_port_12 : decode cX6_port 12 = .ok (.getstatic 49, 3) := dk_178 0 49 (dk_at dksX6_port_0 12 rfl rfl)
theorem dX6_port_15 : decode cX6_port 15 = .ok (.if_acmp .eq 602, 3) := dk_165 2 90 (dk_at dksX6_port_0 15 rfl rfl)
theorem dX6_port_18 : decode cX6_port 18 = .ok (.aload_n 0, 1) := dk_42 (dk_at dksX6_port_0 18 rfl rfl)
theorem dX6_port_19 : decode cX6_port 19 = .ok (.getfield 55, 3) := dk_180 0 55 (dk_at dksX6_port_0 19 rfl rfl)
theorem dX6_port_22 : decode cX6_port 22 = .ok (.getstatic 79, 3) := dk_178 0 79 (dk_at dksX6_port_1 0 rfl rfl)
theorem dX6_port_25 : decode cX6_port 25 = .ok (.if_acmp .ne 13, 3) := dk_166 0 13 (dk_at dksX6_port_1 3 rfl rfl)
theorem dX6_port_28 : decode cX6_port 28 = .ok (.aload_n 0, 1) := dk_42 (dk_at dksX6_port_1 6 rfl rfl)
theorem dX6_port_29 : decode cX6_port 29 = .ok (.getfield 11, 3) := dk_180 0 11 (dk_at dksX6_port_1 7 rfl rfl)
theorem dX6_port_32 : decode cX6_port 32 = .ok (.invokestatic 168, 3) := dk_184 0 168 (dk_at dksX6_port_1 10 rfl rfl)
theorem dX6_port_35 : decode cX6_port 35 = .ok (.goto 4, 3) := dk_167 0 4 (dk_at dksX6_port_1 13 rfl rfl)
theorem dX6_port_38 : decode cX6_port 38 = .ok (.aconst_null, 1) := dk_1 (dk_at dksX6_port_1 16 rfl rfl)
theorem dX6_port_39 : decode cX6_port 39 = .ok (.astore_n 2, 1) := dk_77 (dk_at dksX6_port_1 17 rfl rfl)
theorem dX6_port_40 : decode cX6_port 40 = .ok (.aload_n 0, 1) := dk_42 (dk_at dksX6_port_1 18 rfl rfl)
theorem dX6_port_41 : decode cX6_port 41 = .ok (.getfield 55, 3) := dk_180 0 55 (dk_at dksX6_port_1 19 rfl rfl)
theorem dX6_port_44 : decode cX6_port 44 = .ok (.getstatic 79, 3) := dk_178 0 79 (dk_at dksX6_port_2 0 rfl rfl)
theorem dX6_port_47 : decode cX6_port 47 = .ok (.if_acmp .ne 13, 3) := dk_166 0 13 (dk_at dksX6_port_2 3 rfl rfl)
theorem dX6_port_50 : decode cX6_port 50 = .ok (.aload_n 0, 1) := dk_42 (dk_at dksX6_port_2 6 rfl rfl)
theorem dX6_port_51 : decode cX6_port 51 = .ok (.getfield 11, 3) := dk_180 0 11 (dk_at dksX6_port_2 7 rfl rfl)
theorem dX6_port_54 : decode cX6_port 54 = .ok (.invokestatic 172, 3) := dk_184 0 172 (dk_at dksX6_port_2 10 rfl rfl)
theorem dX6_port_57 : decode cX6_port 57 = .ok (.goto 4, 3) := dk_167 0 4 (dk_at dksX6_port_2 13 rfl rfl)
theorem dX6_port_60 : decode cX6_port 60 = .ok (.aconst_null, 1) := dk_1 (dk_at dksX6_port_2 16 rfl rfl)
theorem dX6_port_61 : decode cX6_port 61 = .ok (.astore_n 3, 1) := dk_78 (dk_at dksX6_port_2 17 rfl rfl)
theorem dX6_port_62 : decode cX6_port 62 = .ok (.aload_n 2, 1) := dk_44 (dk_at dksX6_port_2 18 rfl rfl)
theorem dX6_port_63 : decode cX6_port 63 = .ok (.ifnull 88, 3) := dk_198 0 88 (dk_at dksX6_port_2 19 rfl rfl)
theorem dX6_port_66 : decode cX6_port 66 = .ok (.aload_n 0, 1) := dk_42 (dk_at dksX6_port_2 22 rfl rfl)
theorem dX6_port_67 : decode cX6_port 67 = .ok (.aload_n 1, 1) := dk_43 (dk_at dksX6_port_2 23 rfl rfl)
theorem dX6_port_68 : decode cX6_port 68 = .ok (.getfield 176, 3) := dk_180 0 176 (dk_at dksX6_port_3 0 rfl rfl)
theorem dX6_port_71 : decode cX6_port 71 = .ok (.invokevirtual 180, 3) := dk_182 0 180 (dk_at dksX6_port_3 3 rfl rfl)
theorem dX6_port_74 : decode cX6_port 74 = .ok (.bipush 6, 2) := dk_16 6 (dk_at dksX6_port_3 6 rfl rfl)
theorem dX6_port_76 : decode cX6_port 76 = .ok (.if_icmp .ge 7, 3) := dk_162 0 7 (dk_at dksX6_port_3 8 rfl rfl)
theorem dX6_port_79 : decode cX6_port 79 = .ok (.iconst 1, 1) := dk_4 (dk_at dksX6_port_3 11 rfl rfl)
theorem dX6_port_80 : decode cX6_port 80 = .ok (.goto 4, 3) := dk_167 0 4 (dk_at dksX6_port_3 12 rfl rfl)
theorem dX6_port_83 : decode cX6_port 83 = .ok (.iconst 0, 1) := dk_3 (dk_at dksX6_port_3 15 rfl rfl)
theorem dX6_port_84 : decode cX6_port 84 = .ok (.iconst 2, 1) := dk_5 (dk_at dksX6_port_3 16 rfl rfl)
theorem dX6_port_85 : decode cX6_port 85 = .ok (.invokevirtual 114, 3) := dk_182 0 114 (dk_at dksX6_port_3 17 rfl rfl)
theorem dX6_port_88 : decode cX6_port 88 = .ok (.aload_n 0, 1) := dk_42 (dk_at dksX6_port_3 20 rfl rfl)
theorem dX6_port_89 : decode cX6_port 89 = .ok (.invokevirtual 32, 3) := dk_182 0 32 (dk_at dksX6_port_3 21 rfl rfl)
theorem dX6_port_92 : decode cX6_port 92 = .ok (.aload_n 2, 1) := dk_44 (dk_at dksX6_port_4 0 rfl rfl)
theorem dX6_port_93 : decode cX6_port 93 = .ok (.aload_n 0, 1) := dk_42 (dk_at dksX6_port_4 1 rfl rfl)
theorem dX6_port_94 : decode cX6_port 94 = .ok (.iconst 0, 1) := dk_3 (dk_at dksX6_port_4 2 rfl rfl)
theorem dX6_port_95 : decode cX6_port 95 = .ok (.iconst 1, 1) := dk_4 (dk_at dksX6_port_4 3 rfl rfl)
theorem dX6_port_96 : decode cX6_port 96 = .ok (.invokevirtual 184, 3) := dk_182 0 184 (dk_at dksX6_port_4 4 rfl rfl)
theorem dX6_port_99 : decode cX6_port 99 = .ok (.putfield 187, 3) := dk_181 0 187 (dk_at dksX6_port_4 7 rfl rfl)
theorem dX6_port_102 : decode cX6_port 102 = .ok (.aload_n 2, 1) := dk_44 (dk_at dksX6_port_4 10 rfl rfl)
theorem dX6_port_103 : decode cX6_port 103 = .ok (.aload_n 0, 1) := dk_42 (dk_at dksX6_port_4 11 rfl rfl)
theorem dX6_port_104 : decode cX6_port 104 = .ok (.aload_n 1, 1) := dk_43 (dk_at dksX6_port_4 12 rfl rfl)
theorem dX6_port_105 : decode cX6_port 105 = .ok (.getfield 190, 3) := dk_180 0 190 (dk_at dksX6_port_4 13 rfl rfl)
theorem dX6_port_108 : decode cX6_port 108 = .ok (.invokevirtual 180, 3) := dk_182 0 180 (dk_at dksX6_port_4 16 rfl rfl)
theorem dX6_port_111 : decode cX6_port 111 = .ok (.invokevirtual 193, 3) := dk_182 0 193 (dk_at dksX6_port_4 19 rfl rfl)
theorem dX6_port_114 : decode cX6_port 114 = .ok (.putfield 196, 3) := dk_181 0 196 (dk_at dksX6_port_5 0 rfl rfl)
theorem dX6_port_117 : decode cX6_port 117 = .ok (.aload_n 2, 1) := dk_44 (dk_at dksX6_port_5 3 rfl rfl)
theorem dX6_port_118 : decode cX6_port 118 = .ok (.aload_n 0, 1) := dk_42 (dk_at dksX6_port_5 4 rfl rfl)
theorem dX6_port_119 : decode cX6_port 119 = .ok (.iconst 1, 1) := dk_4 (dk_at dksX6_port_5 5 rfl rfl)
theorem dX6_port_120 : decode cX6_port 120 = .ok (.bipush 40, 2) := dk_16 40 (dk_at dksX6_port_5 6 rfl rfl)
theorem dX6_port_122 : decode cX6_port 122 = .ok (.invokevirtual 184, 3) := dk_182 0 184 (dk_at dksX6_port_5 8 rfl rfl)
theorem dX6_port_125 : decode cX6_port 125 = .ok (.putfield 199, 3) := dk_181 0 199 (dk_at dksX6_port_5 11 rfl rfl)
theorem dX6_port_128 : decode cX6_port 128 = .ok (.aload_n 2, 1) := dk_44 (dk_at dksX6_port_5 14 rfl rfl)
theorem dX6_port_129 : decode cX6_port 129 = .ok (.aload_n 0, 1) := dk_42 (dk_at dksX6_port_5 15 rfl rfl)
theorem dX6_port_130 : decode cX6_port 130 = .ok (.iconst 0, 1) := dk_3 (dk_at dksX6_port_5 16 rfl rfl)
theorem dX6_port_131 : decode cX6_port 131 = .ok (.bipush 20, 2) := dk_16 20 (dk_at dksX6_port_5 17 rfl rfl)
theorem dX6_port_133 : decode cX6_port 133 = .ok (.invokevirtual 184, 3) := dk_182 0 184 (dk_at dksX6_port_5 19 rfl rfl)
theorem dX6_port_136 : decode cX6_port 136 = .ok (.putfield 202, 3) := dk_181 0 202 (dk_at dksX6_port_6 0 rfl rfl)
theorem dX6_port_139 : decode cX6_port 139 = .ok (.aload_n 1, 1) := dk_43 (dk_at dksX6_port_6 3 rfl rfl)
theorem dX6_port_140 : decode cX6_port 140 = .ok (.getfield 176, 3) := dk_180 0 176 (dk_at dksX6_port_6 4 rfl rfl)
theorem dX6_port_143 : decode cX6_port 143 = .ok (.aload_n 2, 1) := dk_44 (dk_at dksX6_port_6 7 rfl rfl)
theorem dX6_port_144 : decode cX6_port 144 = .ok (.invokevirtual 205, 3) := dk_182 0 205 (dk_at dksX6_port_6 8 rfl rfl)
theorem dX6_port_147 : decode cX6_port 147 = .ok (.pop, 1) := dk_87 (dk_at dksX6_port_6 11 rfl rfl)
theorem dX6_port_148 : decode cX6_port 148 = .ok (.goto 460, 3) := dk_167 1 204 (dk_at dksX6_port_6 12 rfl rfl)
theorem dX6_port_151 : decode cX6_port 151 = .ok (.aload_n 3, 1) := dk_45 (dk_at dksX6_port_6 15 rfl rfl)
theorem dX6_port_152 : decode cX6_port 152 = .ok (.ifnull 77, 3) := dk_198 0 77 (dk_at dksX6_port_6 16 rfl rfl)
theorem dX6_port_155 : decode cX6_port 155 = .ok (.aload_n 0, 1) := dk_42 (dk_at dksX6_port_6 19 rfl rfl)
theorem dX6_port_156 : decode cX6_port 156 = .ok (.aload_n 1, 1) := dk_43 (dk_at dksX6_port_6 20 rfl rfl)
theorem dX6_port_157 : decode cX6_port 157 = .ok (.getfield 208, 3) := dk_180 0 208 (dk_at dksX6_port_6 21 rfl rfl)
theorem dX6_port_160 : decode cX6_port 160 = .ok (.invokevirtual 180, 3) := dk_182 0 180 (dk_at dksX6_port_7 0 rfl rfl)
theorem dX6_port_163 : decode cX6_port 163 = .ok (.iconst 4, 1) := dk_7 (dk_at dksX6_port_7 3 rfl rfl)
theorem dX6_port_164 : decode cX6_port 164 = .ok (.if_icmp .ge 7, 3) := dk_162 0 7 (dk_at dksX6_port_7 4 rfl rfl)
theorem dX6_port_167 : decode cX6_port 167 = .ok (.iconst 1, 1) := dk_4 (dk_at dksX6_port_7 7 rfl rfl)
theorem dX6_port_168 : decode cX6_port 168 = .ok (.goto 4, 3) := dk_167 0 4 (dk_at dksX6_port_7 8 rfl rfl)
theorem dX6_port_171 : decode cX6_port 171 = .ok (.iconst 0, 1) := dk_3 (dk_at dksX6_port_7 11 rfl rfl)
theorem dX6_port_172 : decode cX6_port 172 = .ok (.iconst 2, 1) := dk_5 (dk_at dksX6_port_7 12 rfl rfl)
theorem dX6_port_173 : decode cX6_port 173 = .ok (.invokevirtual 114, 3) := dk_182 0 114 (dk_at dksX6_port_7 13 rfl rfl)
theorem dX6_port_176 : decode cX6_port 176 = .ok (.aload_n 0, 1) := dk_42 (dk_at dksX6_port_7 16 rfl rfl)
theorem dX6_port_177 : decode cX6_port 177 = .ok (.invokevirtual 32, 3) := dk_182 0 32 (dk_at dksX6_port_7 17 rfl rfl)
theorem dX6_port_180 : decode cX6_port 180 = .ok (.aload_n 3, 1) := dk_45 (dk_at dksX6_port_7 20 rfl rfl)
theorem dX6_port_181 : decode cX6_port 181 = .ok (.aload_n 0, 1) := dk_42 (dk_at dksX6_port_7 21 rfl rfl)
theorem dX6_port_182 : decode cX6_port 182 = .ok (.aload_n 1, 1) := dk_43 (dk_at dksX6_port_7 22 rfl rfl)
theorem dX6_port_183 : decode cX6_port 183 = .ok (.getfield 190, 3) := dk_180 0 190 (dk_at dksX6_port_8 0 rfl rfl)
theorem dX6_port_186 : decode cX6_port 186 = .ok (.invokevirtual 180, 3) := dk_182 0 180 (dk_at dksX6_port_8 3 rfl rfl)
theorem dX6_port_189 : decode cX6_port 189 = .ok (.invokevirtual 193, 3) := dk_182 0 193 (dk_at dksX6_port_8 6 rfl rfl)
theorem dX6_port_192 : decode cX6_port 192 = .ok (.putfield 211, 3) := dk_181 0 211 (dk_at dksX6_port_8 9 rfl rfl)
theorem dX6_port_195 : decode cX6_port 195 = .ok (.aload_n 3, 1) := dk_45 (dk_at dksX6_port_8 12 rfl rfl)
theorem dX6_port_196 : decode cX6_port 196 = .ok (.aload_n 0, 1) := dk_42 (dk_at dksX6_port_8 13 rfl rfl)
theorem dX6_port_197 : decode cX6_port 197 = .ok (.iconst 0, 1) := dk_3 (dk_at dksX6_port_8 14 rfl rfl)
theorem dX6_port_198 : decode cX6_port 198 = .ok (.bipush 23, 2) := dk_16 23 (dk_at dksX6_port_8 15 rfl rfl)
theorem dX6_port_200 : decode cX6_port 200 = .ok (.invokevirtual 184, 3) := dk_182 0 184 (dk_at dksX6_port_8 17 rfl rfl)
theorem dX6_port_203 : decode cX6_port 203 = .ok (.putfield 214, 3) := dk_181 0 214 (dk_at dksX6_port_8 20 rfl rfl)
theorem dX6_port_206 : decode cX6_port 206 = .ok (.aload_n 3, 1) := dk_45 (dk_at dksX6_port_8 23 rfl rfl)
theorem dX6_port_207 : decode cX6_port 207 = .ok (.aload_n 0, 1) := dk_42 (dk_at dksX6_port_9 0 rfl rfl)
theorem dX6_port_208 : decode cX6_port 208 = .ok (.iconst 0, 1) := dk_3 (dk_at dksX6_port_9 1 rfl rfl)
theorem dX6_port_209 : decode cX6_port 209 = .ok (.bipush 40, 2) := dk_16 40 (dk_at dksX6_port_9 2 rfl rfl)
theorem dX6_port_211 : decode cX6_port 211 = .ok (.invokevirtual 184, 3) := dk_182 0 184 (dk_at dksX6_port_9 4 rfl rfl)
theorem dX6_port_214 : decode cX6_port 214 = .ok (.putfield 217, 3) := dk_181 0 217 (dk_at dksX6_port_9 7 rfl rfl)
theorem dX6_port_217 : decode cX6_port 217 = .ok (.aload_n 1, 1) := dk_43 (dk_at dksX6_port_9 10 rfl rfl)
theorem dX6_port_218 : decode cX6_port 218 = .ok (.getfield 208, 3) := dk_180 0 208 (dk_at dksX6_port_9 11 rfl rfl)
theorem dX6_port_221 : decode cX6_port 221 = .ok (.aload_n 3, 1) := dk_45 (dk_at dksX6_port_9 14 rfl rfl)
theorem dX6_port_222 : decode cX6_port 222 = .ok (.invokevirtual 205, 3) := dk_182 0 205 (dk_at dksX6_port_9 15 rfl rfl)
theorem dX6_port_225 : decode cX6_port 225 = .ok (.pop, 1) := dk_87 (dk_at dksX6_port_9 18 rfl rfl)
theorem dX6_port_226 : decode cX6_port 226 = .ok (.goto 382, 3) := dk_167 1 126 (dk_at dksX6_port_9 19 rfl rfl)
theorem dX6_port_229 : decode cX6_port 229 = .ok (.aload_n 0, 1) := dk_42 (dk_at dksX6_port_9 22 rfl rfl)
theorem dX6_port_230 : decode cX6_port 230 = .ok (.ldc 220, 2) := dk_18 220 (dk_at dksX6_port_10 0 rfl rfl)
theorem dX6_port_232 : decode cX6_port 232 = .ok (.invokevirtual 110, 3) := dk_182 0 110 (dk_at dksX6_port_10 2 rfl rfl)
theorem dX6_port_235 : decode cX6_port 235 = .ok (.ifCond .eq 122, 3) := dk_153 0 122 (dk_at dksX6_port_10 5 rfl rfl)
theorem dX6_port_238 : decode cX6_port 238 = .ok (.aload_n 0, 1) := dk_42 (dk_at dksX6_port_10 8 rfl rfl)
theorem dX6_port_239 : decode cX6_port 239 = .ok (.invokevirtual 32, 3) := dk_182 0 32 (dk_at dksX6_port_10 9 rfl rfl)
theorem dX6_port_242 : decode cX6_port 242 = .ok (.aload_n 0, 1) := dk_42 (dk_at dksX6_port_10 12 rfl rfl)
theorem dX6_port_243 : decode cX6_port 243 = .ok (.aload_n 1, 1) := dk_43 (dk_at dksX6_port_10 13 rfl rfl)
theorem dX6_port_244 : decode cX6_port 244 = .ok (.getfield 190, 3) := dk_180 0 190 (dk_at dksX6_port_10 14 rfl rfl)
theorem dX6_port_247 : decode cX6_port 247 = .ok (.invokevirtual 180, 3) := dk_182 0 180 (dk_at dksX6_port_10 17 rfl rfl)
theorem dX6_port_250 : decode cX6_port 250 = .ok (.invokevirtual 193, 3) := dk_182 0 193 (dk_at dksX6_port_10 20 rfl rfl)
theorem dX6_port_253 : decode cX6_port 253 = .ok (.istore 4, 2) := dk_54 4 (dk_at dksX6_port_11 0 rfl rfl)
theorem dX6_port_255 : decode cX6_port 255 = .ok (.aload_n 1, 1) := dk_43 (dk_at dksX6_port_11 2 rfl rfl)
theorem dX6_port_256 : decode cX6_port 256 = .ok (.getfield 190, 3) := dk_180 0 190 (dk_at dksX6_port_11 3 rfl rfl)
theorem dX6_port_259 : decode cX6_port 259 = .ok (.iload 4, 2) := dk_21 4 (dk_at dksX6_port_11 6 rfl rfl)
theorem dX6_port_261 : decode cX6_port 261 = .ok (.invokevirtual 222, 3) := dk_182 0 222 (dk_at dksX6_port_11 8 rfl rfl)
theorem dX6_port_264 : decode cX6_port 264 = .ok (.checkcast 226, 3) := dk_192 0 226 (dk_at dksX6_port_11 11 rfl rfl)
theorem dX6_port_267 : decode cX6_port 267 = .ok (.astore 5, 2) := dk_58 5 (dk_at dksX6_port_11 14 rfl rfl)
theorem dX6_port_269 : decode cX6_port 269 = .ok (.aload_n 0, 1) := dk_42 (dk_at dksX6_port_11 16 rfl rfl)
theorem dX6_port_270 : decode cX6_port 270 = .ok (.aload_n 1, 1) := dk_43 (dk_at dksX6_port_11 17 rfl rfl)
theorem dX6_port_271 : decode cX6_port 271 = .ok (.getfield 190, 3) := dk_180 0 190 (dk_at dksX6_port_11 18 rfl rfl)
theorem dX6_port_274 : decode cX6_port 274 = .ok (.invokevirtual 180, 3) := dk_182 0 180 (dk_at dksX6_port_11 21 rfl rfl)
theorem dX6_port_277 : decode cX6_port 277 = .ok (.invokevirtual 122, 3) := dk_182 0 122 (dk_at dksX6_port_12 0 rfl rfl)
theorem dX6_port_280 : decode cX6_port 280 = .ok (.istore 6, 2) := dk_54 6 (dk_at dksX6_port_12 3 rfl rfl)
theorem dX6_port_282 : decode cX6_port 282 = .ok (.aload_n 0, 1) := dk_42 (dk_at dksX6_port_12 5 rfl rfl)
theorem dX6_port_283 : decode cX6_port 283 = .ok (.iload 6, 2) := dk_21 6 (dk_at dksX6_port_12 6 rfl rfl)
theorem dX6_port_285 : decode cX6_port 285 = .ok (.iload 4, 2) := dk_21 4 (dk_at dksX6_port_12 8 rfl rfl)
theorem dX6_port_287 : decode cX6_port 287 = .ok (.if_icmp .eq 20, 3) := dk_159 0 20 (dk_at dksX6_port_12 10 rfl rfl)
theorem dX6_port_290 : decode cX6_port 290 = .ok (.aload 5, 2) := dk_25 5 (dk_at dksX6_port_12 13 rfl rfl)
theorem dX6_port_292 : decode cX6_port 292 = .ok (.getfield 228, 3) := dk_180 0 228 (dk_at dksX6_port_12 15 rfl rfl)
theorem dX6_port_295 : decode cX6_port 295 = .ok (.iload 6, 2) := dk_21 6 (dk_at dksX6_port_12 18 rfl rfl)
theorem dX6_port_297 : decode cX6_port 297 = .ok (.ishr, 1) := dk_122 (dk_at dksX6_port_12 20 rfl rfl)
theorem dX6_port_298 : decode cX6_port 298 = .ok (.iconst 1, 1) := dk_4 (dk_at dksX6_port_12 21 rfl rfl)
theorem dX6_port_299 : decode cX6_port 299 = .ok (.iand, 1) := dk_126 (dk_at dksX6_port_12 22 rfl rfl)
theorem dX6_port_300 : decode cX6_port 300 = .ok (.ifCond .ne 7, 3) := dk_154 0 7 (dk_at dksX6_port_13 0 rfl rfl)
theorem dX6_port_303 : decode cX6_port 303 = .ok (.iconst 1, 1) := dk_4 (dk_at dksX6_port_13 3 rfl rfl)
theorem dX6_port_304 : decode cX6_port 304 = .ok (.goto 4, 3) := dk_167 0 4 (dk_at dksX6_port_13 4 rfl rfl)
theorem dX6_port_307 : decode cX6_port 307 = .ok (.iconst 0, 1) := dk_3 (dk_at dksX6_port_13 7 rfl rfl)
theorem dX6_port_308 : decode cX6_port 308 = .ok (.iconst 4, 1) := dk_7 (dk_at dksX6_port_13 8 rfl rfl)
theorem dX6_port_309 : decode cX6_port 309 = .ok (.invokevirtual 114, 3) := dk_182 0 114 (dk_at dksX6_port_13 9 rfl rfl)
theorem dX6_port_312 : decode cX6_port 312 = .ok (.aload_n 0, 1) := dk_42 (dk_at dksX6_port_13 12 rfl rfl)
theorem dX6_port_313 : decode cX6_port 313 = .ok (.invokevirtual 32, 3) := dk_182 0 32 (dk_at dksX6_port_13 13 rfl rfl)
theorem dX6_port_316 : decode cX6_port 316 = .ok (.aload 5, 2) := dk_25 5 (dk_at dksX6_port_13 16 rfl rfl)
theorem dX6_port_318 : decode cX6_port 318 = .ok (.dup, 1) := dk_89 (dk_at dksX6_port_13 18 rfl rfl)
theorem dX6_port_319 : decode cX6_port 319 = .ok (.getfield 228, 3) := dk_180 0 228 (dk_at dksX6_port_13 19 rfl rfl)
theorem dX6_port_322 : decode cX6_port 322 = .ok (.iconst 1, 1) := dk_4 (dk_at dksX6_port_13 22 rfl rfl)
theorem dX6_port_323 : decode cX6_port 323 = .ok (.iload 6, 2) := dk_21 6 (dk_at dksX6_port_14 0 rfl rfl)
theorem dX6_port_325 : decode cX6_port 325 = .ok (.ishl, 1) := dk_120 (dk_at dksX6_port_14 2 rfl rfl)
theorem dX6_port_326 : decode cX6_port 326 = .ok (.ior, 1) := dk_128 (dk_at dksX6_port_14 3 rfl rfl)
theorem dX6_port_327 : decode cX6_port 327 = .ok (.putfield 228, 3) := dk_181 0 228 (dk_at dksX6_port_14 4 rfl rfl)
theorem dX6_port_330 : decode cX6_port 330 = .ok (.aload_n 1, 1) := dk_43 (dk_at dksX6_port_14 7 rfl rfl)
theorem dX6_port_331 : decode cX6_port 331 = .ok (.getfield 190, 3) := dk_180 0 190 (dk_at dksX6_port_14 8 rfl rfl)
theorem dX6_port_334 : decode cX6_port 334 = .ok (.iload 6, 2) := dk_21 6 (dk_at dksX6_port_14 11 rfl rfl)
theorem dX6_port_336 : decode cX6_port 336 = .ok (.invokevirtual 222, 3) := dk_182 0 222 (dk_at dksX6_port_14 13 rfl rfl)
theorem dX6_port_339 : decode cX6_port 339 = .ok (.checkcast 226, 3) := dk_192 0 226 (dk_at dksX6_port_14 16 rfl rfl)
theorem dX6_port_342 : decode cX6_port 342 = .ok (.dup, 1) := dk_89 (dk_at dksX6_port_14 19 rfl rfl)
theorem dX6_port_343 : decode cX6_port 343 = .ok (.getfield 228, 3) := dk_180 0 228 (dk_at dksX6_port_14 20 rfl rfl)
theorem dX6_port_346 : decode cX6_port 346 = .ok (.iconst 1, 1) := dk_4 (dk_at dksX6_port_14 23 rfl rfl)
theorem dX6_port_347 : decode cX6_port 347 = .ok (.iload 4, 2) := dk_21 4 (dk_at dksX6_port_15 0 rfl rfl)
theorem dX6_port_349 : decode cX6_port 349 = .ok (.ishl, 1) := dk_120 (dk_at dksX6_port_15 2 rfl rfl)
theorem dX6_port_350 : decode cX6_port 350 = .ok (.ior, 1) := dk_128 (dk_at dksX6_port_15 3 rfl rfl)
theorem dX6_port_351 : decode cX6_port 351 = .ok (.putfield 228, 3) := dk_181 0 228 (dk_at dksX6_port_15 4 rfl rfl)
theorem dX6_port_354 : decode cX6_port 354 = .ok (.goto 254, 3) := dk_167 0 254 (dk_at dksX6_port_15 7 rfl rfl)
theorem dX6_port_357 : decode cX6_port 357 = .ok (.aload_n 0, 1) := dk_42 (dk_at dksX6_port_15 10 rfl rfl)
theorem dX6_port_358 : decode cX6_port 358 = .ok (.ldc 231, 2) := dk_18 231 (dk_at dksX6_port_15 11 rfl rfl)
theorem dX6_port_360 : decode cX6_port 360 = .ok (.invokevirtual 110, 3) := dk_182 0 110 (dk_at dksX6_port_15 13 rfl rfl)
theorem dX6_port_363 : decode cX6_port 363 = .ok (.ifCond .eq 34, 3) := dk_153 0 34 (dk_at dksX6_port_15 16 rfl rfl)
theorem dX6_port_366 : decode cX6_port 366 = .ok (.aload_n 0, 1) := dk_42 (dk_at dksX6_port_15 19 rfl rfl)
theorem dX6_port_367 : decode cX6_port 367 = .ok (.invokevirtual 32, 3) := dk_182 0 32 (dk_at dksX6_port_15 20 rfl rfl)
theorem dX6_port_370 : decode cX6_port 370 = .ok (.aload_n 0, 1) := dk_42 (dk_at dksX6_port_15 23 rfl rfl)
theorem dX6_port_371 : decode cX6_port 371 = .ok (.aload_n 0, 1) := dk_42 (dk_at dksX6_port_16 0 rfl rfl)
theorem dX6_port_372 : decode cX6_port 372 = .ok (.getfield 17, 3) := dk_180 0 17 (dk_at dksX6_port_16 1 rfl rfl)
theorem dX6_port_375 : decode cX6_port 375 = .ok (.invokevirtual 233, 3) := dk_182 0 233 (dk_at dksX6_port_16 4 rfl rfl)
theorem dX6_port_378 : decode cX6_port 378 = .ok (.istore 4, 2) := dk_54 4 (dk_at dksX6_port_16 7 rfl rfl)
theorem dX6_port_380 : decode cX6_port 380 = .ok (.aload_n 1, 1) := dk_43 (dk_at dksX6_port_16 9 rfl rfl)
theorem dX6_port_381 : decode cX6_port 381 = .ok (.getfield 237, 3) := dk_180 0 237 (dk_at dksX6_port_16 10 rfl rfl)
theorem dX6_port_384 : decode cX6_port 384 = .ok (.iload 4, 2) := dk_21 4 (dk_at dksX6_port_16 13 rfl rfl)
theorem dX6_port_386 : decode cX6_port 386 = .ok (.aload_n 0, 1) := dk_42 (dk_at dksX6_port_16 15 rfl rfl)
theorem dX6_port_387 : decode cX6_port 387 = .ok (.iconst 0, 1) := dk_3 (dk_at dksX6_port_16 16 rfl rfl)
theorem dX6_port_388 : decode cX6_port 388 = .ok (.bipush 20, 2) := dk_16 20 (dk_at dksX6_port_16 17 rfl rfl)
theorem dX6_port_390 : decode cX6_port 390 = .ok (.invokevirtual 184, 3) := dk_182 0 184 (dk_at dksX6_port_16 19 rfl rfl)
theorem dX6_port_393 : decode cX6_port 393 = .ok (.iastore, 1) := dk_79 (dk_at dksX6_port_16 22 rfl rfl)
theorem dX6_port_394 : decode cX6_port 394 = .ok (.goto 214, 3) := dk_167 0 214 (dk_at dksX6_port_17 0 rfl rfl)
theorem dX6_port_397 : decode cX6_port 397 = .ok (.aload_n 0, 1) := dk_42 (dk_at dksX6_port_17 3 rfl rfl)
theorem dX6_port_398 : decode cX6_port 398 = .ok (.ldc 240, 2) := dk_18 240 (dk_at dksX6_port_17 4 rfl rfl)
theorem dX6_port_400 : decode cX6_port 400 = .ok (.invokevirtual 110, 3) := dk_182 0 110 (dk_at dksX6_port_17 6 rfl rfl)
theorem dX6_port_403 : decode cX6_port 403 = .ok (.ifCond .eq 34, 3) := dk_153 0 34 (dk_at dksX6_port_17 9 rfl rfl)
theorem dX6_port_406 : decode cX6_port 406 = .ok (.aload_n 0, 1) := dk_42 (dk_at dksX6_port_17 12 rfl rfl)
theorem dX6_port_407 : decode cX6_port 407 = .ok (.invokevirtual 32, 3) := dk_182 0 32 (dk_at dksX6_port_17 13 rfl rfl)
theorem dX6_port_410 : decode cX6_port 410 = .ok (.aload_n 0, 1) := dk_42 (dk_at dksX6_port_17 16 rfl rfl)
theorem dX6_port_411 : decode cX6_port 411 = .ok (.aload_n 0, 1) := dk_42 (dk_at dksX6_port_17 17 rfl rfl)
theorem dX6_port_412 : decode cX6_port 412 = .ok (.getfield 21, 3) := dk_180 0 21 (dk_at dksX6_port_17 18 rfl rfl)
theorem dX6_port_415 : decode cX6_port 415 = .ok (.invokevirtual 233, 3) := dk_182 0 233 (dk_at dksX6_port_17 21 rfl rfl)
theorem dX6_port_418 : decode cX6_port 418 = .ok (.istore 4, 2) := dk_54 4 (dk_at dksX6_port_18 0 rfl rfl)
theorem dX6_port_420 : decode cX6_port 420 = .ok (.aload_n 1, 1) := dk_43 (dk_at dksX6_port_18 2 rfl rfl)
theorem dX6_port_421 : decode cX6_port 421 = .ok (.getfield 242, 3) := dk_180 0 242 (dk_at dksX6_port_18 3 rfl rfl)
theorem dX6_port_424 : decode cX6_port 424 = .ok (.iload 4, 2) := dk_21 4 (dk_at dksX6_port_18 6 rfl rfl)
theorem dX6_port_426 : decode cX6_port 426 = .ok (.aload_n 0, 1) := dk_42 (dk_at dksX6_port_18 8 rfl rfl)
theorem dX6_port_427 : decode cX6_port 427 = .ok (.iconst 0, 1) := dk_3 (dk_at dksX6_port_18 9 rfl rfl)
theorem dX6_port_428 : decode cX6_port 428 = .ok (.bipush 99, 2) := dk_16 99 (dk_at dksX6_port_18 10 rfl rfl)
theorem dX6_port_430 : decode cX6_port 430 = .ok (.invokevirtual 184, 3) := dk_182 0 184 (dk_at dksX6_port_18 12 rfl rfl)
theorem dX6_port_433 : decode cX6_port 433 = .ok (.iastore, 1) := dk_79 (dk_at dksX6_port_18 15 rfl rfl)
theorem dX6_port_434 : decode cX6_port 434 = .ok (.goto 174, 3) := dk_167 0 174 (dk_at dksX6_port_18 16 rfl rfl)
theorem dX6_port_437 : decode cX6_port 437 = .ok (.aload_n 0, 1) := dk_42 (dk_at dksX6_port_18 19 rfl rfl)
theorem dX6_port_438 : decode cX6_port 438 = .ok (.ldc 245, 2) := dk_18 245 (dk_at dksX6_port_18 20 rfl rfl)
theorem dX6_port_440 : decode cX6_port 440 = .ok (.invokevirtual 110, 3) := dk_182 0 110 (dk_at dksX6_port_19 0 rfl rfl)
theorem dX6_port_443 : decode cX6_port 443 = .ok (.ifCond .eq 99, 3) := dk_153 0 99 (dk_at dksX6_port_19 3 rfl rfl)
theorem dX6_port_446 : decode cX6_port 446 = .ok (.aload_n 0, 1) := dk_42 (dk_at dksX6_port_19 6 rfl rfl)
theorem dX6_port_447 : decode cX6_port 447 = .ok (.aload_n 1, 1) := dk_43 (dk_at dksX6_port_19 7 rfl rfl)
theorem dX6_port_448 : decode cX6_port 448 = .ok (.getfield 247, 3) := dk_180 0 247 (dk_at dksX6_port_19 8 rfl rfl)
theorem dX6_port_451 : decode cX6_port 451 = .ok (.bipush 6, 2) := dk_16 6 (dk_at dksX6_port_19 11 rfl rfl)
theorem dX6_port_453 : decode cX6_port 453 = .ok (.if_icmp .ge 7, 3) := dk_162 0 7 (dk_at dksX6_port_19 13 rfl rfl)
theorem dX6_port_456 : decode cX6_port 456 = .ok (.iconst 1, 1) := dk_4 (dk_at dksX6_port_19 16 rfl rfl)
theorem dX6_port_457 : decode cX6_port 457 = .ok (.goto 4, 3) := dk_167 0 4 (dk_at dksX6_port_19 17 rfl rfl)
theorem dX6_port_460 : decode cX6_port 460 = .ok (.iconst 0, 1) := dk_3 (dk_at dksX6_port_19 20 rfl rfl)
theorem dX6_port_461 : decode cX6_port 461 = .ok (.iconst 2, 1) := dk_5 (dk_at dksX6_port_19 21 rfl rfl)
theorem dX6_port_462 : decode cX6_port 462 = .ok (.invokevirtual 114, 3) := dk_182 0 114 (dk_at dksX6_port_20 0 rfl rfl)
theorem dX6_port_465 : decode cX6_port 465 = .ok (.aload_n 0, 1) := dk_42 (dk_at dksX6_port_20 3 rfl rfl)
theorem dX6_port_466 : decode cX6_port 466 = .ok (.invokevirtual 32, 3) := dk_182 0 32 (dk_at dksX6_port_20 4 rfl rfl)
theorem dX6_port_469 : decode cX6_port 469 = .ok (.aload_n 1, 1) := dk_43 (dk_at dksX6_port_20 7 rfl rfl)
theorem dX6_port_470 : decode cX6_port 470 = .ok (.getfield 250, 3) := dk_180 0 250 (dk_at dksX6_port_20 8 rfl rfl)
theorem dX6_port_473 : decode cX6_port 473 = .ok (.aload_n 1, 1) := dk_43 (dk_at dksX6_port_20 11 rfl rfl)
theorem dX6_port_474 : decode cX6_port 474 = .ok (.getfield 247, 3) := dk_180 0 247 (dk_at dksX6_port_20 12 rfl rfl)
theorem dX6_port_477 : decode cX6_port 477 = .ok (.aload_n 0, 1) := dk_42 (dk_at dksX6_port_20 15 rfl rfl)
theorem dX6_port_478 : decode cX6_port 478 = .ok (.aload_n 1, 1) := dk_43 (dk_at dksX6_port_20 16 rfl rfl)
theorem dX6_port_479 : decode cX6_port 479 = .ok (.getfield 176, 3) := dk_180 0 176 (dk_at dksX6_port_20 17 rfl rfl)
theorem dX6_port_482 : decode cX6_port 482 = .ok (.invokevirtual 180, 3) := dk_182 0 180 (dk_at dksX6_port_20 20 rfl rfl)
theorem dX6_port_485 : decode cX6_port 485 = .ok (.invokevirtual 193, 3) := dk_182 0 193 (dk_at dksX6_port_21 0 rfl rfl)
theorem dX6_port_488 : decode cX6_port 488 = .ok (.iastore, 1) := dk_79 (dk_at dksX6_port_21 3 rfl rfl)
theorem dX6_port_489 : decode cX6_port 489 = .ok (.aload_n 1, 1) := dk_43 (dk_at dksX6_port_21 4 rfl rfl)
theorem dX6_port_490 : decode cX6_port 490 = .ok (.getfield 253, 3) := dk_180 0 253 (dk_at dksX6_port_21 5 rfl rfl)
theorem dX6_port_493 : decode cX6_port 493 = .ok (.aload_n 1, 1) := dk_43 (dk_at dksX6_port_21 8 rfl rfl)
theorem dX6_port_494 : decode cX6_port 494 = .ok (.getfield 247, 3) := dk_180 0 247 (dk_at dksX6_port_21 9 rfl rfl)
theorem dX6_port_497 : decode cX6_port 497 = .ok (.aload_n 0, 1) := dk_42 (dk_at dksX6_port_21 12 rfl rfl)
theorem dX6_port_498 : decode cX6_port 498 = .ok (.iconst 0, 1) := dk_3 (dk_at dksX6_port_21 13 rfl rfl)
theorem dX6_port_499 : decode cX6_port 499 = .ok (.bipush 23, 2) := dk_16 23 (dk_at dksX6_port_21 14 rfl rfl)
theorem dX6_port_501 : decode cX6_port 501 = .ok (.invokevirtual 184, 3) := dk_182 0 184 (dk_at dksX6_port_21 16 rfl rfl)
theorem dX6_port_504 : decode cX6_port 504 = .ok (.iastore, 1) := dk_79 (dk_at dksX6_port_21 19 rfl rfl)
theorem dX6_port_505 : decode cX6_port 505 = .ok (.aload_n 1, 1) := dk_43 (dk_at dksX6_port_21 20 rfl rfl)
theorem dX6_port_506 : decode cX6_port 506 = .ok (.getfield 256, 3) := dk_180 1 0 (dk_at dksX6_port_21 21 rfl rfl)
theorem dX6_port_509 : decode cX6_port 509 = .ok (.aload_n 1, 1) := dk_43 (dk_at dksX6_port_22 0 rfl rfl)
theorem dX6_port_510 : decode cX6_port 510 = .ok (.getfield 247, 3) := dk_180 0 247 (dk_at dksX6_port_22 1 rfl rfl)
theorem dX6_port_513 : decode cX6_port 513 = .ok (.aload_n 0, 1) := dk_42 (dk_at dksX6_port_22 4 rfl rfl)
theorem dX6_port_514 : decode cX6_port 514 = .ok (.aload_n 1, 1) := dk_43 (dk_at dksX6_port_22 5 rfl rfl)
theorem dX6_port_515 : decode cX6_port 515 = .ok (.getfield 253, 3) := dk_180 0 253 (dk_at dksX6_port_22 6 rfl rfl)
theorem dX6_port_518 : decode cX6_port 518 = .ok (.aload_n 1, 1) := dk_43 (dk_at dksX6_port_22 9 rfl rfl)
theorem dX6_port_519 : decode cX6_port 519 = .ok (.getfield 247, 3) := dk_180 0 247 (dk_at dksX6_port_22 10 rfl rfl)
theorem dX6_port_522 : decode cX6_port 522 = .ok (.iaload, 1) := dk_46 (dk_at dksX6_port_22 13 rfl rfl)
theorem dX6_port_523 : decode cX6_port 523 = .ok (.bipush 23, 2) := dk_16 23 (dk_at dksX6_port_22 14 rfl rfl)
theorem dX6_port_525 : decode cX6_port 525 = .ok (.invokevirtual 184, 3) := dk_182 0 184 (dk_at dksX6_port_22 16 rfl rfl)
theorem dX6_port_528 : decode cX6_port 528 = .ok (.iastore, 1) := dk_79 (dk_at dksX6_port_22 19 rfl rfl)
theorem dX6_port_529 : decode cX6_port 529 = .ok (.aload_n 1, 1) := dk_43 (dk_at dksX6_port_22 20 rfl rfl)
theorem dX6_port_530 : decode cX6_port 530 = .ok (.dup, 1) := dk_89 (dk_at dksX6_port_22 21 rfl rfl)
theorem dX6_port_531 : decode cX6_port 531 = .ok (.getfield 247, 3) := dk_180 0 247 (dk_at dksX6_port_23 0 rfl rfl)
theorem dX6_port_534 : decode cX6_port 534 = .ok (.iconst 1, 1) := dk_4 (dk_at dksX6_port_23 3 rfl rfl)
theorem dX6_port_535 : decode cX6_port 535 = .ok (.iadd, 1) := dk_96 (dk_at dksX6_port_23 4 rfl rfl)
theorem dX6_port_536 : decode cX6_port 536 = .ok (.putfield 247, 3) := dk_181 0 247 (dk_at dksX6_port_23 5 rfl rfl)
theorem dX6_port_539 : decode cX6_port 539 = .ok (.goto 69, 3) := dk_167 0 69 (dk_at dksX6_port_23 8 rfl rfl)
theorem dX6_port_542 : decode cX6_port 542 = .ok (.aload_n 0, 1) := dk_42 (dk_at dksX6_port_23 11 rfl rfl)
theorem dX6_port_543 : decode cX6_port 543 = .ok (.ldc_w 259, 3) := dk_19 1 3 (dk_at dksX6_port_23 12 rfl rfl)
theorem dX6_port_546 : decode cX6_port 546 = .ok (.invokevirtual 110, 3) := dk_182 0 110 (dk_at dksX6_port_23 15 rfl rfl)
theorem dX6_port_549 : decode cX6_port 549 = .ok (.ifCond .eq 54, 3) := dk_153 0 54 (dk_at dksX6_port_23 18 rfl rfl)
theorem dX6_port_552 : decode cX6_port 552 = .ok (.aload_n 0, 1) := dk_42 (dk_at dksX6_port_23 21 rfl rfl)
theorem dX6_port_553 : decode cX6_port 553 = .ok (.aload_n 0, 1) := dk_42 (dk_at dksX6_port_23 22 rfl rfl)
theorem dX6_port_554 : decode cX6_port 554 = .ok (.getfield 261, 3) := dk_180 1 5 (dk_at dksX6_port_24 0 rfl rfl)
theorem dX6_port_557 : decode cX6_port 557 = .ok (.ifCond .ne 7, 3) := dk_154 0 7 (dk_at dksX6_port_24 3 rfl rfl)
theorem dX6_port_560 : decode cX6_port 560 = .ok (.iconst 1, 1) := dk_4 (dk_at dksX6_port_24 6 rfl rfl)
theorem dX6_port_561 : decode cX6_port 561 = .ok (.goto 4, 3) := dk_167 0 4 (dk_at dksX6_port_24 7 rfl rfl)
theorem dX6_port_564 : decode cX6_port 564 = .ok (.iconst 0, 1) := dk_3 (dk_at dksX6_port_24 10 rfl rfl)
theorem dX6_port_565 : decode cX6_port 565 = .ok (.iconst 5, 1) := dk_8 (dk_at dksX6_port_24 11 rfl rfl)
theorem dX6_port_566 : decode cX6_port 566 = .ok (.invokevirtual 114, 3) := dk_182 0 114 (dk_at dksX6_port_24 12 rfl rfl)
theorem dX6_port_569 : decode cX6_port 569 = .ok (.aload_n 0, 1) := dk_42 (dk_at dksX6_port_24 15 rfl rfl)
theorem dX6_port_570 : decode cX6_port 570 = .ok (.iconst 1, 1) := dk_4 (dk_at dksX6_port_24 16 rfl rfl)
theorem dX6_port_571 : decode cX6_port 571 = .ok (.putfield 261, 3) := dk_181 1 5 (dk_at dksX6_port_24 17 rfl rfl)
theorem dX6_port_574 : decode cX6_port 574 = .ok (.aload_n 0, 1) := dk_42 (dk_at dksX6_port_24 20 rfl rfl)
theorem dX6_port_575 : decode cX6_port 575 = .ok (.invokevirtual 32, 3) := dk_182 0 32 (dk_at dksX6_port_24 21 rfl rfl)
theorem dX6_port_578 : decode cX6_port 578 = .ok (.aload_n 1, 1) := dk_43 (dk_at dksX6_port_25 0 rfl rfl)
theorem dX6_port_579 : decode cX6_port 579 = .ok (.aload_n 0, 1) := dk_42 (dk_at dksX6_port_25 1 rfl rfl)
theorem dX6_port_580 : decode cX6_port 580 = .ok (.iconst 0, 1) := dk_3 (dk_at dksX6_port_25 2 rfl rfl)
theorem dX6_port_581 : decode cX6_port 581 = .ok (.bipush 99, 2) := dk_16 99 (dk_at dksX6_port_25 3 rfl rfl)
theorem dX6_port_583 : decode cX6_port 583 = .ok (.invokevirtual 184, 3) := dk_182 0 184 (dk_at dksX6_port_25 5 rfl rfl)
theorem dX6_port_586 : decode cX6_port 586 = .ok (.putfield 264, 3) := dk_181 1 8 (dk_at dksX6_port_25 8 rfl rfl)
theorem dX6_port_589 : decode cX6_port 589 = .ok (.aload_n 1, 1) := dk_43 (dk_at dksX6_port_25 11 rfl rfl)
theorem dX6_port_590 : decode cX6_port 590 = .ok (.aload_n 0, 1) := dk_42 (dk_at dksX6_port_25 12 rfl rfl)
theorem dX6_port_591 : decode cX6_port 591 = .ok (.iconst 0, 1) := dk_3 (dk_at dksX6_port_25 13 rfl rfl)
theorem dX6_port_592 : decode cX6_port 592 = .ok (.bipush 99, 2) := dk_16 99 (dk_at dksX6_port_25 14 rfl rfl)
theorem dX6_port_594 : decode cX6_port 594 = .ok (.invokevirtual 184, 3) := dk_182 0 184 (dk_at dksX6_port_25 16 rfl rfl)
theorem dX6_port_597 : decode cX6_port 597 = .ok (.putfield 267, 3) := dk_181 1 11 (dk_at dksX6_port_25 19 rfl rfl)
theorem dX6_port_600 : decode cX6_port 600 = .ok (.goto 8, 3) := dk_167 0 8 (dk_at dksX6_port_26 0 rfl rfl)
theorem dX6_port_603 : decode cX6_port 603 = .ok (.aload_n 0, 1) := dk_42 (dk_at dksX6_port_26 3 rfl rfl)
theorem dX6_port_604 : decode cX6_port 604 = .ok (.aload_n 1, 1) := dk_43 (dk_at dksX6_port_26 4 rfl rfl)
theorem dX6_port_605 : decode cX6_port 605 = .ok (.invokevirtual 270, 3) := dk_182 1 14 (dk_at dksX6_port_26 5 rfl rfl)
theorem dX6_port_608 : decode cX6_port 608 = .ok (.aload_n 0, 1) := dk_42 (dk_at dksX6_port_26 8 rfl rfl)
theorem dX6_port_609 : decode cX6_port 609 = .ok (.ldc 97, 2) := dk_18 97 (dk_at dksX6_port_26 9 rfl rfl)
theorem dX6_port_611 : decode cX6_port 611 = .ok (.invokevirtual 273, 3) := dk_182 1 17 (dk_at dksX6_port_26 11 rfl rfl)
theorem dX6_port_614 : decode cX6_port 614 = .ok (.goto (-606), 3) := dk_167 253 162 (dk_at dksX6_port_26 14 rfl rfl)
theorem dX6_port_617 : decode cX6_port 617 = .ok (.aload_n 1, 1) := dk_43 (dk_at dksX6_port_26 17 rfl rfl)
theorem dX6_port_618 : decode cX6_port 618 = .ok (.areturn, 1) := dk_176 (dk_at dksX6_port_26 18 rfl rfl)
abbrev cX6_eel : ByteArray := prog_16_method_14_code
def yX6_eel : MethodName := ⟨RX6, "eel", "(Ljava/lang/String;)LEelPort$Eel;"⟩
def dkwX6_eel_3 : List UInt8 := [176]
abbrev dktX6_eel_3 : List UInt8 := dkwX6_eel_3 ++ []
def dkwX6_eel_2 : List UInt8 := [183, 0, 139, 176, 42, 18, 140, 182, 0, 99, 153, 0, 13, 187, 0, 142, 89, 183, 0, 144, 167, 0, 4, 1]
abbrev dktX6_eel_2 : List UInt8 := dkwX6_eel_2 ++ dktX6_eel_3
def dkwX6_eel_1 : List UInt8 := [153, 0, 11, 187, 0, 132, 89, 183, 0, 134, 176, 42, 18, 135, 182, 0, 99, 153, 0, 11, 187, 0, 137, 89]
abbrev dktX6_eel_1 : List UInt8 := dkwX6_eel_1 ++ dktX6_eel_2
def dkwX6_eel_0 : List UInt8 := [42, 18, 125, 182, 0, 99, 153, 0, 11, 187, 0, 127, 89, 183, 0, 129, 176, 42, 18, 130, 182, 0, 99]
abbrev dktX6_eel_0 : List UInt8 := dkwX6_eel_0 ++ dktX6_eel_1
theorem dksX6_eel_0 : cX6_eel.data.toList.drop 0 = dktX6_eel_0 := by decide +kernel
theorem dksX6_eel_1 : cX6_eel.data.toList.drop 23 = dktX6_eel_1 := dk_seg dksX6_eel_0 23 rfl rfl
theorem dksX6_eel_2 : cX6_eel.data.toList.drop 47 = dktX6_eel_2 := dk_seg dksX6_eel_1 24 rfl rfl
theorem dksX6_eel_3 : cX6_eel.data.toList.drop 71 = dktX6_eel_3 := dk_seg dksX6_eel_2 24 rfl rfl
theorem dX6_eel_0 : decode cX6_eel 0 = .ok (.aload_n 0, 1) := dk_42 (dk_at dksX6_eel_0 0 rfl rfl)
theorem dX6_eel_1 : decode cX6_eel 1 = .ok (.ldc 125, 2) := dk_18 125 (dk_at dksX6_eel_0 1 rfl rfl)
theorem dX6_eel_3 : decode cX6_eel 3 = .ok (.invokevirtual 99, 3) := dk_182 0 99 (dk_at dksX6_eel_0 3 rfl rfl)
theorem dX6_eel_6 : decode cX6_eel 6 = .ok (.ifCond .eq 11, 3) := dk_153 0 11 (dk_at dksX6_eel_0 6 rfl rfl)
theorem dX6_eel_9 : decode cX6_eel 9 = .ok (.new 127, 3) := dk_187 0 127 (dk_at dksX6_eel_0 9 rfl rfl)
theorem dX6_eel_12 : decode cX6_eel 12 = .ok (.dup, 1) := dk_89 (dk_at dksX6_eel_0 12 rfl rfl)
theorem dX6_eel_13 : decode cX6_eel 13 = .ok (.invokespecial 129, 3) := dk_183 0 129 (dk_at dksX6_eel_0 13 rfl rfl)
theorem dX6_eel_16 : decode cX6_eel 16 = .ok (.areturn, 1) := dk_176 (dk_at dksX6_eel_0 16 rfl rfl)
theorem dX6_eel_17 : decode cX6_eel 17 = .ok (.aload_n 0, 1) := dk_42 (dk_at dksX6_eel_0 17 rfl rfl)
theorem dX6_eel_18 : decode cX6_eel 18 = .ok (.ldc 130, 2) := dk_18 130 (dk_at dksX6_eel_0 18 rfl rfl)
theorem dX6_eel_20 : decode cX6_eel 20 = .ok (.invokevirtual 99, 3) := dk_182 0 99 (dk_at dksX6_eel_0 20 rfl rfl)
theorem dX6_eel_23 : decode cX6_eel 23 = .ok (.ifCond .eq 11, 3) := dk_153 0 11 (dk_at dksX6_eel_1 0 rfl rfl)
theorem dX6_eel_26 : decode cX6_eel 26 = .ok (.new 132, 3) := dk_187 0 132 (dk_at dksX6_eel_1 3 rfl rfl)
theorem dX6_eel_29 : decode cX6_eel 29 = .ok (.dup, 1) := dk_89 (dk_at dksX6_eel_1 6 rfl rfl)
theorem dX6_eel_30 : decode cX6_eel 30 = .ok (.invokespecial 134, 3) := dk_183 0 134 (dk_at dksX6_eel_1 7 rfl rfl)
theorem dX6_eel_33 : decode cX6_eel 33 = .ok (.areturn, 1) := dk_176 (dk_at dksX6_eel_1 10 rfl rfl)
theorem dX6_eel_34 : decode cX6_eel 34 = .ok (.aload_n 0, 1) := dk_42 (dk_at dksX6_eel_1 11 rfl rfl)
theorem dX6_eel_35 : decode cX6_eel 35 = .ok (.ldc 135, 2) := dk_18 135 (dk_at dksX6_eel_1 12 rfl rfl)
theorem dX6_eel_37 : decode cX6_eel 37 = .ok (.invokevirtual 99, 3) := dk_182 0 99 (dk_at dksX6_eel_1 14 rfl rfl)
theorem dX6_eel_40 : decode cX6_eel 40 = .ok (.ifCond .eq 11, 3) := dk_153 0 11 (dk_at dksX6_eel_1 17 rfl rfl)
theorem dX6_eel_43 : decode cX6_eel 43 = .ok (.new 137, 3) := dk_187 0 137 (dk_at dksX6_eel_1 20 rfl rfl)
theorem dX6_eel_46 : decode cX6_eel 46 = .ok (.dup, 1) := dk_89 (dk_at dksX6_eel_1 23 rfl rfl)
theorem dX6_eel_47 : decode cX6_eel 47 = .ok (.invokespecial 139, 3) := dk_183 0 139 (dk_at dksX6_eel_2 0 rfl rfl)
theorem dX6_eel_50 : decode cX6_eel 50 = .ok (.areturn, 1) := dk_176 (dk_at dksX6_eel_2 3 rfl rfl)
theorem dX6_eel_51 : decode cX6_eel 51 = .ok (.aload_n 0, 1) := dk_42 (dk_at dksX6_eel_2 4 rfl rfl)
theorem dX6_eel_52 : decode cX6_eel 52 = .ok (.ldc 140, 2) := dk_18 140 (dk_at dksX6_eel_2 5 rfl rfl)
theorem dX6_eel_54 : decode cX6_eel 54 = .ok (.invokevirtual 99, 3) := dk_182 0 99 (dk_at dksX6_eel_2 7 rfl rfl)
theorem dX6_eel_57 : decode cX6_eel 57 = .ok (.ifCond .eq 13, 3) := dk_153 0 13 (dk_at dksX6_eel_2 10 rfl rfl)
theorem dX6_eel_60 : decode cX6_eel 60 = .ok (.new 142, 3) := dk_187 0 142 (dk_at dksX6_eel_2 13 rfl rfl)
theorem dX6_eel_63 : decode cX6_eel 63 = .ok (.dup, 1) := dk_89 (dk_at dksX6_eel_2 16 rfl rfl)
theorem dX6_eel_64 : decode cX6_eel 64 = .ok (.invokespecial 144, 3) := dk_183 0 144 (dk_at dksX6_eel_2 17 rfl rfl)
theorem dX6_eel_67 : decode cX6_eel 67 = .ok (.goto 4, 3) := dk_167 0 4 (dk_at dksX6_eel_2 20 rfl rfl)
theorem dX6_eel_70 : decode cX6_eel 70 = .ok (.aconst_null, 1) := dk_1 (dk_at dksX6_eel_2 23 rfl rfl)
theorem dX6_eel_71 : decode cX6_eel 71 = .ok (.areturn, 1) := dk_176 (dk_at dksX6_eel_3 0 rfl rfl)
abbrev cX6_ship : ByteArray := prog_16_method_15_code
def yX6_ship : MethodName := ⟨RX6, "ship", "(Ljava/lang/String;)LEelPort$Ship;"⟩
def dkwX6_ship_3 : List UInt8 := [176]
abbrev dktX6_ship_3 : List UInt8 := dkwX6_ship_3 ++ []
def dkwX6_ship_2 : List UInt8 := [183, 0, 159, 176, 42, 18, 160, 182, 0, 99, 153, 0, 13, 187, 0, 162, 89, 183, 0, 164, 167, 0, 4, 1]
abbrev dktX6_ship_2 : List UInt8 := dkwX6_ship_2 ++ dktX6_ship_3
def dkwX6_ship_1 : List UInt8 := [153, 0, 11, 187, 0, 152, 89, 183, 0, 154, 176, 42, 18, 155, 182, 0, 99, 153, 0, 11, 187, 0, 157, 89]
abbrev dktX6_ship_1 : List UInt8 := dkwX6_ship_1 ++ dktX6_ship_2
def dkwX6_ship_0 : List UInt8 := [42, 18, 145, 182, 0, 99, 153, 0, 11, 187, 0, 147, 89, 183, 0, 149, 176, 42, 18, 150, 182, 0, 99]
abbrev dktX6_ship_0 : List UInt8 := dkwX6_ship_0 ++ dktX6_ship_1
theorem dksX6_ship_0 : cX6_ship.data.toList.drop 0 = dktX6_ship_0 := by decide +kernel
theorem dksX6_ship_1 : cX6_ship.data.toList.drop 23 = dktX6_ship_1 := dk_seg dksX6_ship_0 23 rfl rfl
theorem dksX6_ship_2 : cX6_ship.data.toList.drop 47 = dktX6_ship_2 := dk_seg dksX6_ship_1 24 rfl rfl
theorem dksX6_ship_3 : cX6_ship.data.toList.drop 71 = dktX6_ship_3 := dk_seg dksX6_ship_2 24 rfl rfl
theorem dX6_ship_0 : decode cX6_ship 0 = .ok (.aload_n 0, 1) := dk_42 (dk_at dksX6_ship_0 0 rfl rfl)
theorem dX6_ship_1 : decode cX6_ship 1 = .ok (.ldc 145, 2) := dk_18 145 (dk_at dksX6_ship_0 1 rfl rfl)
theorem dX6_ship_3 : decode cX6_ship 3 = .ok (.invokevirtual 99, 3) := dk_182 0 99 (dk_at dksX6_ship_0 3 rfl rfl)
theorem dX6_ship_6 : decode cX6_ship 6 = .ok (.ifCond .eq 11, 3) := dk_153 0 11 (dk_at dksX6_ship_0 6 rfl rfl)
theorem dX6_ship_9 : decode cX6_ship 9 = .ok (.new 147, 3) := dk_187 0 147 (dk_at dksX6_ship_0 9 rfl rfl)
theorem dX6_ship_12 : decode cX6_ship 12 = .ok (.dup, 1) := dk_89 (dk_at dksX6_ship_0 12 rfl rfl)
theorem dX6_ship_13 : decode cX6_ship 13 = .ok (.invokespecial 149, 3) := dk_183 0 149 (dk_at dksX6_ship_0 13 rfl rfl)
theorem dX6_ship_16 : decode cX6_ship 16 = .ok (.areturn, 1) := dk_176 (dk_at dksX6_ship_0 16 rfl rfl)
theorem dX6_ship_17 : decode cX6_ship 17 = .ok (.aload_n 0, 1) := dk_42 (dk_at dksX6_ship_0 17 rfl rfl)
theorem dX6_ship_18 : decode cX6_ship 18 = .ok (.ldc 150, 2) := dk_18 150 (dk_at dksX6_ship_0 18 rfl rfl)
theorem dX6_ship_20 : decode cX6_ship 20 = .ok (.invokevirtual 99, 3) := dk_182 0 99 (dk_at dksX6_ship_0 20 rfl rfl)
theorem dX6_ship_23 : decode cX6_ship 23 = .ok (.ifCond .eq 11, 3) := dk_153 0 11 (dk_at dksX6_ship_1 0 rfl rfl)
theorem dX6_ship_26 : decode cX6_ship 26 = .ok (.new 152, 3) := dk_187 0 152 (dk_at dksX6_ship_1 3 rfl rfl)
theorem dX6_ship_29 : decode cX6_ship 29 = .ok (.dup, 1) := dk_89 (dk_at dksX6_ship_1 6 rfl rfl)
theorem dX6_ship_30 : decode cX6_ship 30 = .ok (.invokespecial 154, 3) := dk_183 0 154 (dk_at dksX6_ship_1 7 rfl rfl)
theorem dX6_ship_33 : decode cX6_ship 33 = .ok (.areturn, 1) := dk_176 (dk_at dksX6_ship_1 10 rfl rfl)
theorem dX6_ship_34 : decode cX6_ship 34 = .ok (.aload_n 0, 1) := dk_42 (dk_at dksX6_ship_1 11 rfl rfl)
theorem dX6_ship_35 : decode cX6_ship 35 = .ok (.ldc 155, 2) := dk_18 155 (dk_at dksX6_ship_1 12 rfl rfl)
theorem dX6_ship_37 : decode cX6_ship 37 = .ok (.invokevirtual 99, 3) := dk_182 0 99 (dk_at dksX6_ship_1 14 rfl rfl)
theorem dX6_ship_40 : decode cX6_ship 40 = .ok (.ifCond .eq 11, 3) := dk_153 0 11 (dk_at dksX6_ship_1 17 rfl rfl)
theorem dX6_ship_43 : decode cX6_ship 43 = .ok (.new 157, 3) := dk_187 0 157 (dk_at dksX6_ship_1 20 rfl rfl)
theorem dX6_ship_46 : decode cX6_ship 46 = .ok (.dup, 1) := dk_89 (dk_at dksX6_ship_1 23 rfl rfl)
theorem dX6_ship_47 : decode cX6_ship 47 = .ok (.invokespecial 159, 3) := dk_183 0 159 (dk_at dksX6_ship_2 0 rfl rfl)
theorem dX6_ship_50 : decode cX6_ship 50 = .ok (.areturn, 1) := dk_176 (dk_at dksX6_ship_2 3 rfl rfl)
theorem dX6_ship_51 : decode cX6_ship 51 = .ok (.aload_n 0, 1) := dk_42 (dk_at dksX6_ship_2 4 rfl rfl)
theorem dX6_ship_52 : decode cX6_ship 52 = .ok (.ldc 160, 2) := dk_18 160 (dk_at dksX6_ship_2 5 rfl rfl)
theorem dX6_ship_54 : decode cX6_ship 54 = .ok (.invokevirtual 99, 3) := dk_182 0 99 (dk_at dksX6_ship_2 7 rfl rfl)
theorem dX6_ship_57 : decode cX6_ship 57 = .ok (.ifCond .eq 13, 3) := dk_153 0 13 (dk_at dksX6_ship_2 10 rfl rfl)
theorem dX6_ship_60 : decode cX6_ship 60 = .ok (.new 162, 3) := dk_187 0 162 (dk_at dksX6_ship_2 13 rfl rfl)
theorem dX6_ship_63 : decode cX6_ship 63 = .ok (.dup, 1) := dk_89 (dk_at dksX6_ship_2 16 rfl rfl)
theorem dX6_ship_64 : decode cX6_ship 64 = .ok (.invokespecial 164, 3) := dk_183 0 164 (dk_at dksX6_ship_2 17 rfl rfl)
theorem dX6_ship_67 : decode cX6_ship 67 = .ok (.goto 4, 3) := dk_167 0 4 (dk_at dksX6_ship_2 20 rfl rfl)
theorem dX6_ship_70 : decode cX6_ship 70 = .ok (.aconst_null, 1) := dk_1 (dk_at dksX6_ship_2 23 rfl rfl)
theorem dX6_ship_71 : decode cX6_ship 71 = .ok (.areturn, 1) := dk_176 (dk_at dksX6_ship_3 0 rfl rfl)
abbrev cX6_check : ByteArray := prog_16_method_7_code
def yX6_check : MethodName := ⟨RX6, "check", "(ZI)V"⟩
def dkwX6_check_0 : List UInt8 := [27, 154, 0, 16, 187, 0, 105, 89, 28, 42, 180, 0, 42, 183, 0, 107, 191, 177]
abbrev dktX6_check_0 : List UInt8 := dkwX6_check_0 ++ []
theorem dksX6_check_0 : cX6_check.data.toList.drop 0 = dktX6_check_0 := by decide +kernel
theorem dX6_check_0 : decode cX6_check 0 = .ok (.iload_n 1, 1) := dk_27 (dk_at dksX6_check_0 0 rfl rfl)
theorem dX6_check_1 : decode cX6_check 1 = .ok (.ifCond .ne 16, 3) := dk_154 0 16 (dk_at dksX6_check_0 1 rfl rfl)
theorem dX6_check_4 : decode cX6_check 4 = .ok (.new 105, 3) := dk_187 0 105 (dk_at dksX6_check_0 4 rfl rfl)
theorem dX6_check_7 : decode cX6_check 7 = .ok (.dup, 1) := dk_89 (dk_at dksX6_check_0 7 rfl rfl)
theorem dX6_check_8 : decode cX6_check 8 = .ok (.iload_n 2, 1) := dk_28 (dk_at dksX6_check_0 8 rfl rfl)
theorem dX6_check_9 : decode cX6_check 9 = .ok (.aload_n 0, 1) := dk_42 (dk_at dksX6_check_0 9 rfl rfl)
theorem dX6_check_10 : decode cX6_check 10 = .ok (.getfield 42, 3) := dk_180 0 42 (dk_at dksX6_check_0 10 rfl rfl)
theorem dX6_check_13 : decode cX6_check 13 = .ok (.invokespecial 107, 3) := dk_183 0 107 (dk_at dksX6_check_0 13 rfl rfl)
theorem dX6_check_16 : decode cX6_check 16 = .ok (.athrow, 1) := dk_191 (dk_at dksX6_check_0 16 rfl rfl)
theorem dX6_check_17 : decode cX6_check 17 = .ok (.return_, 1) := dk_177 (dk_at dksX6_check_0 17 rfl rfl)
abbrev cX6_number : ByteArray := prog_16_method_10_code
def yX6_number : MethodName := ⟨RX6, "number", "(II)I"⟩
def dkwX6_number_0 : List UInt8 := [42, 27, 28, 182, 0, 118, 62, 42, 182, 0, 32, 29, 172]
abbrev dktX6_number_0 : List UInt8 := dkwX6_number_0 ++ []
theorem dksX6_number_0 : cX6_number.data.toList.drop 0 = dktX6_number_0 := by decide +kernel
theorem dX6_number_0 : decode cX6_number 0 = .ok (.aload_n 0, 1) := dk_42 (dk_at dksX6_number_0 0 rfl rfl)
theorem dX6_number_1 : decode cX6_number 1 = .ok (.iload_n 1, 1) := dk_27 (dk_at dksX6_number_0 1 rfl rfl)
theorem dX6_number_2 : decode cX6_number 2 = .ok (.iload_n 2, 1) := dk_28 (dk_at dksX6_number_0 2 rfl rfl)
theorem dX6_number_3 : decode cX6_number 3 = .ok (.invokevirtual 118, 3) := dk_182 0 118 (dk_at dksX6_number_0 3 rfl rfl)
theorem dX6_number_6 : decode cX6_number 6 = .ok (.istore_n 3, 1) := dk_62 (dk_at dksX6_number_0 6 rfl rfl)
theorem dX6_number_7 : decode cX6_number 7 = .ok (.aload_n 0, 1) := dk_42 (dk_at dksX6_number_0 7 rfl rfl)
theorem dX6_number_8 : decode cX6_number 8 = .ok (.invokevirtual 32, 3) := dk_182 0 32 (dk_at dksX6_number_0 8 rfl rfl)
theorem dX6_number_11 : decode cX6_number 11 = .ok (.iload_n 3, 1) := dk_29 (dk_at dksX6_number_0 11 rfl rfl)
theorem dX6_number_12 : decode cX6_number 12 = .ok (.ireturn, 1) := dk_172 (dk_at dksX6_number_0 12 rfl rfl)
abbrev cX6_numberHere : ByteArray := prog_16_method_9_code
def yX6_numberHere : MethodName := ⟨RX6, "numberHere", "(II)I"⟩
def dkwX6_numberHere_2 : List UInt8 := [167, 0, 4, 3, 5, 182, 0, 114, 42, 180, 0, 85, 172]
abbrev dktX6_numberHere_2 : List UInt8 := dkwX6_numberHere_2 ++ []
def dkwX6_numberHere_1 : List UInt8 := [180, 0, 45, 154, 0, 23, 42, 180, 0, 85, 27, 161, 0, 15, 42, 180, 0, 85, 28, 163, 0, 7, 4]
abbrev dktX6_numberHere_1 : List UInt8 := dkwX6_numberHere_1 ++ dktX6_numberHere_2
def dkwX6_numberHere_0 : List UInt8 := [42, 42, 180, 0, 55, 178, 0, 88, 166, 0, 7, 4, 167, 0, 4, 3, 4, 182, 0, 114, 42, 42]
abbrev dktX6_numberHere_0 : List UInt8 := dkwX6_numberHere_0 ++ dktX6_numberHere_1
theorem dksX6_numberHere_0 : cX6_numberHere.data.toList.drop 0 = dktX6_numberHere_0 := by decide +kernel
theorem dksX6_numberHere_1 : cX6_numberHere.data.toList.drop 22 = dktX6_numberHere_1 := dk_seg dksX6_numberHere_0 22 rfl rfl
theorem dksX6_numberHere_2 : cX6_numberHere.data.toList.drop 45 = dktX6_numberHere_2 := dk_seg dksX6_numberHere_1 23 rfl rfl
theorem dX6_numberHere_0 : decode cX6_numberHere 0 = .ok (.aload_n 0, 1) := dk_42 (dk_at dksX6_numberHere_0 0 rfl rfl)
theorem dX6_numberHere_1 : decode cX6_numberHere 1 = .ok (.aload_n 0, 1) := dk_42 (dk_at dksX6_numberHere_0 1 rfl rfl)
theorem dX6_numberHere_2 : decode cX6_numberHere 2 = .ok (.getfield 55, 3) := dk_180 0 55 (dk_at dksX6_numberHere_0 2 rfl rfl)
theorem dX6_numberHere_5 : decode cX6_numberHere 5 = .ok (.getstatic 88, 3) := dk_178 0 88 (dk_at dksX6_numberHere_0 5 rfl rfl)
theorem dX6_numberHere_8 : decode cX6_numberHere 8 = .ok (.if_acmp .ne 7, 3) := dk_166 0 7 (dk_at dksX6_numberHere_0 8 rfl rfl)
theorem dX6_numberHere_11 : decode cX6_numberHere 11 = .ok (.iconst 1, 1) := dk_4 (dk_at dksX6_numberHere_0 11 rfl rfl)
theorem dX6_numberHere_12 : decode cX6_numberHere 12 = .ok (.goto 4, 3) := dk_167 0 4 (dk_at dksX6_numberHere_0 12 rfl rfl)
theorem dX6_numberHere_15 : decode cX6_numberHere 15 = .ok (.iconst 0, 1) := dk_3 (dk_at dksX6_numberHere_0 15 rfl rfl)
theorem dX6_numberHere_16 : decode cX6_numberHere 16 = .ok (.iconst 1, 1) := dk_4 (dk_at dksX6_numberHere_0 16 rfl rfl)
theorem dX6_numberHere_17 : decode cX6_numberHere 17 = .ok (.invokevirtual 114, 3) := dk_182 0 114 (dk_at dksX6_numberHere_0 17 rfl rfl)
theorem dX6_numberHere_20 : decode cX6_numberHere 20 = .ok (.aload_n 0, 1) := dk_42 (dk_at dksX6_numberHere_0 20 rfl rfl)
theorem dX6_numberHere_21 : decode cX6_numberHere 21 = .ok (.aload_n 0, 1) := dk_42 (dk_at dksX6_numberHere_0 21 rfl rfl)
theorem dX6_numberHere_22 : decode cX6_numberHere 22 = .ok (.getfield 45, 3) := dk_180 0 45 (dk_at dksX6_numberHere_1 0 rfl rfl)
theorem dX6_numberHere_25 : decode cX6_numberHere 25 = .ok (.ifCond .ne 23, 3) := dk_154 0 23 (dk_at dksX6_numberHere_1 3 rfl rfl)
theorem dX6_numberHere_28 : decode cX6_numberHere 28 = .ok (.aload_n 0, 1) := dk_42 (dk_at dksX6_numberHere_1 6 rfl rfl)
theorem dX6_numberHere_29 : decode cX6_numberHere 29 = .ok (.getfield 85, 3) := dk_180 0 85 (dk_at dksX6_numberHere_1 7 rfl rfl)
theorem dX6_numberHere_32 : decode cX6_numberHere 32 = .ok (.iload_n 1, 1) := dk_27 (dk_at dksX6_numberHere_1 10 rfl rfl)
theorem dX6_numberHere_33 : decode cX6_numberHere 33 = .ok (.if_icmp .lt 15, 3) := dk_161 0 15 (dk_at dksX6_numberHere_1 11 rfl rfl)
theorem dX6_numberHere_36 : decode cX6_numberHere 36 = .ok (.aload_n 0, 1) := dk_42 (dk_at dksX6_numberHere_1 14 rfl rfl)
theorem dX6_numberHere_37 : decode cX6_numberHere 37 = .ok (.getfield 85, 3) := dk_180 0 85 (dk_at dksX6_numberHere_1 15 rfl rfl)
theorem dX6_numberHere_40 : decode cX6_numberHere 40 = .ok (.iload_n 2, 1) := dk_28 (dk_at dksX6_numberHere_1 18 rfl rfl)
theorem dX6_numberHere_41 : decode cX6_numberHere 41 = .ok (.if_icmp .gt 7, 3) := dk_163 0 7 (dk_at dksX6_numberHere_1 19 rfl rfl)
theorem dX6_numberHere_44 : decode cX6_numberHere 44 = .ok (.iconst 1, 1) := dk_4 (dk_at dksX6_numberHere_1 22 rfl rfl)
theorem dX6_numberHere_45 : decode cX6_numberHere 45 = .ok (.goto 4, 3) := dk_167 0 4 (dk_at dksX6_numberHere_2 0 rfl rfl)
theorem dX6_numberHere_48 : decode cX6_numberHere 48 = .ok (.iconst 0, 1) := dk_3 (dk_at dksX6_numberHere_2 3 rfl rfl)
theorem dX6_numberHere_49 : decode cX6_numberHere 49 = .ok (.iconst 2, 1) := dk_5 (dk_at dksX6_numberHere_2 4 rfl rfl)
theorem dX6_numberHere_50 : decode cX6_numberHere 50 = .ok (.invokevirtual 114, 3) := dk_182 0 114 (dk_at dksX6_numberHere_2 5 rfl rfl)
theorem dX6_numberHere_53 : decode cX6_numberHere 53 = .ok (.aload_n 0, 1) := dk_42 (dk_at dksX6_numberHere_2 8 rfl rfl)
theorem dX6_numberHere_54 : decode cX6_numberHere 54 = .ok (.getfield 85, 3) := dk_180 0 85 (dk_at dksX6_numberHere_2 9 rfl rfl)
theorem dX6_numberHere_57 : decode cX6_numberHere 57 = .ok (.ireturn, 1) := dk_172 (dk_at dksX6_numberHere_2 12 rfl rfl)
abbrev cX6_among : ByteArray := prog_16_method_12_code
def yX6_among : MethodName := ⟨RX6, "among", "(I)I"⟩
def dkwX6_among_0 : List UInt8 := [42, 27, 182, 0, 122, 61, 42, 182, 0, 32, 28, 172]
abbrev dktX6_among_0 : List UInt8 := dkwX6_among_0 ++ []
theorem dksX6_among_0 : cX6_among.data.toList.drop 0 = dktX6_among_0 := by decide +kernel
theorem dX6_among_0 : decode cX6_among 0 = .ok (.aload_n 0, 1) := dk_42 (dk_at dksX6_among_0 0 rfl rfl)
theorem dX6_among_1 : decode cX6_among 1 = .ok (.iload_n 1, 1) := dk_27 (dk_at dksX6_among_0 1 rfl rfl)
theorem dX6_among_2 : decode cX6_among 2 = .ok (.invokevirtual 122, 3) := dk_182 0 122 (dk_at dksX6_among_0 2 rfl rfl)
theorem dX6_among_5 : decode cX6_among 5 = .ok (.istore_n 2, 1) := dk_61 (dk_at dksX6_among_0 5 rfl rfl)
theorem dX6_among_6 : decode cX6_among 6 = .ok (.aload_n 0, 1) := dk_42 (dk_at dksX6_among_0 6 rfl rfl)
theorem dX6_among_7 : decode cX6_among 7 = .ok (.invokevirtual 32, 3) := dk_182 0 32 (dk_at dksX6_among_0 7 rfl rfl)
theorem dX6_among_10 : decode cX6_among 10 = .ok (.iload_n 2, 1) := dk_28 (dk_at dksX6_among_0 10 rfl rfl)
theorem dX6_among_11 : decode cX6_among 11 = .ok (.ireturn, 1) := dk_172 (dk_at dksX6_among_0 11 rfl rfl)
abbrev cX6_amongHere : ByteArray := prog_16_method_11_code
def yX6_amongHere : MethodName := ⟨RX6, "amongHere", "(I)I"⟩
def dkwX6_amongHere_2 : List UInt8 := [4, 167, 0, 4, 3, 6, 182, 0, 114, 42, 180, 0, 85, 172]
abbrev dktX6_amongHere_2 : List UInt8 := dkwX6_amongHere_2 ++ []
def dkwX6_amongHere_1 : List UInt8 := [180, 0, 45, 154, 0, 7, 4, 167, 0, 4, 3, 5, 182, 0, 114, 42, 42, 180, 0, 85, 27, 162, 0, 7]
abbrev dktX6_amongHere_1 : List UInt8 := dkwX6_amongHere_1 ++ dktX6_amongHere_2
def dkwX6_amongHere_0 : List UInt8 := [42, 42, 180, 0, 55, 178, 0, 88, 166, 0, 7, 4, 167, 0, 4, 3, 4, 182, 0, 114, 42, 42]
abbrev dktX6_amongHere_0 : List UInt8 := dkwX6_amongHere_0 ++ dktX6_amongHere_1
theorem dksX6_amongHere_0 : cX6_amongHere.data.toList.drop 0 = dktX6_amongHere_0 := by decide +kernel
theorem dksX6_amongHere_1 : cX6_amongHere.data.toList.drop 22 = dktX6_amongHere_1 := dk_seg dksX6_amongHere_0 22 rfl rfl
theorem dksX6_amongHere_2 : cX6_amongHere.data.toList.drop 46 = dktX6_amongHere_2 := dk_seg dksX6_amongHere_1 24 rfl rfl
theorem dX6_amongHere_0 : decode cX6_amongHere 0 = .ok (.aload_n 0, 1) := dk_42 (dk_at dksX6_amongHere_0 0 rfl rfl)
theorem dX6_amongHere_1 : decode cX6_amongHere 1 = .ok (.aload_n 0, 1) := dk_42 (dk_at dksX6_amongHere_0 1 rfl rfl)
theorem dX6_amongHere_2 : decode cX6_amongHere 2 = .ok (.getfield 55, 3) := dk_180 0 55 (dk_at dksX6_amongHere_0 2 rfl rfl)
theorem dX6_amongHere_5 : decode cX6_amongHere 5 = .ok (.getstatic 88, 3) := dk_178 0 88 (dk_at dksX6_amongHere_0 5 rfl rfl)
theorem dX6_amongHere_8 : decode cX6_amongHere 8 = .ok (.if_acmp .ne 7, 3) := dk_166 0 7 (dk_at dksX6_amongHere_0 8 rfl rfl)
theorem dX6_amongHere_11 : decode cX6_amongHere 11 = .ok (.iconst 1, 1) := dk_4 (dk_at dksX6_amongHere_0 11 rfl rfl)
theorem dX6_amongHere_12 : decode cX6_amongHere 12 = .ok (.goto 4, 3) := dk_167 0 4 (dk_at dksX6_amongHere_0 12 rfl rfl)
theorem dX6_amongHere_15 : decode cX6_amongHere 15 = .ok (.iconst 0, 1) := dk_3 (dk_at dksX6_amongHere_0 15 rfl rfl)
theorem dX6_amongHere_16 : decode cX6_amongHere 16 = .ok (.iconst 1, 1) := dk_4 (dk_at dksX6_amongHere_0 16 rfl rfl)
theorem dX6_amongHere_17 : decode cX6_amongHere 17 = .ok (.invokevirtual 114, 3) := dk_182 0 114 (dk_at dksX6_amongHere_0 17 rfl rfl)
theorem dX6_amongHere_20 : decode cX6_amongHere 20 = .ok (.aload_n 0, 1) := dk_42 (dk_at dksX6_amongHere_0 20 rfl rfl)
theorem dX6_amongHere_21 : decode cX6_amongHere 21 = .ok (.aload_n 0, 1) := dk_42 (dk_at dksX6_amongHere_0 21 rfl rfl)
theorem dX6_amongHere_22 : decode cX6_amongHere 22 = .ok (.getfield 45, 3) := dk_180 0 45 (dk_at dksX6_amongHere_1 0 rfl rfl)
theorem dX6_amongHere_25 : decode cX6_amongHere 25 = .ok (.ifCond .ne 7, 3) := dk_154 0 7 (dk_at dksX6_amongHere_1 3 rfl rfl)
theorem dX6_amongHere_28 : decode cX6_amongHere 28 = .ok (.iconst 1, 1) := dk_4 (dk_at dksX6_amongHere_1 6 rfl rfl)
theorem dX6_amongHere_29 : decode cX6_amongHere 29 = .ok (.goto 4, 3) := dk_167 0 4 (dk_at dksX6_amongHere_1 7 rfl rfl)
theorem dX6_amongHere_32 : decode cX6_amongHere 32 = .ok (.iconst 0, 1) := dk_3 (dk_at dksX6_amongHere_1 10 rfl rfl)
theorem dX6_amongHere_33 : decode cX6_amongHere 33 = .ok (.iconst 2, 1) := dk_5 (dk_at dksX6_amongHere_1 11 rfl rfl)
theorem dX6_amongHere_34 : decode cX6_amongHere 34 = .ok (.invokevirtual 114, 3) := dk_182 0 114 (dk_at dksX6_amongHere_1 12 rfl rfl)
theorem dX6_amongHere_37 : decode cX6_amongHere 37 = .ok (.aload_n 0, 1) := dk_42 (dk_at dksX6_amongHere_1 15 rfl rfl)
theorem dX6_amongHere_38 : decode cX6_amongHere 38 = .ok (.aload_n 0, 1) := dk_42 (dk_at dksX6_amongHere_1 16 rfl rfl)
theorem dX6_amongHere_39 : decode cX6_amongHere 39 = .ok (.getfield 85, 3) := dk_180 0 85 (dk_at dksX6_amongHere_1 17 rfl rfl)
theorem dX6_amongHere_42 : decode cX6_amongHere 42 = .ok (.iload_n 1, 1) := dk_27 (dk_at dksX6_amongHere_1 20 rfl rfl)
theorem dX6_amongHere_43 : decode cX6_amongHere 43 = .ok (.if_icmp .ge 7, 3) := dk_162 0 7 (dk_at dksX6_amongHere_1 21 rfl rfl)
theorem dX6_amongHere_46 : decode cX6_amongHere 46 = .ok (.iconst 1, 1) := dk_4 (dk_at dksX6_amongHere_2 0 rfl rfl)
theorem dX6_amongHere_47 : decode cX6_amongHere 47 = .ok (.goto 4, 3) := dk_167 0 4 (dk_at dksX6_amongHere_2 1 rfl rfl)
theorem dX6_amongHere_50 : decode cX6_amongHere 50 = .ok (.iconst 0, 1) := dk_3 (dk_at dksX6_amongHere_2 4 rfl rfl)
theorem dX6_amongHere_51 : decode cX6_amongHere 51 = .ok (.iconst 3, 1) := dk_6 (dk_at dksX6_amongHere_2 5 rfl rfl)
theorem dX6_amongHere_52 : decode cX6_amongHere 52 = .ok (.invokevirtual 114, 3) := dk_182 0 114 (dk_at dksX6_amongHere_2 6 rfl rfl)
theorem dX6_amongHere_55 : decode cX6_amongHere 55 = .ok (.aload_n 0, 1) := dk_42 (dk_at dksX6_amongHere_2 9 rfl rfl)
theorem dX6_amongHere_56 : decode cX6_amongHere 56 = .ok (.getfield 85, 3) := dk_180 0 85 (dk_at dksX6_amongHere_2 10 rfl rfl)
theorem dX6_amongHere_59 : decode cX6_amongHere 59 = .ok (.ireturn, 1) := dk_172 (dk_at dksX6_amongHere_2 13 rfl rfl)
abbrev cX6_is : ByteArray := prog_16_method_6_code
def yX6_is : MethodName := ⟨RX6, "is", "(Ljava/lang/String;)Z"⟩
def dkwX6_is_1 : List UInt8 := [43, 182, 0, 99, 153, 0, 7, 4, 167, 0, 4, 3, 172]
abbrev dktX6_is_1 : List UInt8 := dkwX6_is_1 ++ []
def dkwX6_is_0 : List UInt8 := [42, 180, 0, 55, 178, 0, 79, 165, 0, 13, 42, 180, 0, 55, 178, 0, 91, 166, 0, 18, 42, 180, 0, 11]
abbrev dktX6_is_0 : List UInt8 := dkwX6_is_0 ++ dktX6_is_1
theorem dksX6_is_0 : cX6_is.data.toList.drop 0 = dktX6_is_0 := by decide +kernel
theorem dksX6_is_1 : cX6_is.data.toList.drop 24 = dktX6_is_1 := dk_seg dksX6_is_0 24 rfl rfl
theorem dX6_is_0 : decode cX6_is 0 = .ok (.aload_n 0, 1) := dk_42 (dk_at dksX6_is_0 0 rfl rfl)
theorem dX6_is_1 : decode cX6_is 1 = .ok (.getfield 55, 3) := dk_180 0 55 (dk_at dksX6_is_0 1 rfl rfl)
theorem dX6_is_4 : decode cX6_is 4 = .ok (.getstatic 79, 3) := dk_178 0 79 (dk_at dksX6_is_0 4 rfl rfl)
theorem dX6_is_7 : decode cX6_is 7 = .ok (.if_acmp .eq 13, 3) := dk_165 0 13 (dk_at dksX6_is_0 7 rfl rfl)
theorem dX6_is_10 : decode cX6_is 10 = .ok (.aload_n 0, 1) := dk_42 (dk_at dksX6_is_0 10 rfl rfl)
theorem dX6_is_11 : decode cX6_is 11 = .ok (.getfield 55, 3) := dk_180 0 55 (dk_at dksX6_is_0 11 rfl rfl)
theorem dX6_is_14 : decode cX6_is 14 = .ok (.getstatic 91, 3) := dk_178 0 91 (dk_at dksX6_is_0 14 rfl rfl)
theorem dX6_is_17 : decode cX6_is 17 = .ok (.if_acmp .ne 18, 3) := dk_166 0 18 (dk_at dksX6_is_0 17 rfl rfl)
theorem dX6_is_20 : decode cX6_is 20 = .ok (.aload_n 0, 1) := dk_42 (dk_at dksX6_is_0 20 rfl rfl)
theorem dX6_is_21 : decode cX6_is 21 = .ok (.getfield 11, 3) := dk_180 0 11 (dk_at dksX6_is_0 21 rfl rfl)
theorem dX6_is_24 : decode cX6_is 24 = .ok (.aload_n 1, 1) := dk_43 (dk_at dksX6_is_1 0 rfl rfl)
theorem dX6_is_25 : decode cX6_is 25 = .ok (.invokevirtual 99, 3) := dk_182 0 99 (dk_at dksX6_is_1 1 rfl rfl)
theorem dX6_is_28 : decode cX6_is 28 = .ok (.ifCond .eq 7, 3) := dk_153 0 7 (dk_at dksX6_is_1 4 rfl rfl)
theorem dX6_is_31 : decode cX6_is 31 = .ok (.iconst 1, 1) := dk_4 (dk_at dksX6_is_1 7 rfl rfl)
theorem dX6_is_32 : decode cX6_is 32 = .ok (.goto 4, 3) := dk_167 0 4 (dk_at dksX6_is_1 8 rfl rfl)
theorem dX6_is_35 : decode cX6_is 35 = .ok (.iconst 0, 1) := dk_3 (dk_at dksX6_is_1 11 rfl rfl)
theorem dX6_is_36 : decode cX6_is 36 = .ok (.ireturn, 1) := dk_172 (dk_at dksX6_is_1 12 rfl rfl)
abbrev cX6_once : ByteArray := prog_16_method_13_code
def yX6_once : MethodName := ⟨RX6, "once", "([Z)I"⟩
def dkwX6_once_1 : List UInt8 := [182, 0, 114, 43, 28, 4, 84, 42, 182, 0, 32, 28, 172]
abbrev dktX6_once_1 : List UInt8 := dkwX6_once_1 ++ []
def dkwX6_once_0 : List UInt8 := [42, 3, 43, 190, 4, 100, 182, 0, 118, 61, 42, 43, 28, 51, 154, 0, 7, 4, 167, 0, 4, 3, 7]
abbrev dktX6_once_0 : List UInt8 := dkwX6_once_0 ++ dktX6_once_1
theorem dksX6_once_0 : cX6_once.data.toList.drop 0 = dktX6_once_0 := by decide +kernel
theorem dksX6_once_1 : cX6_once.data.toList.drop 23 = dktX6_once_1 := dk_seg dksX6_once_0 23 rfl rfl
theorem dX6_once_0 : decode cX6_once 0 = .ok (.aload_n 0, 1) := dk_42 (dk_at dksX6_once_0 0 rfl rfl)
theorem dX6_once_1 : decode cX6_once 1 = .ok (.iconst 0, 1) := dk_3 (dk_at dksX6_once_0 1 rfl rfl)
theorem dX6_once_2 : decode cX6_once 2 = .ok (.aload_n 1, 1) := dk_43 (dk_at dksX6_once_0 2 rfl rfl)
theorem dX6_once_3 : decode cX6_once 3 = .ok (.arraylength, 1) := dk_190 (dk_at dksX6_once_0 3 rfl rfl)
theorem dX6_once_4 : decode cX6_once 4 = .ok (.iconst 1, 1) := dk_4 (dk_at dksX6_once_0 4 rfl rfl)
theorem dX6_once_5 : decode cX6_once 5 = .ok (.isub, 1) := dk_100 (dk_at dksX6_once_0 5 rfl rfl)
theorem dX6_once_6 : decode cX6_once 6 = .ok (.invokevirtual 118, 3) := dk_182 0 118 (dk_at dksX6_once_0 6 rfl rfl)
theorem dX6_once_9 : decode cX6_once 9 = .ok (.istore_n 2, 1) := dk_61 (dk_at dksX6_once_0 9 rfl rfl)
theorem dX6_once_10 : decode cX6_once 10 = .ok (.aload_n 0, 1) := dk_42 (dk_at dksX6_once_0 10 rfl rfl)
theorem dX6_once_11 : decode cX6_once 11 = .ok (.aload_n 1, 1) := dk_43 (dk_at dksX6_once_0 11 rfl rfl)
theorem dX6_once_12 : decode cX6_once 12 = .ok (.iload_n 2, 1) := dk_28 (dk_at dksX6_once_0 12 rfl rfl)
theorem dX6_once_13 : decode cX6_once 13 = .ok (.baload, 1) := dk_51 (dk_at dksX6_once_0 13 rfl rfl)
theorem dX6_once_14 : decode cX6_once 14 = .ok (.ifCond .ne 7, 3) := dk_154 0 7 (dk_at dksX6_once_0 14 rfl rfl)
theorem dX6_once_17 : decode cX6_once 17 = .ok (.iconst 1, 1) := dk_4 (dk_at dksX6_once_0 17 rfl rfl)
theorem dX6_once_18 : decode cX6_once 18 = .ok (.goto 4, 3) := dk_167 0 4 (dk_at dksX6_once_0 18 rfl rfl)
theorem dX6_once_21 : decode cX6_once 21 = .ok (.iconst 0, 1) := dk_3 (dk_at dksX6_once_0 21 rfl rfl)
theorem dX6_once_22 : decode cX6_once 22 = .ok (.iconst 4, 1) := dk_7 (dk_at dksX6_once_0 22 rfl rfl)
theorem dX6_once_23 : decode cX6_once 23 = .ok (.invokevirtual 114, 3) := dk_182 0 114 (dk_at dksX6_once_1 0 rfl rfl)
theorem dX6_once_26 : decode cX6_once 26 = .ok (.aload_n 1, 1) := dk_43 (dk_at dksX6_once_1 3 rfl rfl)
theorem dX6_once_27 : decode cX6_once 27 = .ok (.iload_n 2, 1) := dk_28 (dk_at dksX6_once_1 4 rfl rfl)
theorem dX6_once_28 : decode cX6_once 28 = .ok (.iconst 1, 1) := dk_4 (dk_at dksX6_once_1 5 rfl rfl)
theorem dX6_once_29 : decode cX6_once 29 = .ok (.bastore, 1) := dk_84 (dk_at dksX6_once_1 6 rfl rfl)
theorem dX6_once_30 : decode cX6_once 30 = .ok (.aload_n 0, 1) := dk_42 (dk_at dksX6_once_1 7 rfl rfl)
theorem dX6_once_31 : decode cX6_once 31 = .ok (.invokevirtual 32, 3) := dk_182 0 32 (dk_at dksX6_once_1 8 rfl rfl)
theorem dX6_once_34 : decode cX6_once 34 = .ok (.iload_n 2, 1) := dk_28 (dk_at dksX6_once_1 11 rfl rfl)
theorem dX6_once_35 : decode cX6_once 35 = .ok (.ireturn, 1) := dk_172 (dk_at dksX6_once_1 12 rfl rfl)
abbrev cX6_quay : ByteArray := prog_16_method_17_code
def yX6_quay : MethodName := ⟨RX6, "quay", "(LEelPort$Port;)V"⟩
def dkwX6_quay_7 : List UInt8 := [42, 3, 16, 100, 182, 0, 184, 181, 1, 43, 43, 180, 0, 190, 45, 182, 0, 205, 87, 177]
abbrev dktX6_quay_7 : List UInt8 := dkwX6_quay_7 ++ []
def dkwX6_quay_6 : List UInt8 := [3, 4, 182, 0, 184, 183, 1, 40, 78, 42, 19, 1, 41, 182, 0, 110, 153, 0, 18, 42, 182, 0, 32, 45]
abbrev dktX6_quay_6 : List UInt8 := dkwX6_quay_6 ++ dktX6_quay_7
def dkwX6_quay_5 : List UInt8 := [167, 0, 10, 187, 1, 35, 89, 183, 1, 37, 78, 42, 182, 0, 32, 28, 153, 0, 17, 187, 1, 38, 89, 42]
abbrev dktX6_quay_5 : List UInt8 := dkwX6_quay_5 ++ dktX6_quay_6
def dkwX6_quay_4 : List UInt8 := [89, 183, 1, 31, 167, 0, 30, 42, 19, 1, 23, 182, 0, 110, 153, 0, 13, 187, 1, 32, 89, 183, 1, 34]
abbrev dktX6_quay_4 : List UInt8 := dkwX6_quay_4 ++ dktX6_quay_5
def dkwX6_quay_3 : List UInt8 := [182, 0, 114, 42, 19, 1, 27, 182, 0, 110, 61, 42, 19, 1, 21, 182, 0, 110, 153, 0, 13, 187, 1, 29]
abbrev dktX6_quay_3 : List UInt8 := dkwX6_quay_3 ++ dktX6_quay_4
def dkwX6_quay_2 : List UInt8 := [4, 182, 0, 114, 42, 43, 180, 0, 190, 182, 0, 180, 16, 8, 162, 0, 7, 4, 167, 0, 4, 3, 5]
abbrev dktX6_quay_2 : List UInt8 := dkwX6_quay_2 ++ dktX6_quay_3
def dkwX6_quay_1 : List UInt8 := [19, 1, 25, 182, 0, 110, 154, 0, 13, 42, 19, 1, 27, 182, 0, 110, 153, 0, 7, 4, 167, 0, 4, 3]
abbrev dktX6_quay_1 : List UInt8 := dkwX6_quay_1 ++ dktX6_quay_2
def dkwX6_quay_0 : List UInt8 := [42, 42, 19, 1, 21, 182, 0, 110, 154, 0, 33, 42, 19, 1, 23, 182, 0, 110, 154, 0, 23, 42]
abbrev dktX6_quay_0 : List UInt8 := dkwX6_quay_0 ++ dktX6_quay_1
theorem dksX6_quay_0 : cX6_quay.data.toList.drop 0 = dktX6_quay_0 := by decide +kernel
theorem dksX6_quay_1 : cX6_quay.data.toList.drop 22 = dktX6_quay_1 := dk_seg dksX6_quay_0 22 rfl rfl
theorem dksX6_quay_2 : cX6_quay.data.toList.drop 46 = dktX6_quay_2 := dk_seg dksX6_quay_1 24 rfl rfl
theorem dksX6_quay_3 : cX6_quay.data.toList.drop 69 = dktX6_quay_3 := dk_seg dksX6_quay_2 23 rfl rfl
theorem dksX6_quay_4 : cX6_quay.data.toList.drop 93 = dktX6_quay_4 := dk_seg dksX6_quay_3 24 rfl rfl
theorem dksX6_quay_5 : cX6_quay.data.toList.drop 117 = dktX6_quay_5 := dk_seg dksX6_quay_4 24 rfl rfl
theorem dksX6_quay_6 : cX6_quay.data.toList.drop 141 = dktX6_quay_6 := dk_seg dksX6_quay_5 24 rfl rfl
theorem dksX6_quay_7 : cX6_quay.data.toList.drop 165 = dktX6_quay_7 := dk_seg dksX6_quay_6 24 rfl rfl
theorem dX6_quay_0 : decode cX6_quay 0 = .ok (.aload_n 0, 1) := dk_42 (dk_at dksX6_quay_0 0 rfl rfl)
theorem dX6_quay_1 : decode cX6_quay 1 = .ok (.aload_n 0, 1) := dk_42 (dk_at dksX6_quay_0 1 rfl rfl)
theorem dX6_quay_2 : decode cX6_quay 2 = .ok (.ldc_w 277, 3) := dk_19 1 21 (dk_at dksX6_quay_0 2 rfl rfl)
theorem dX6_quay_5 : decode cX6_quay 5 = .ok (.invokevirtual 110, 3) := dk_182 0 110 (dk_at dksX6_quay_0 5 rfl rfl)
theorem dX6_quay_8 : decode cX6_quay 8 = .ok (.ifCond .ne 33, 3) := dk_154 0 33 (dk_at dksX6_quay_0 8 rfl rfl)
theorem dX6_quay_11 : decode cX6_quay 11 = .ok (.aload_n 0, 1) := dk_42 (dk_at dksX6_quay_0 11 rfl rfl)
theorem dX6_quay_12 : decode cX6_quay 12 = .ok (.ldc_w 279, 3) := dk_19 1 23 (dk_at dksX6_quay_0 12 rfl rfl)
theorem dX6_quay_15 : decode cX6_quay 15 = .ok (.invokevirtual 110, 3) := dk_182 0 110 (dk_at dksX6_quay_0 15 rfl rfl)
theorem dX6_quay_18 : decode cX6_quay 18 = .ok (.ifCond .ne 23, 3) := dk_154 0 23 (dk_at dksX6_quay_0 18 rfl rfl)
theorem dX6_quay_21 : decode cX6_quay 21 = .ok (.aload_n 0, 1) := dk_42 (dk_at dksX6_quay_0 21 rfl rfl)
theorem dX6_quay_22 : decode cX6_quay 22 = .ok (.ldc_w 281, 3) := dk_19 1 25 (dk_at dksX6_quay_1 0 rfl rfl)
theorem dX6_quay_25 : decode cX6_quay 25 = .ok (.invokevirtual 110, 3) := dk_182 0 110 (dk_at dksX6_quay_1 3 rfl rfl)
theorem dX6_quay_28 : decode cX6_quay 28 = .ok (.ifCond .ne 13, 3) := dk_154 0 13 (dk_at dksX6_quay_1 6 rfl rfl)
theorem dX6_quay_31 : decode cX6_quay 31 = .ok (.aload_n 0, 1) := dk_42 (dk_at dksX6_quay_1 9 rfl rfl)
theorem dX6_quay_32 : decode cX6_quay 32 = .ok (.ldc_w 283, 3) := dk_19 1 27 (dk_at dksX6_quay_1 10 rfl rfl)
theorem dX6_quay_35 : decode cX6_quay 35 = .ok (.invokevirtual 110, 3) := dk_182 0 110 (dk_at dksX6_quay_1 13 rfl rfl)
theorem dX6_quay_38 : decode cX6_quay 38 = .ok (.ifCond .eq 7, 3) := dk_153 0 7 (dk_at dksX6_quay_1 16 rfl rfl)
theorem dX6_quay_41 : decode cX6_quay 41 = .ok (.iconst 1, 1) := dk_4 (dk_at dksX6_quay_1 19 rfl rfl)
theorem dX6_quay_42 : decode cX6_quay 42 = .ok (.goto 4, 3) := dk_167 0 4 (dk_at dksX6_quay_1 20 rfl rfl)
theorem dX6_quay_45 : decode cX6_quay 45 = .ok (.iconst 0, 1) := dk_3 (dk_at dksX6_quay_1 23 rfl rfl)
theorem dX6_quay_46 : decode cX6_quay 46 = .ok (.iconst 1, 1) := dk_4 (dk_at dksX6_quay_2 0 rfl rfl)
theorem dX6_quay_47 : decode cX6_quay 47 = .ok (.invokevirtual 114, 3) := dk_182 0 114 (dk_at dksX6_quay_2 1 rfl rfl)
theorem dX6_quay_50 : decode cX6_quay 50 = .ok (.aload_n 0, 1) := dk_42 (dk_at dksX6_quay_2 4 rfl rfl)
theorem dX6_quay_51 : decode cX6_quay 51 = .ok (.aload_n 1, 1) := dk_43 (dk_at dksX6_quay_2 5 rfl rfl)
theorem dX6_quay_52 : decode cX6_quay 52 = .ok (.getfield 190, 3) := dk_180 0 190 (dk_at dksX6_quay_2 6 rfl rfl)
theorem dX6_quay_55 : decode cX6_quay 55 = .ok (.invokevirtual 180, 3) := dk_182 0 180 (dk_at dksX6_quay_2 9 rfl rfl)
theorem dX6_quay_58 : decode cX6_quay 58 = .ok (.bipush 8, 2) := dk_16 8 (dk_at dksX6_quay_2 12 rfl rfl)
theorem dX6_quay_60 : decode cX6_quay 60 = .ok (.if_icmp .ge 7, 3) := dk_162 0 7 (dk_at dksX6_quay_2 14 rfl rfl)
theorem dX6_quay_63 : decode cX6_quay 63 = .ok (.iconst 1, 1) := dk_4 (dk_at dksX6_quay_2 17 rfl rfl)
theorem dX6_quay_64 : decode cX6_quay 64 = .ok (.goto 4, 3) := dk_167 0 4 (dk_at dksX6_quay_2 18 rfl rfl)
theorem dX6_quay_67 : decode cX6_quay 67 = .ok (.iconst 0, 1) := dk_3 (dk_at dksX6_quay_2 21 rfl rfl)
theorem dX6_quay_68 : decode cX6_quay 68 = .ok (.iconst 2, 1) := dk_5 (dk_at dksX6_quay_2 22 rfl rfl)
theorem dX6_quay_69 : decode cX6_quay 69 = .ok (.invokevirtual 114, 3) := dk_182 0 114 (dk_at dksX6_quay_3 0 rfl rfl)
theorem dX6_quay_72 : decode cX6_quay 72 = .ok (.aload_n 0, 1) := dk_42 (dk_at dksX6_quay_3 3 rfl rfl)
theorem dX6_quay_73 : decode cX6_quay 73 = .ok (.ldc_w 283, 3) := dk_19 1 27 (dk_at dksX6_quay_3 4 rfl rfl)
theorem dX6_quay_76 : decode cX6_quay 76 = .ok (.invokevirtual 110, 3) := dk_182 0 110 (dk_at dksX6_quay_3 7 rfl rfl)
theorem dX6_quay_79 : decode cX6_quay 79 = .ok (.istore_n 2, 1) := dk_61 (dk_at dksX6_quay_3 10 rfl rfl)
theorem dX6_quay_80 : decode cX6_quay 80 = .ok (.aload_n 0, 1) := dk_42 (dk_at dksX6_quay_3 11 rfl rfl)
theorem dX6_quay_81 : decode cX6_quay 81 = .ok (.ldc_w 277, 3) := dk_19 1 21 (dk_at dksX6_quay_3 12 rfl rfl)
theorem dX6_quay_84 : decode cX6_quay 84 = .ok (.invokevirtual 110, 3) := dk_182 0 110 (dk_at dksX6_quay_3 15 rfl rfl)
theorem dX6_quay_87 : decode cX6_quay 87 = .ok (.ifCond .eq 13, 3) := dk_153 0 13 (dk_at dksX6_quay_3 18 rfl rfl)
theorem dX6_quay_90 : decode cX6_quay 90 = .ok (.new 285, 3) := dk_187 1 29 (dk_at dksX6_quay_3 21 rfl rfl)
theorem dX6_quay_93 : decode cX6_quay 93 = .ok (.dup, 1) := dk_89 (dk_at dksX6_quay_4 0 rfl rfl)
theorem dX6_quay_94 : decode cX6_quay 94 = .ok (.invokespecial 287, 3) := dk_183 1 31 (dk_at dksX6_quay_4 1 rfl rfl)
theorem dX6_quay_97 : decode cX6_quay 97 = .ok (.goto 30, 3) := dk_167 0 30 (dk_at dksX6_quay_4 4 rfl rfl)
theorem dX6_quay_100 : decode cX6_quay 100 = .ok (.aload_n 0, 1) := dk_42 (dk_at dksX6_quay_4 7 rfl rfl)
theorem dX6_quay_101 : decode cX6_quay 101 = .ok (.ldc_w 279, 3) := dk_19 1 23 (dk_at dksX6_quay_4 8 rfl rfl)
theorem dX6_quay_104 : decode cX6_quay 104 = .ok (.invokevirtual 110, 3) := dk_182 0 110 (dk_at dksX6_quay_4 11 rfl rfl)
theorem dX6_quay_107 : decode cX6_quay 107 = .ok (.ifCond .eq 13, 3) := dk_153 0 13 (dk_at dksX6_quay_4 14 rfl rfl)
theorem dX6_quay_110 : decode cX6_quay 110 = .ok (.new 288, 3) := dk_187 1 32 (dk_at dksX6_quay_4 17 rfl rfl)
theorem dX6_quay_113 : decode cX6_quay 113 = .ok (.dup, 1) := dk_89 (dk_at dksX6_quay_4 20 rfl rfl)
theorem dX6_quay_114 : decode cX6_quay 114 = .ok (.invokespecial 290, 3) := dk_183 1 34 (dk_at dksX6_quay_4 21 rfl rfl)
theorem dX6_quay_117 : decode cX6_quay 117 = .ok (.goto 10, 3) := dk_167 0 10 (dk_at dksX6_quay_5 0 rfl rfl)
theorem dX6_quay_120 : decode cX6_quay 120 = .ok (.new 291, 3) := dk_187 1 35 (dk_at dksX6_quay_5 3 rfl rfl)
theorem dX6_quay_123 : decode cX6_quay 123 = .ok (.dup, 1) := dk_89 (dk_at dksX6_quay_5 6 rfl rfl)
theorem dX6_quay_124 : decode cX6_quay 124 = .ok (.invokespecial 293, 3) := dk_183 1 37 (dk_at dksX6_quay_5 7 rfl rfl)
theorem dX6_quay_127 : decode cX6_quay 127 = .ok (.astore_n 3, 1) := dk_78 (dk_at dksX6_quay_5 10 rfl rfl)
theorem dX6_quay_128 : decode cX6_quay 128 = .ok (.aload_n 0, 1) := dk_42 (dk_at dksX6_quay_5 11 rfl rfl)
theorem dX6_quay_129 : decode cX6_quay 129 = .ok (.invokevirtual 32, 3) := dk_182 0 32 (dk_at dksX6_quay_5 12 rfl rfl)
theorem dX6_quay_132 : decode cX6_quay 132 = .ok (.iload_n 2, 1) := dk_28 (dk_at dksX6_quay_5 15 rfl rfl)
theorem dX6_quay_133 : decode cX6_quay 133 = .ok (.ifCond .eq 17, 3) := dk_153 0 17 (dk_at dksX6_quay_5 16 rfl rfl)
theorem dX6_quay_136 : decode cX6_quay 136 = .ok (.new 294, 3) := dk_187 1 38 (dk_at dksX6_quay_5 19 rfl rfl)
theorem dX6_quay_139 : decode cX6_quay 139 = .ok (.dup, 1) := dk_89 (dk_at dksX6_quay_5 22 rfl rfl)
theorem dX6_quay_140 : decode cX6_quay 140 = .ok (.aload_n 0, 1) := dk_42 (dk_at dksX6_quay_5 23 rfl rfl)
theorem dX6_quay_141 : decode cX6_quay 141 = .ok (.iconst 0, 1) := dk_3 (dk_at dksX6_quay_6 0 rfl rfl)
theorem dX6_quay_142 : decode cX6_quay 142 = .ok (.iconst 1, 1) := dk_4 (dk_at dksX6_quay_6 1 rfl rfl)
theorem dX6_quay_143 : decode cX6_quay 143 = .ok (.invokevirtual 184, 3) := dk_182 0 184 (dk_at dksX6_quay_6 2 rfl rfl)
theorem dX6_quay_146 : decode cX6_quay 146 = .ok (.invokespecial 296, 3) := dk_183 1 40 (dk_at dksX6_quay_6 5 rfl rfl)
theorem dX6_quay_149 : decode cX6_quay 149 = .ok (.astore_n 3, 1) := dk_78 (dk_at dksX6_quay_6 8 rfl rfl)
theorem dX6_quay_150 : decode cX6_quay 150 = .ok (.aload_n 0, 1) := dk_42 (dk_at dksX6_quay_6 9 rfl rfl)
theorem dX6_quay_151 : decode cX6_quay 151 = .ok (.ldc_w 297, 3) := dk_19 1 41 (dk_at dksX6_quay_6 10 rfl rfl)
theorem dX6_quay_154 : decode cX6_quay 154 = .ok (.invokevirtual 110, 3) := dk_182 0 110 (dk_at dksX6_quay_6 13 rfl rfl)
theorem dX6_quay_157 : decode cX6_quay 157 = .ok (.ifCond .eq 18, 3) := dk_153 0 18 (dk_at dksX6_quay_6 16 rfl rfl)
theorem dX6_quay_160 : decode cX6_quay 160 = .ok (.aload_n 0, 1) := dk_42 (dk_at dksX6_quay_6 19 rfl rfl)
theorem dX6_quay_161 : decode cX6_quay 161 = .ok (.invokevirtual 32, 3) := dk_182 0 32 (dk_at dksX6_quay_6 20 rfl rfl)
theorem dX6_quay_164 : decode cX6_quay 164 = .ok (.aload_n 3, 1) := dk_45 (dk_at dksX6_quay_6 23 rfl rfl)
theorem dX6_quay_165 : decode cX6_quay 165 = .ok (.aload_n 0, 1) := dk_42 (dk_at dksX6_quay_7 0 rfl rfl)
theorem dX6_quay_166 : decode cX6_quay 166 = .ok (.iconst 0, 1) := dk_3 (dk_at dksX6_quay_7 1 rfl rfl)
theorem dX6_quay_167 : decode cX6_quay 167 = .ok (.bipush 100, 2) := dk_16 100 (dk_at dksX6_quay_7 2 rfl rfl)
theorem dX6_quay_169 : decode cX6_quay 169 = .ok (.invokevirtual 184, 3) := dk_182 0 184 (dk_at dksX6_quay_7 4 rfl rfl)
theorem dX6_quay_172 : decode cX6_quay 172 = .ok (.putfield 299, 3) := dk_181 1 43 (dk_at dksX6_quay_7 7 rfl rfl)
theorem dX6_quay_175 : decode cX6_quay 175 = .ok (.aload_n 1, 1) := dk_43 (dk_at dksX6_quay_7 10 rfl rfl)
theorem dX6_quay_176 : decode cX6_quay 176 = .ok (.getfield 190, 3) := dk_180 0 190 (dk_at dksX6_quay_7 11 rfl rfl)
theorem dX6_quay_179 : decode cX6_quay 179 = .ok (.aload_n 3, 1) := dk_45 (dk_at dksX6_quay_7 14 rfl rfl)
theorem dX6_quay_180 : decode cX6_quay 180 = .ok (.invokevirtual 205, 3) := dk_182 0 205 (dk_at dksX6_quay_7 15 rfl rfl)
theorem dX6_quay_183 : decode cX6_quay 183 = .ok (.pop, 1) := dk_87 (dk_at dksX6_quay_7 18 rfl rfl)
theorem dX6_quay_184 : decode cX6_quay 184 = .ok (.return_, 1) := dk_177 (dk_at dksX6_quay_7 19 rfl rfl)
abbrev cX6_need : ByteArray := prog_16_method_8_code
def yX6_need : MethodName := ⟨RX6, "need", "(Ljava/lang/String;)V"⟩
def dkwX6_need_0 : List UInt8 := [42, 42, 43, 182, 0, 110, 4, 182, 0, 114, 42, 182, 0, 32, 177]
abbrev dktX6_need_0 : List UInt8 := dkwX6_need_0 ++ []
theorem dksX6_need_0 : cX6_need.data.toList.drop 0 = dktX6_need_0 := by decide +kernel
theorem dX6_need_0 : decode cX6_need 0 = .ok (.aload_n 0, 1) := dk_42 (dk_at dksX6_need_0 0 rfl rfl)
theorem dX6_need_1 : decode cX6_need 1 = .ok (.aload_n 0, 1) := dk_42 (dk_at dksX6_need_0 1 rfl rfl)
theorem dX6_need_2 : decode cX6_need 2 = .ok (.aload_n 1, 1) := dk_43 (dk_at dksX6_need_0 2 rfl rfl)
theorem dX6_need_3 : decode cX6_need 3 = .ok (.invokevirtual 110, 3) := dk_182 0 110 (dk_at dksX6_need_0 3 rfl rfl)
theorem dX6_need_6 : decode cX6_need 6 = .ok (.iconst 1, 1) := dk_4 (dk_at dksX6_need_0 6 rfl rfl)
theorem dX6_need_7 : decode cX6_need 7 = .ok (.invokevirtual 114, 3) := dk_182 0 114 (dk_at dksX6_need_0 7 rfl rfl)
theorem dX6_need_10 : decode cX6_need 10 = .ok (.aload_n 0, 1) := dk_42 (dk_at dksX6_need_0 10 rfl rfl)
theorem dX6_need_11 : decode cX6_need 11 = .ok (.invokevirtual 32, 3) := dk_182 0 32 (dk_at dksX6_need_0 11 rfl rfl)
theorem dX6_need_14 : decode cX6_need 14 = .ok (.return_, 1) := dk_177 (dk_at dksX6_need_0 14 rfl rfl)
theorem q102 : (Jvm.Cond.initialized "EelPort$Reader") ∈ lw_all := lw_g (lw_at lw_m1 25 rfl) rfl
theorem q490 : (Jvm.Cond.fieldLinkNest "EelPort$Reader" (247 : Nat) "EelPort$Port" "hoods" "I" "EelPort") ∈ lw_tbl := lw_at lw_m2 173 rfl
theorem q492 : (Jvm.Cond.fieldLinkNest "EelPort$Reader" (264 : Nat) "EelPort$Port" "liver" "I" "EelPort") ∈ lw_tbl := lw_at lw_m2 175 rfl
theorem q495 : (Jvm.Cond.fieldLinkNest "EelPort$Reader" (267 : Nat) "EelPort$Port" "bread" "I" "EelPort") ∈ lw_tbl := lw_at lw_m2 178 rfl
theorem q503 : (Jvm.Cond.fieldLinkNest "EelPort$Reader" (190 : Nat) "EelPort$Port" "quays" "Ljava/util/ArrayList;" "EelPort") ∈ lw_tbl := lw_at lw_m2 186 rfl
theorem q507 : (Jvm.Cond.fieldLinkNest "EelPort$Reader" (176 : Nat) "EelPort$Port" "eels" "Ljava/util/ArrayList;" "EelPort") ∈ lw_tbl := lw_at lw_m2 190 rfl
theorem q510 : (Jvm.Cond.fieldLinkNest "EelPort$Reader" (208 : Nat) "EelPort$Port" "ships" "Ljava/util/ArrayList;" "EelPort") ∈ lw_tbl := lw_at lw_m2 193 rfl
theorem q514 : (Jvm.Cond.fieldLinkNest "EelPort$Reader" (237 : Nat) "EelPort$Port" "moon" "[I" "EelPort") ∈ lw_tbl := lw_at lw_m2 197 rfl
theorem q517 : (Jvm.Cond.fieldLinkNest "EelPort$Reader" (242 : Nat) "EelPort$Port" "weight" "[I" "EelPort") ∈ lw_tbl := lw_at lw_m2 200 rfl
theorem q519 : (Jvm.Cond.fieldLinkNest "EelPort$Reader" (250 : Nat) "EelPort$Port" "hooded" "[I" "EelPort") ∈ lw_tbl := lw_at lw_m2 202 rfl
theorem q521 : (Jvm.Cond.fieldLinkNest "EelPort$Reader" (253 : Nat) "EelPort$Port" "hoodFrom" "[I" "EelPort") ∈ lw_tbl := lw_at lw_m2 204 rfl
theorem q523 : (Jvm.Cond.fieldLinkNest "EelPort$Reader" (256 : Nat) "EelPort$Port" "hoodTo" "[I" "EelPort") ∈ lw_tbl := lw_at lw_m2 206 rfl
theorem q802 : (Jvm.Cond.instantiable "EelPort$Reader" (11 : Nat)) ∈ lw_all := lw_g (lw_at lw_m4 5 rfl) rfl
theorem q804 : (Jvm.Cond.instanceMethod ({ cls := "EelPort$Reader", name := "<init>", desc := "([BI)V" } : Jvm.MethodName)) ∈ lw_all := lw_g (lw_at lw_m4 7 rfl) rfl
theorem q805 : (Jvm.Cond.code ({ cls := "EelPort$Reader", name := "<init>", desc := "([BI)V" } : Jvm.MethodName) prog_16_method_1_code (3 : Nat) (Option.none : Option Jvm.ClassFile.FieldType)) ∈ lw_all := lw_g (lw_at lw_m4 8 rfl) rfl
theorem q806 : (Jvm.Cond.methodLink "EelPort$Reader" (3 : Nat) ({ cls := "java/lang/Object", name := "<init>", desc := "()V" } : Jvm.MethodName)) ∈ lw_all := lw_g (lw_at lw_m4 9 rfl) rfl
theorem q807 : (Jvm.Cond.stringRef "EelPort$Reader" (9 : Nat) "") ∈ lw_tbl := lw_at lw_m4 10 rfl
theorem q808 : (Jvm.Cond.methodLink "EelPort$Reader" (32 : Nat) ({ cls := "EelPort$Reader", name := "go", desc := "()V" } : Jvm.MethodName)) ∈ lw_all := lw_g (lw_at lw_m4 11 rfl) rfl
theorem q809 : (Jvm.Cond.privateMethod ({ cls := "EelPort$Reader", name := "go", desc := "()V" } : Jvm.MethodName)) ∈ lw_tbl := lw_at lw_m4 12 rfl
theorem q810 : (Jvm.Cond.instanceMethod ({ cls := "EelPort$Reader", name := "go", desc := "()V" } : Jvm.MethodName)) ∈ lw_all := lw_g (lw_at lw_m4 13 rfl) rfl
theorem q811 : (Jvm.Cond.code ({ cls := "EelPort$Reader", name := "go", desc := "()V" } : Jvm.MethodName) prog_16_method_5_code (3 : Nat) (Option.none : Option Jvm.ClassFile.FieldType)) ∈ lw_all := lw_g (lw_at lw_m4 14 rfl) rfl
theorem q812 : (Jvm.Cond.methodLink "EelPort$Reader" (38 : Nat) ({ cls := "EelPort$Reader", name := "byteAt", desc := "(I)I" } : Jvm.MethodName)) ∈ lw_all := lw_g (lw_at lw_m4 15 rfl) rfl
theorem q813 : (Jvm.Cond.privateMethod ({ cls := "EelPort$Reader", name := "byteAt", desc := "(I)I" } : Jvm.MethodName)) ∈ lw_tbl := lw_at lw_m4 16 rfl
theorem q814 : (Jvm.Cond.instanceMethod ({ cls := "EelPort$Reader", name := "byteAt", desc := "(I)I" } : Jvm.MethodName)) ∈ lw_all := lw_g (lw_at lw_m4 17 rfl) rfl
theorem q815 : (Jvm.Cond.code ({ cls := "EelPort$Reader", name := "byteAt", desc := "(I)I" } : Jvm.MethodName) prog_16_method_2_code (2 : Nat) (Option.some Jvm.ClassFile.FieldType.int)) ∈ lw_all := lw_g (lw_at lw_m4 18 rfl) rfl
theorem q816 : (Jvm.Cond.fieldLink "EelPort$Reader" (49 : Nat) "EelPort$Sort" "END" "LEelPort$Sort;") ∈ lw_all := lw_g (lw_at lw_m4 19 rfl) rfl
theorem q818 : (Jvm.Cond.methodLink "EelPort$Reader" (58 : Nat) ({ cls := "EelPort$Reader", name := "isLetter", desc := "(I)Z" } : Jvm.MethodName)) ∈ lw_all := lw_g (lw_at lw_m4 21 rfl) rfl
theorem q819 : (Jvm.Cond.static ({ cls := "EelPort$Reader", name := "isLetter", desc := "(I)Z" } : Jvm.MethodName)) ∈ lw_all := lw_g (lw_at lw_m4 22 rfl) rfl
theorem q820 : (Jvm.Cond.code ({ cls := "EelPort$Reader", name := "isLetter", desc := "(I)Z" } : Jvm.MethodName) prog_16_method_3_code (1 : Nat) (Option.some Jvm.ClassFile.FieldType.boolean)) ∈ lw_all := lw_g (lw_at lw_m4 23 rfl) rfl
theorem q821 : (Jvm.Cond.classLink "EelPort$Reader" (62 : Nat) "java/lang/StringBuilder") ∈ lw_all := lw_g (lw_at lw_m4 24 rfl) rfl
theorem q822 : (Jvm.Cond.methodLink "EelPort$Reader" (64 : Nat) ({ cls := "java/lang/StringBuilder", name := "<init>", desc := "(I)V" } : Jvm.MethodName)) ∈ lw_all := lw_g (lw_at lw_m4 25 rfl) rfl
theorem q825 : (Jvm.Cond.methodLink "EelPort$Reader" (67 : Nat) ({ cls := "java/lang/StringBuilder", name := "length", desc := "()I" } : Jvm.MethodName)) ∈ lw_all := lw_g (lw_at lw_m4 28 rfl) rfl
theorem q826 : (Jvm.Cond.methodLink "EelPort$Reader" (71 : Nat) ({ cls := "java/lang/StringBuilder", name := "append", desc := "(C)Ljava/lang/StringBuilder;" } : Jvm.MethodName)) ∈ lw_all := lw_g (lw_at lw_m4 29 rfl) rfl
theorem q846 : (Jvm.Cond.methodLink "EelPort$Reader" (75 : Nat) ({ cls := "java/lang/StringBuilder", name := "toString", desc := "()Ljava/lang/String;" } : Jvm.MethodName)) ∈ lw_all := lw_g (lw_at lw_m4 49 rfl) rfl
theorem q847 : (Jvm.Cond.fieldLink "EelPort$Reader" (79 : Nat) "EelPort$Sort" "WORD" "LEelPort$Sort;") ∈ lw_all := lw_g (lw_at lw_m4 50 rfl) rfl
theorem q849 : (Jvm.Cond.methodLink "EelPort$Reader" (82 : Nat) ({ cls := "EelPort$Reader", name := "isDigit", desc := "(I)Z" } : Jvm.MethodName)) ∈ lw_all := lw_g (lw_at lw_m4 52 rfl) rfl
theorem q850 : (Jvm.Cond.static ({ cls := "EelPort$Reader", name := "isDigit", desc := "(I)Z" } : Jvm.MethodName)) ∈ lw_all := lw_g (lw_at lw_m4 53 rfl) rfl
theorem q851 : (Jvm.Cond.code ({ cls := "EelPort$Reader", name := "isDigit", desc := "(I)Z" } : Jvm.MethodName) prog_16_method_4_code (1 : Nat) (Option.some Jvm.ClassFile.FieldType.boolean)) ∈ lw_all := lw_g (lw_at lw_m4 54 rfl) rfl
theorem q852 : (Jvm.Cond.fieldLink "EelPort$Reader" (88 : Nat) "EelPort$Sort" "NUMBER" "LEelPort$Sort;") ∈ lw_all := lw_g (lw_at lw_m4 55 rfl) rfl
theorem q854 : (Jvm.Cond.fieldLink "EelPort$Reader" (91 : Nat) "EelPort$Sort" "SIGN" "LEelPort$Sort;") ∈ lw_all := lw_g (lw_at lw_m4 57 rfl) rfl
theorem q856 : (Jvm.Cond.fieldLink "EelPort$Reader" (94 : Nat) "EelPort$Sort" "BAD" "LEelPort$Sort;") ∈ lw_all := lw_g (lw_at lw_m4 59 rfl) rfl
theorem q858 : (Jvm.Cond.stringRef "EelPort$Reader" (97 : Nat) ";") ∈ lw_tbl := lw_at lw_m4 61 rfl
theorem q859 : (Jvm.Cond.fieldLink "EelPort$Reader" (24 : Nat) "EelPort$Reader" "text" "[B") ∈ lw_all := lw_g (lw_at lw_m4 62 rfl) rfl
theorem q860 : (Jvm.Cond.fieldLink "EelPort$Reader" (28 : Nat) "EelPort$Reader" "size" "I") ∈ lw_all := lw_g (lw_at lw_m4 63 rfl) rfl
theorem q861 : (Jvm.Cond.fieldLink "EelPort$Reader" (35 : Nat) "EelPort$Reader" "next" "I") ∈ lw_all := lw_g (lw_at lw_m4 64 rfl) rfl
theorem q862 : (Jvm.Cond.fieldLink "EelPort$Reader" (42 : Nat) "EelPort$Reader" "place" "I") ∈ lw_all := lw_g (lw_at lw_m4 65 rfl) rfl
theorem q863 : (Jvm.Cond.fieldLink "EelPort$Reader" (85 : Nat) "EelPort$Reader" "value" "I") ∈ lw_all := lw_g (lw_at lw_m4 66 rfl) rfl
theorem q864 : (Jvm.Cond.fieldLink "EelPort$Reader" (45 : Nat) "EelPort$Reader" "isLong" "Z") ∈ lw_all := lw_g (lw_at lw_m4 67 rfl) rfl
theorem q865 : (Jvm.Cond.fieldLink "EelPort$Reader" (55 : Nat) "EelPort$Reader" "sort" "LEelPort$Sort;") ∈ lw_all := lw_g (lw_at lw_m4 68 rfl) rfl
theorem q866 : (Jvm.Cond.fieldLink "EelPort$Reader" (11 : Nat) "EelPort$Reader" "word" "Ljava/lang/String;") ∈ lw_all := lw_g (lw_at lw_m4 69 rfl) rfl
theorem q867 : (Jvm.Cond.fieldLink "EelPort$Reader" (261 : Nat) "EelPort$Reader" "hasPrice" "Z") ∈ lw_all := lw_g (lw_at lw_m4 70 rfl) rfl
theorem q868 : (Jvm.Cond.fieldLink "EelPort$Reader" (17 : Nat) "EelPort$Reader" "hasMoon" "[Z") ∈ lw_all := lw_g (lw_at lw_m4 71 rfl) rfl
theorem q869 : (Jvm.Cond.fieldLink "EelPort$Reader" (21 : Nat) "EelPort$Reader" "hasCold" "[Z") ∈ lw_all := lw_g (lw_at lw_m4 72 rfl) rfl
theorem q870 : (Jvm.Cond.laysFinal "EelPort$Reader" "EelPort$Reader" "text" "[B") ∈ lw_all := lw_g (lw_at lw_m4 73 rfl) rfl
theorem q871 : (Jvm.Cond.soleField "EelPort$Reader" "text") ∈ lw_all := lw_g (lw_at lw_m4 74 rfl) rfl
theorem q872 : (Jvm.Cond.laysFinal "EelPort$Reader" "EelPort$Reader" "size" "I") ∈ lw_all := lw_g (lw_at lw_m4 75 rfl) rfl
theorem q873 : (Jvm.Cond.soleField "EelPort$Reader" "size") ∈ lw_all := lw_g (lw_at lw_m4 76 rfl) rfl
theorem q874 : (Jvm.Cond.lays "EelPort$Reader" "EelPort$Reader" "next" "I") ∈ lw_all := lw_g (lw_at lw_m4 77 rfl) rfl
theorem q875 : (Jvm.Cond.soleField "EelPort$Reader" "next") ∈ lw_all := lw_g (lw_at lw_m4 78 rfl) rfl
theorem q876 : (Jvm.Cond.lays "EelPort$Reader" "EelPort$Reader" "place" "I") ∈ lw_all := lw_g (lw_at lw_m4 79 rfl) rfl
theorem q877 : (Jvm.Cond.soleField "EelPort$Reader" "place") ∈ lw_all := lw_g (lw_at lw_m4 80 rfl) rfl
theorem q878 : (Jvm.Cond.lays "EelPort$Reader" "EelPort$Reader" "value" "I") ∈ lw_all := lw_g (lw_at lw_m4 81 rfl) rfl
theorem q879 : (Jvm.Cond.soleField "EelPort$Reader" "value") ∈ lw_all := lw_g (lw_at lw_m4 82 rfl) rfl
theorem q880 : (Jvm.Cond.lays "EelPort$Reader" "EelPort$Reader" "isLong" "Z") ∈ lw_all := lw_g (lw_at lw_m4 83 rfl) rfl
theorem q881 : (Jvm.Cond.soleField "EelPort$Reader" "isLong") ∈ lw_all := lw_g (lw_at lw_m4 84 rfl) rfl
theorem q882 : (Jvm.Cond.lays "EelPort$Reader" "EelPort$Reader" "sort" "LEelPort$Sort;") ∈ lw_all := lw_g (lw_at lw_m4 85 rfl) rfl
theorem q883 : (Jvm.Cond.soleField "EelPort$Reader" "sort") ∈ lw_all := lw_g (lw_at lw_m4 86 rfl) rfl
theorem q884 : (Jvm.Cond.lays "EelPort$Reader" "EelPort$Reader" "word" "Ljava/lang/String;") ∈ lw_all := lw_g (lw_at lw_m4 87 rfl) rfl
theorem q885 : (Jvm.Cond.soleField "EelPort$Reader" "word") ∈ lw_all := lw_g (lw_at lw_m4 88 rfl) rfl
theorem q886 : (Jvm.Cond.lays "EelPort$Reader" "EelPort$Reader" "hasPrice" "Z") ∈ lw_all := lw_g (lw_at lw_m4 89 rfl) rfl
theorem q887 : (Jvm.Cond.soleField "EelPort$Reader" "hasPrice") ∈ lw_all := lw_g (lw_at lw_m4 90 rfl) rfl
theorem q888 : (Jvm.Cond.laysFinal "EelPort$Reader" "EelPort$Reader" "hasMoon" "[Z") ∈ lw_all := lw_g (lw_at lw_m4 91 rfl) rfl
theorem q889 : (Jvm.Cond.soleField "EelPort$Reader" "hasMoon") ∈ lw_all := lw_g (lw_at lw_m4 92 rfl) rfl
theorem q890 : (Jvm.Cond.laysFinal "EelPort$Reader" "EelPort$Reader" "hasCold" "[Z") ∈ lw_all := lw_g (lw_at lw_m4 93 rfl) rfl
theorem q891 : (Jvm.Cond.soleField "EelPort$Reader" "hasCold") ∈ lw_all := lw_g (lw_at lw_m4 94 rfl) rfl
theorem q892 : (Jvm.Cond.superclass "EelPort$Reader" "java/lang/Object") ∈ lw_all := lw_g (lw_at lw_m4 95 rfl) rfl
theorem q895 : (Jvm.Cond.instanceMethod ({ cls := "EelPort$Reader", name := "port", desc := "()LEelPort$Port;" } : Jvm.MethodName)) ∈ lw_all := lw_g (lw_at lw_m4 98 rfl) rfl
theorem q896 : (Jvm.Cond.selects "EelPort$Reader" ({ cls := "EelPort$Reader", name := "port", desc := "()LEelPort$Port;" } : Jvm.MethodName) ({ cls := "EelPort$Reader", name := "port", desc := "()LEelPort$Port;" } : Jvm.MethodName)) ∈ lw_all := lw_g (lw_at lw_m4 99 rfl) rfl
theorem q897 : (Jvm.Cond.code ({ cls := "EelPort$Reader", name := "port", desc := "()LEelPort$Port;" } : Jvm.MethodName) prog_16_method_16_code (7 : Nat) (Option.some (Jvm.ClassFile.FieldType.object "EelPort$Port"))) ∈ lw_all := lw_g (lw_at lw_m4 100 rfl) rfl
theorem q898 : (Jvm.Cond.classLink "EelPort$Reader" (165 : Nat) "EelPort$Port") ∈ lw_all := lw_g (lw_at lw_m4 101 rfl) rfl
theorem q899 : (Jvm.Cond.methodLink "EelPort$Reader" (167 : Nat) ({ cls := "EelPort$Port", name := "<init>", desc := "()V" } : Jvm.MethodName)) ∈ lw_all := lw_g (lw_at lw_m4 102 rfl) rfl
theorem q900 : (Jvm.Cond.methodLink "EelPort$Reader" (168 : Nat) ({ cls := "EelPort$Reader", name := "eel", desc := "(Ljava/lang/String;)LEelPort$Eel;" } : Jvm.MethodName)) ∈ lw_all := lw_g (lw_at lw_m4 103 rfl) rfl
theorem q901 : (Jvm.Cond.static ({ cls := "EelPort$Reader", name := "eel", desc := "(Ljava/lang/String;)LEelPort$Eel;" } : Jvm.MethodName)) ∈ lw_all := lw_g (lw_at lw_m4 104 rfl) rfl
theorem q902 : (Jvm.Cond.code ({ cls := "EelPort$Reader", name := "eel", desc := "(Ljava/lang/String;)LEelPort$Eel;" } : Jvm.MethodName) prog_16_method_14_code (1 : Nat) (Option.some (Jvm.ClassFile.FieldType.object "EelPort$Eel"))) ∈ lw_all := lw_g (lw_at lw_m4 105 rfl) rfl
theorem q903 : (Jvm.Cond.stringRef "EelPort$Reader" (125 : Nat) "plain") ∈ lw_tbl := lw_at lw_m4 106 rfl
theorem q904 : (Jvm.Cond.methodLink "EelPort$Reader" (99 : Nat) ({ cls := "java/lang/String", name := "equals", desc := "(Ljava/lang/Object;)Z" } : Jvm.MethodName)) ∈ lw_all := lw_g (lw_at lw_m4 107 rfl) rfl
theorem q912 : (Jvm.Cond.classLink "EelPort$Reader" (127 : Nat) "EelPort$Eel") ∈ lw_all := lw_g (lw_at lw_m4 115 rfl) rfl
theorem q914 : (Jvm.Cond.methodLinkNest "EelPort$Reader" (129 : Nat) ({ cls := "EelPort$Eel", name := "<init>", desc := "()V" } : Jvm.MethodName) "EelPort") ∈ lw_tbl := lw_at lw_m4 117 rfl
theorem q919 : (Jvm.Cond.fieldLinkNest "EelPort$Reader" (187 : Nat) "EelPort$Eel" "owner" "I" "EelPort") ∈ lw_tbl := lw_at lw_m4 122 rfl
theorem q922 : (Jvm.Cond.fieldLinkNest "EelPort$Reader" (196 : Nat) "EelPort$Eel" "quay" "I" "EelPort") ∈ lw_tbl := lw_at lw_m4 125 rfl
theorem q925 : (Jvm.Cond.fieldLinkNest "EelPort$Reader" (199 : Nat) "EelPort$Eel" "bright" "I" "EelPort") ∈ lw_tbl := lw_at lw_m4 128 rfl
theorem q928 : (Jvm.Cond.fieldLinkNest "EelPort$Reader" (202 : Nat) "EelPort$Eel" "hunger" "I" "EelPort") ∈ lw_tbl := lw_at lw_m4 131 rfl
theorem q938 : (Jvm.Cond.stringRef "EelPort$Reader" (130 : Nat) "greedy") ∈ lw_tbl := lw_at lw_m4 141 rfl
theorem q939 : (Jvm.Cond.classLink "EelPort$Reader" (132 : Nat) "EelPort$Greedy") ∈ lw_all := lw_g (lw_at lw_m4 142 rfl) rfl
theorem q941 : (Jvm.Cond.methodLinkNest "EelPort$Reader" (134 : Nat) ({ cls := "EelPort$Greedy", name := "<init>", desc := "()V" } : Jvm.MethodName) "EelPort") ∈ lw_tbl := lw_at lw_m4 144 rfl
theorem q949 : (Jvm.Cond.stringRef "EelPort$Reader" (135 : Nat) "loving") ∈ lw_tbl := lw_at lw_m4 152 rfl
theorem q950 : (Jvm.Cond.classLink "EelPort$Reader" (137 : Nat) "EelPort$Loving") ∈ lw_all := lw_g (lw_at lw_m4 153 rfl) rfl
theorem q952 : (Jvm.Cond.methodLinkNest "EelPort$Reader" (139 : Nat) ({ cls := "EelPort$Loving", name := "<init>", desc := "()V" } : Jvm.MethodName) "EelPort") ∈ lw_tbl := lw_at lw_m4 155 rfl
theorem q960 : (Jvm.Cond.stringRef "EelPort$Reader" (140 : Nat) "shy") ∈ lw_tbl := lw_at lw_m4 163 rfl
theorem q961 : (Jvm.Cond.classLink "EelPort$Reader" (142 : Nat) "EelPort$Shy") ∈ lw_all := lw_g (lw_at lw_m4 164 rfl) rfl
theorem q963 : (Jvm.Cond.methodLinkNest "EelPort$Reader" (144 : Nat) ({ cls := "EelPort$Shy", name := "<init>", desc := "()V" } : Jvm.MethodName) "EelPort") ∈ lw_tbl := lw_at lw_m4 166 rfl
theorem q971 : (Jvm.Cond.methodLink "EelPort$Reader" (172 : Nat) ({ cls := "EelPort$Reader", name := "ship", desc := "(Ljava/lang/String;)LEelPort$Ship;" } : Jvm.MethodName)) ∈ lw_all := lw_g (lw_at lw_m4 174 rfl) rfl
theorem q972 : (Jvm.Cond.static ({ cls := "EelPort$Reader", name := "ship", desc := "(Ljava/lang/String;)LEelPort$Ship;" } : Jvm.MethodName)) ∈ lw_all := lw_g (lw_at lw_m4 175 rfl) rfl
theorem q973 : (Jvm.Cond.code ({ cls := "EelPort$Reader", name := "ship", desc := "(Ljava/lang/String;)LEelPort$Ship;" } : Jvm.MethodName) prog_16_method_15_code (1 : Nat) (Option.some (Jvm.ClassFile.FieldType.object "EelPort$Ship"))) ∈ lw_all := lw_g (lw_at lw_m4 176 rfl) rfl
theorem q974 : (Jvm.Cond.stringRef "EelPort$Reader" (145 : Nat) "barge") ∈ lw_tbl := lw_at lw_m4 177 rfl
theorem q975 : (Jvm.Cond.classLink "EelPort$Reader" (147 : Nat) "EelPort$Barge") ∈ lw_all := lw_g (lw_at lw_m4 178 rfl) rfl
theorem q977 : (Jvm.Cond.methodLinkNest "EelPort$Reader" (149 : Nat) ({ cls := "EelPort$Barge", name := "<init>", desc := "()V" } : Jvm.MethodName) "EelPort") ∈ lw_tbl := lw_at lw_m4 180 rfl
theorem q986 : (Jvm.Cond.fieldLink "EelPort$Reader" (211 : Nat) "EelPort$Ship" "quay" "I") ∈ lw_all := lw_g (lw_at lw_m4 189 rfl) rfl
theorem q989 : (Jvm.Cond.fieldLink "EelPort$Reader" (214 : Nat) "EelPort$Ship" "hour" "I") ∈ lw_all := lw_g (lw_at lw_m4 192 rfl) rfl
theorem q992 : (Jvm.Cond.fieldLink "EelPort$Reader" (217 : Nat) "EelPort$Ship" "sees" "I") ∈ lw_all := lw_g (lw_at lw_m4 195 rfl) rfl
theorem q1000 : (Jvm.Cond.stringRef "EelPort$Reader" (150 : Nat) "cutter") ∈ lw_tbl := lw_at lw_m4 203 rfl
theorem q1001 : (Jvm.Cond.classLink "EelPort$Reader" (152 : Nat) "EelPort$Cutter") ∈ lw_all := lw_g (lw_at lw_m4 204 rfl) rfl
theorem q1003 : (Jvm.Cond.methodLinkNest "EelPort$Reader" (154 : Nat) ({ cls := "EelPort$Cutter", name := "<init>", desc := "()V" } : Jvm.MethodName) "EelPort") ∈ lw_tbl := lw_at lw_m4 206 rfl
theorem q1011 : (Jvm.Cond.stringRef "EelPort$Reader" (155 : Nat) "smuggler") ∈ lw_tbl := lw_at lw_m4 214 rfl
theorem q1012 : (Jvm.Cond.classLink "EelPort$Reader" (157 : Nat) "EelPort$Smuggler") ∈ lw_all := lw_g (lw_at lw_m4 215 rfl) rfl
theorem q1014 : (Jvm.Cond.methodLinkNest "EelPort$Reader" (159 : Nat) ({ cls := "EelPort$Smuggler", name := "<init>", desc := "()V" } : Jvm.MethodName) "EelPort") ∈ lw_tbl := lw_at lw_m4 217 rfl
theorem q1022 : (Jvm.Cond.stringRef "EelPort$Reader" (160 : Nat) "pilot") ∈ lw_tbl := lw_at lw_m4 225 rfl
theorem q1023 : (Jvm.Cond.classLink "EelPort$Reader" (162 : Nat) "EelPort$Pilot") ∈ lw_all := lw_g (lw_at lw_m4 226 rfl) rfl
theorem q1025 : (Jvm.Cond.methodLinkNest "EelPort$Reader" (164 : Nat) ({ cls := "EelPort$Pilot", name := "<init>", desc := "()V" } : Jvm.MethodName) "EelPort") ∈ lw_tbl := lw_at lw_m4 228 rfl
theorem q1033 : (Jvm.Cond.methodLink "EelPort$Reader" (180 : Nat) ({ cls := "java/util/ArrayList", name := "size", desc := "()I" } : Jvm.MethodName)) ∈ lw_all := lw_g (lw_at lw_m4 236 rfl) rfl
theorem q1034 : (Jvm.Cond.methodLink "EelPort$Reader" (114 : Nat) ({ cls := "EelPort$Reader", name := "check", desc := "(ZI)V" } : Jvm.MethodName)) ∈ lw_all := lw_g (lw_at lw_m4 237 rfl) rfl
theorem q1035 : (Jvm.Cond.privateMethod ({ cls := "EelPort$Reader", name := "check", desc := "(ZI)V" } : Jvm.MethodName)) ∈ lw_tbl := lw_at lw_m4 238 rfl
theorem q1036 : (Jvm.Cond.instanceMethod ({ cls := "EelPort$Reader", name := "check", desc := "(ZI)V" } : Jvm.MethodName)) ∈ lw_all := lw_g (lw_at lw_m4 239 rfl) rfl
theorem q1037 : (Jvm.Cond.code ({ cls := "EelPort$Reader", name := "check", desc := "(ZI)V" } : Jvm.MethodName) prog_16_method_7_code (3 : Nat) (Option.none : Option Jvm.ClassFile.FieldType)) ∈ lw_all := lw_g (lw_at lw_m5 0 rfl) rfl
theorem q1038 : (Jvm.Cond.classLink "EelPort$Reader" (105 : Nat) "EelPort$Fault") ∈ lw_all := lw_g (lw_at lw_m5 1 rfl) rfl
theorem q1047 : (Jvm.Cond.methodLink "EelPort$Reader" (107 : Nat) ({ cls := "EelPort$Fault", name := "<init>", desc := "(II)V" } : Jvm.MethodName)) ∈ lw_all := lw_g (lw_at lw_m5 10 rfl) rfl
theorem q1061 : (Jvm.Cond.methodLink "EelPort$Reader" (184 : Nat) ({ cls := "EelPort$Reader", name := "number", desc := "(II)I" } : Jvm.MethodName)) ∈ lw_all := lw_g (lw_at lw_m5 24 rfl) rfl
theorem q1062 : (Jvm.Cond.privateMethod ({ cls := "EelPort$Reader", name := "number", desc := "(II)I" } : Jvm.MethodName)) ∈ lw_tbl := lw_at lw_m5 25 rfl
theorem q1063 : (Jvm.Cond.instanceMethod ({ cls := "EelPort$Reader", name := "number", desc := "(II)I" } : Jvm.MethodName)) ∈ lw_all := lw_g (lw_at lw_m5 26 rfl) rfl
theorem q1064 : (Jvm.Cond.code ({ cls := "EelPort$Reader", name := "number", desc := "(II)I" } : Jvm.MethodName) prog_16_method_10_code (4 : Nat) (Option.some Jvm.ClassFile.FieldType.int)) ∈ lw_all := lw_g (lw_at lw_m5 27 rfl) rfl
theorem q1065 : (Jvm.Cond.methodLink "EelPort$Reader" (118 : Nat) ({ cls := "EelPort$Reader", name := "numberHere", desc := "(II)I" } : Jvm.MethodName)) ∈ lw_all := lw_g (lw_at lw_m5 28 rfl) rfl
theorem q1066 : (Jvm.Cond.privateMethod ({ cls := "EelPort$Reader", name := "numberHere", desc := "(II)I" } : Jvm.MethodName)) ∈ lw_tbl := lw_at lw_m5 29 rfl
theorem q1067 : (Jvm.Cond.instanceMethod ({ cls := "EelPort$Reader", name := "numberHere", desc := "(II)I" } : Jvm.MethodName)) ∈ lw_all := lw_g (lw_at lw_m5 30 rfl) rfl
theorem q1068 : (Jvm.Cond.code ({ cls := "EelPort$Reader", name := "numberHere", desc := "(II)I" } : Jvm.MethodName) prog_16_method_9_code (3 : Nat) (Option.some Jvm.ClassFile.FieldType.int)) ∈ lw_all := lw_g (lw_at lw_m5 31 rfl) rfl
theorem q1069 : (Jvm.Cond.methodLink "EelPort$Reader" (193 : Nat) ({ cls := "EelPort$Reader", name := "among", desc := "(I)I" } : Jvm.MethodName)) ∈ lw_all := lw_g (lw_at lw_m5 32 rfl) rfl
theorem q1070 : (Jvm.Cond.privateMethod ({ cls := "EelPort$Reader", name := "among", desc := "(I)I" } : Jvm.MethodName)) ∈ lw_tbl := lw_at lw_m5 33 rfl
theorem q1071 : (Jvm.Cond.instanceMethod ({ cls := "EelPort$Reader", name := "among", desc := "(I)I" } : Jvm.MethodName)) ∈ lw_all := lw_g (lw_at lw_m5 34 rfl) rfl
theorem q1072 : (Jvm.Cond.code ({ cls := "EelPort$Reader", name := "among", desc := "(I)I" } : Jvm.MethodName) prog_16_method_12_code (3 : Nat) (Option.some Jvm.ClassFile.FieldType.int)) ∈ lw_all := lw_g (lw_at lw_m5 35 rfl) rfl
theorem q1073 : (Jvm.Cond.methodLink "EelPort$Reader" (122 : Nat) ({ cls := "EelPort$Reader", name := "amongHere", desc := "(I)I" } : Jvm.MethodName)) ∈ lw_all := lw_g (lw_at lw_m5 36 rfl) rfl
theorem q1074 : (Jvm.Cond.privateMethod ({ cls := "EelPort$Reader", name := "amongHere", desc := "(I)I" } : Jvm.MethodName)) ∈ lw_tbl := lw_at lw_m5 37 rfl
theorem q1075 : (Jvm.Cond.instanceMethod ({ cls := "EelPort$Reader", name := "amongHere", desc := "(I)I" } : Jvm.MethodName)) ∈ lw_all := lw_g (lw_at lw_m5 38 rfl) rfl
theorem q1076 : (Jvm.Cond.code ({ cls := "EelPort$Reader", name := "amongHere", desc := "(I)I" } : Jvm.MethodName) prog_16_method_11_code (2 : Nat) (Option.some Jvm.ClassFile.FieldType.int)) ∈ lw_all := lw_g (lw_at lw_m5 39 rfl) rfl
theorem q1077 : (Jvm.Cond.methodLink "EelPort$Reader" (205 : Nat) ({ cls := "java/util/ArrayList", name := "add", desc := "(Ljava/lang/Object;)Z" } : Jvm.MethodName)) ∈ lw_all := lw_g (lw_at lw_m5 40 rfl) rfl
theorem q1116 : (Jvm.Cond.selects "EelPort$Reader" ({ cls := "java/lang/Object", name := "getClass", desc := "()Ljava/lang/Class;" } : Jvm.MethodName) ({ cls := "java/lang/Object", name := "getClass", desc := "()Ljava/lang/Class;" } : Jvm.MethodName)) ∈ lw_all := lw_g (lw_at lw_m5 79 rfl) rfl
theorem q1134 : (Jvm.Cond.stringRef "EelPort$Reader" (220 : Nat) "way") ∈ lw_tbl := lw_at lw_m5 97 rfl
theorem q1135 : (Jvm.Cond.methodLink "EelPort$Reader" (110 : Nat) ({ cls := "EelPort$Reader", name := "is", desc := "(Ljava/lang/String;)Z" } : Jvm.MethodName)) ∈ lw_all := lw_g (lw_at lw_m5 98 rfl) rfl
theorem q1136 : (Jvm.Cond.privateMethod ({ cls := "EelPort$Reader", name := "is", desc := "(Ljava/lang/String;)Z" } : Jvm.MethodName)) ∈ lw_tbl := lw_at lw_m5 99 rfl
theorem q1137 : (Jvm.Cond.instanceMethod ({ cls := "EelPort$Reader", name := "is", desc := "(Ljava/lang/String;)Z" } : Jvm.MethodName)) ∈ lw_all := lw_g (lw_at lw_m5 100 rfl) rfl
theorem q1138 : (Jvm.Cond.code ({ cls := "EelPort$Reader", name := "is", desc := "(Ljava/lang/String;)Z" } : Jvm.MethodName) prog_16_method_6_code (2 : Nat) (Option.some Jvm.ClassFile.FieldType.boolean)) ∈ lw_all := lw_g (lw_at lw_m5 101 rfl) rfl
theorem q1139 : (Jvm.Cond.methodLink "EelPort$Reader" (222 : Nat) ({ cls := "java/util/ArrayList", name := "get", desc := "(I)Ljava/lang/Object;" } : Jvm.MethodName)) ∈ lw_all := lw_g (lw_at lw_m5 102 rfl) rfl
theorem q1140 : (Jvm.Cond.classLink "EelPort$Reader" (226 : Nat) "EelPort$Quay") ∈ lw_all := lw_g (lw_at lw_m5 103 rfl) rfl
theorem q1141 : (Jvm.Cond.stringRef "EelPort$Reader" (231 : Nat) "moon") ∈ lw_tbl := lw_at lw_m5 104 rfl
theorem q1142 : (Jvm.Cond.methodLink "EelPort$Reader" (233 : Nat) ({ cls := "EelPort$Reader", name := "once", desc := "([Z)I" } : Jvm.MethodName)) ∈ lw_all := lw_g (lw_at lw_m5 105 rfl) rfl
theorem q1143 : (Jvm.Cond.privateMethod ({ cls := "EelPort$Reader", name := "once", desc := "([Z)I" } : Jvm.MethodName)) ∈ lw_tbl := lw_at lw_m5 106 rfl
theorem q1144 : (Jvm.Cond.instanceMethod ({ cls := "EelPort$Reader", name := "once", desc := "([Z)I" } : Jvm.MethodName)) ∈ lw_all := lw_g (lw_at lw_m5 107 rfl) rfl
theorem q1145 : (Jvm.Cond.code ({ cls := "EelPort$Reader", name := "once", desc := "([Z)I" } : Jvm.MethodName) prog_16_method_13_code (3 : Nat) (Option.some Jvm.ClassFile.FieldType.int)) ∈ lw_all := lw_g (lw_at lw_m5 108 rfl) rfl
theorem q1146 : (Jvm.Cond.stringRef "EelPort$Reader" (240 : Nat) "cold") ∈ lw_tbl := lw_at lw_m5 109 rfl
theorem q1147 : (Jvm.Cond.stringRef "EelPort$Reader" (245 : Nat) "hood") ∈ lw_tbl := lw_at lw_m5 110 rfl
theorem q1148 : (Jvm.Cond.stringRef "EelPort$Reader" (259 : Nat) "price") ∈ lw_tbl := lw_at lw_m5 111 rfl
theorem q1149 : (Jvm.Cond.methodLink "EelPort$Reader" (270 : Nat) ({ cls := "EelPort$Reader", name := "quay", desc := "(LEelPort$Port;)V" } : Jvm.MethodName)) ∈ lw_all := lw_g (lw_at lw_m5 112 rfl) rfl
theorem q1150 : (Jvm.Cond.privateMethod ({ cls := "EelPort$Reader", name := "quay", desc := "(LEelPort$Port;)V" } : Jvm.MethodName)) ∈ lw_tbl := lw_at lw_m5 113 rfl
theorem q1151 : (Jvm.Cond.instanceMethod ({ cls := "EelPort$Reader", name := "quay", desc := "(LEelPort$Port;)V" } : Jvm.MethodName)) ∈ lw_all := lw_g (lw_at lw_m5 114 rfl) rfl
theorem q1152 : (Jvm.Cond.code ({ cls := "EelPort$Reader", name := "quay", desc := "(LEelPort$Port;)V" } : Jvm.MethodName) prog_16_method_17_code (4 : Nat) (Option.none : Option Jvm.ClassFile.FieldType)) ∈ lw_all := lw_g (lw_at lw_m5 115 rfl) rfl
theorem q1153 : (Jvm.Cond.stringRef "EelPort$Reader" (277 : Nat) "open") ∈ lw_tbl := lw_at lw_m5 116 rfl
theorem q1154 : (Jvm.Cond.stringRef "EelPort$Reader" (279 : Nat) "lock") ∈ lw_tbl := lw_at lw_m5 117 rfl
theorem q1155 : (Jvm.Cond.stringRef "EelPort$Reader" (281 : Nat) "rock") ∈ lw_tbl := lw_at lw_m5 118 rfl
theorem q1156 : (Jvm.Cond.stringRef "EelPort$Reader" (283 : Nat) "home") ∈ lw_tbl := lw_at lw_m5 119 rfl
theorem q1157 : (Jvm.Cond.classLink "EelPort$Reader" (285 : Nat) "EelPort$Open") ∈ lw_all := lw_g (lw_at lw_m5 120 rfl) rfl
theorem q1159 : (Jvm.Cond.methodLinkNest "EelPort$Reader" (287 : Nat) ({ cls := "EelPort$Open", name := "<init>", desc := "()V" } : Jvm.MethodName) "EelPort") ∈ lw_tbl := lw_at lw_m5 122 rfl
theorem q1168 : (Jvm.Cond.fieldLink "EelPort$Reader" (299 : Nat) "EelPort$Quay" "salt" "I") ∈ lw_all := lw_g (lw_at lw_m5 131 rfl) rfl
theorem q1171 : (Jvm.Cond.fieldLink "EelPort$Reader" (228 : Nat) "EelPort$Quay" "ways" "I") ∈ lw_all := lw_g (lw_at lw_m5 134 rfl) rfl
theorem q1177 : (Jvm.Cond.classLink "EelPort$Reader" (288 : Nat) "EelPort$Lock") ∈ lw_all := lw_g (lw_at lw_m5 140 rfl) rfl
theorem q1179 : (Jvm.Cond.methodLinkNest "EelPort$Reader" (290 : Nat) ({ cls := "EelPort$Lock", name := "<init>", desc := "()V" } : Jvm.MethodName) "EelPort") ∈ lw_tbl := lw_at lw_m5 142 rfl
theorem q1186 : (Jvm.Cond.classLink "EelPort$Reader" (291 : Nat) "EelPort$Rock") ∈ lw_all := lw_g (lw_at lw_m5 149 rfl) rfl
theorem q1188 : (Jvm.Cond.methodLinkNest "EelPort$Reader" (293 : Nat) ({ cls := "EelPort$Rock", name := "<init>", desc := "()V" } : Jvm.MethodName) "EelPort") ∈ lw_tbl := lw_at lw_m5 151 rfl
theorem q1195 : (Jvm.Cond.classLink "EelPort$Reader" (294 : Nat) "EelPort$Home") ∈ lw_all := lw_g (lw_at lw_m5 158 rfl) rfl
theorem q1197 : (Jvm.Cond.methodLink "EelPort$Reader" (296 : Nat) ({ cls := "EelPort$Home", name := "<init>", desc := "(I)V" } : Jvm.MethodName)) ∈ lw_all := lw_g (lw_at lw_m5 160 rfl) rfl
theorem q1207 : (Jvm.Cond.stringRef "EelPort$Reader" (297 : Nat) "salt") ∈ lw_tbl := lw_at lw_m5 170 rfl
theorem q1208 : (Jvm.Cond.methodLink "EelPort$Reader" (273 : Nat) ({ cls := "EelPort$Reader", name := "need", desc := "(Ljava/lang/String;)V" } : Jvm.MethodName)) ∈ lw_all := lw_g (lw_at lw_m5 171 rfl) rfl
theorem q1209 : (Jvm.Cond.privateMethod ({ cls := "EelPort$Reader", name := "need", desc := "(Ljava/lang/String;)V" } : Jvm.MethodName)) ∈ lw_tbl := lw_at lw_m5 172 rfl
theorem q1210 : (Jvm.Cond.instanceMethod ({ cls := "EelPort$Reader", name := "need", desc := "(Ljava/lang/String;)V" } : Jvm.MethodName)) ∈ lw_all := lw_g (lw_at lw_m5 173 rfl) rfl
theorem q1211 : (Jvm.Cond.code ({ cls := "EelPort$Reader", name := "need", desc := "(Ljava/lang/String;)V" } : Jvm.MethodName) prog_16_method_8_code (2 : Nat) (Option.none : Option Jvm.ClassFile.FieldType)) ∈ lw_all := lw_g (lw_at lw_m5 174 rfl) rfl
theorem q2205 : (Jvm.Cond.castable "EelPort$Reader" "java/lang/Object") ∈ lw_tbl := lw_at lw_m9 208 rfl
theorem in_X6 : ∀ w ∈ wsX60, w ∈ lw_all := lw_in wsX60 [870, 872, 874, 876, 878, 880, 882, 884, 886, 888, 890] (by decide +kernel) (by decide +kernel)

/-! EelPortLaw -/
set_option maxRecDepth 100000
def RX0 : String := "EelPortLaw"
abbrev cX0_port : ByteArray := method_3_code
def yX0_port : MethodName := ⟨RX0, "port", "(LEelPort;I[J)I"⟩
def dkwX0_port_0 : List UInt8 := [44, 3, 42, 27, 182, 0, 7, 133, 80, 167, 0, 6, 78, 4, 172, 3, 172]
abbrev dktX0_port_0 : List UInt8 := dkwX0_port_0 ++ []
theorem dksX0_port_0 : cX0_port.data.toList.drop 0 = dktX0_port_0 := by decide +kernel
theorem dX0_port_0 : decode cX0_port 0 = .ok (.aload_n 2, 1) := dk_44 (dk_at dksX0_port_0 0 rfl rfl)
theorem dX0_port_1 : decode cX0_port 1 = .ok (.iconst 0, 1) := dk_3 (dk_at dksX0_port_0 1 rfl rfl)
theorem dX0_port_2 : decode cX0_port 2 = .ok (.aload_n 0, 1) := dk_42 (dk_at dksX0_port_0 2 rfl rfl)
theorem dX0_port_3 : decode cX0_port 3 = .ok (.iload_n 1, 1) := dk_27 (dk_at dksX0_port_0 3 rfl rfl)
theorem dX0_port_4 : decode cX0_port 4 = .ok (.invokevirtual 7, 3) := dk_182 0 7 (dk_at dksX0_port_0 4 rfl rfl)
theorem dX0_port_7 : decode cX0_port 7 = .ok (.i2l, 1) := dk_133 (dk_at dksX0_port_0 7 rfl rfl)
theorem dX0_port_8 : decode cX0_port 8 = .ok (.lastore, 1) := dk_80 (dk_at dksX0_port_0 8 rfl rfl)
theorem dX0_port_9 : decode cX0_port 9 = .ok (.goto 6, 3) := dk_167 0 6 (dk_at dksX0_port_0 9 rfl rfl)
theorem dX0_port_12 : decode cX0_port 12 = .ok (.astore_n 3, 1) := dk_78 (dk_at dksX0_port_0 12 rfl rfl)
theorem dX0_port_13 : decode cX0_port 13 = .ok (.iconst 1, 1) := dk_4 (dk_at dksX0_port_0 13 rfl rfl)
theorem dX0_port_14 : decode cX0_port 14 = .ok (.ireturn, 1) := dk_172 (dk_at dksX0_port_0 14 rfl rfl)
theorem dX0_port_15 : decode cX0_port 15 = .ok (.iconst 0, 1) := dk_3 (dk_at dksX0_port_0 15 rfl rfl)
theorem dX0_port_16 : decode cX0_port 16 = .ok (.ireturn, 1) := dk_172 (dk_at dksX0_port_0 16 rfl rfl)
abbrev cX0_count : ByteArray := method_4_code
def yX0_count : MethodName := ⟨RX0, "count", "(LEelPort;I[J)I"⟩
def dkwX0_count_0 : List UInt8 := [44, 3, 42, 27, 182, 0, 15, 133, 80, 167, 0, 6, 78, 4, 172, 3, 172]
abbrev dktX0_count_0 : List UInt8 := dkwX0_count_0 ++ []
theorem dksX0_count_0 : cX0_count.data.toList.drop 0 = dktX0_count_0 := by decide +kernel
theorem dX0_count_0 : decode cX0_count 0 = .ok (.aload_n 2, 1) := dk_44 (dk_at dksX0_count_0 0 rfl rfl)
theorem dX0_count_1 : decode cX0_count 1 = .ok (.iconst 0, 1) := dk_3 (dk_at dksX0_count_0 1 rfl rfl)
theorem dX0_count_2 : decode cX0_count 2 = .ok (.aload_n 0, 1) := dk_42 (dk_at dksX0_count_0 2 rfl rfl)
theorem dX0_count_3 : decode cX0_count 3 = .ok (.iload_n 1, 1) := dk_27 (dk_at dksX0_count_0 3 rfl rfl)
theorem dX0_count_4 : decode cX0_count 4 = .ok (.invokevirtual 15, 3) := dk_182 0 15 (dk_at dksX0_count_0 4 rfl rfl)
theorem dX0_count_7 : decode cX0_count 7 = .ok (.i2l, 1) := dk_133 (dk_at dksX0_count_0 7 rfl rfl)
theorem dX0_count_8 : decode cX0_count 8 = .ok (.lastore, 1) := dk_80 (dk_at dksX0_count_0 8 rfl rfl)
theorem dX0_count_9 : decode cX0_count 9 = .ok (.goto 6, 3) := dk_167 0 6 (dk_at dksX0_count_0 9 rfl rfl)
theorem dX0_count_12 : decode cX0_count 12 = .ok (.astore_n 3, 1) := dk_78 (dk_at dksX0_count_0 12 rfl rfl)
theorem dX0_count_13 : decode cX0_count 13 = .ok (.iconst 1, 1) := dk_4 (dk_at dksX0_count_0 13 rfl rfl)
theorem dX0_count_14 : decode cX0_count 14 = .ok (.ireturn, 1) := dk_172 (dk_at dksX0_count_0 14 rfl rfl)
theorem dX0_count_15 : decode cX0_count 15 = .ok (.iconst 0, 1) := dk_3 (dk_at dksX0_count_0 15 rfl rfl)
theorem dX0_count_16 : decode cX0_count 16 = .ok (.ireturn, 1) := dk_172 (dk_at dksX0_count_0 16 rfl rfl)
abbrev cX0_quay : ByteArray := method_5_code
def yX0_quay : MethodName := ⟨RX0, "quay", "(LEelPort;II[J)I"⟩
def dkwX0_quay_0 : List UInt8 := [45, 3, 42, 27, 28, 182, 0, 20, 133, 80, 167, 0, 7, 58, 4, 4, 172, 3, 172]
abbrev dktX0_quay_0 : List UInt8 := dkwX0_quay_0 ++ []
theorem dksX0_quay_0 : cX0_quay.data.toList.drop 0 = dktX0_quay_0 := by decide +kernel
theorem dX0_quay_0 : decode cX0_quay 0 = .ok (.aload_n 3, 1) := dk_45 (dk_at dksX0_quay_0 0 rfl rfl)
theorem dX0_quay_1 : decode cX0_quay 1 = .ok (.iconst 0, 1) := dk_3 (dk_at dksX0_quay_0 1 rfl rfl)
theorem dX0_quay_2 : decode cX0_quay 2 = .ok (.aload_n 0, 1) := dk_42 (dk_at dksX0_quay_0 2 rfl rfl)
theorem dX0_quay_3 : decode cX0_quay 3 = .ok (.iload_n 1, 1) := dk_27 (dk_at dksX0_quay_0 3 rfl rfl)
theorem dX0_quay_4 : decode cX0_quay 4 = .ok (.iload_n 2, 1) := dk_28 (dk_at dksX0_quay_0 4 rfl rfl)
theorem dX0_quay_5 : decode cX0_quay 5 = .ok (.invokevirtual 20, 3) := dk_182 0 20 (dk_at dksX0_quay_0 5 rfl rfl)
theorem dX0_quay_8 : decode cX0_quay 8 = .ok (.i2l, 1) := dk_133 (dk_at dksX0_quay_0 8 rfl rfl)
theorem dX0_quay_9 : decode cX0_quay 9 = .ok (.lastore, 1) := dk_80 (dk_at dksX0_quay_0 9 rfl rfl)
theorem dX0_quay_10 : decode cX0_quay 10 = .ok (.goto 7, 3) := dk_167 0 7 (dk_at dksX0_quay_0 10 rfl rfl)
theorem dX0_quay_13 : decode cX0_quay 13 = .ok (.astore 4, 2) := dk_58 4 (dk_at dksX0_quay_0 13 rfl rfl)
theorem dX0_quay_15 : decode cX0_quay 15 = .ok (.iconst 1, 1) := dk_4 (dk_at dksX0_quay_0 15 rfl rfl)
theorem dX0_quay_16 : decode cX0_quay 16 = .ok (.ireturn, 1) := dk_172 (dk_at dksX0_quay_0 16 rfl rfl)
theorem dX0_quay_17 : decode cX0_quay 17 = .ok (.iconst 0, 1) := dk_3 (dk_at dksX0_quay_0 17 rfl rfl)
theorem dX0_quay_18 : decode cX0_quay 18 = .ok (.ireturn, 1) := dk_172 (dk_at dksX0_quay_0 18 rfl rfl)
abbrev cX0_eel : ByteArray := method_6_code
def yX0_eel : MethodName := ⟨RX0, "eel", "(LEelPort;II[J)I"⟩
def dkwX0_eel_0 : List UInt8 := [45, 3, 42, 27, 28, 182, 0, 24, 133, 80, 167, 0, 7, 58, 4, 4, 172, 3, 172]
abbrev dktX0_eel_0 : List UInt8 := dkwX0_eel_0 ++ []
theorem dksX0_eel_0 : cX0_eel.data.toList.drop 0 = dktX0_eel_0 := by decide +kernel
theorem dX0_eel_0 : decode cX0_eel 0 = .ok (.aload_n 3, 1) := dk_45 (dk_at dksX0_eel_0 0 rfl rfl)
theorem dX0_eel_1 : decode cX0_eel 1 = .ok (.iconst 0, 1) := dk_3 (dk_at dksX0_eel_0 1 rfl rfl)
theorem dX0_eel_2 : decode cX0_eel 2 = .ok (.aload_n 0, 1) := dk_42 (dk_at dksX0_eel_0 2 rfl rfl)
theorem dX0_eel_3 : decode cX0_eel 3 = .ok (.iload_n 1, 1) := dk_27 (dk_at dksX0_eel_0 3 rfl rfl)
theorem dX0_eel_4 : decode cX0_eel 4 = .ok (.iload_n 2, 1) := dk_28 (dk_at dksX0_eel_0 4 rfl rfl)
theorem dX0_eel_5 : decode cX0_eel 5 = .ok (.invokevirtual 24, 3) := dk_182 0 24 (dk_at dksX0_eel_0 5 rfl rfl)
theorem dX0_eel_8 : decode cX0_eel 8 = .ok (.i2l, 1) := dk_133 (dk_at dksX0_eel_0 8 rfl rfl)
theorem dX0_eel_9 : decode cX0_eel 9 = .ok (.lastore, 1) := dk_80 (dk_at dksX0_eel_0 9 rfl rfl)
theorem dX0_eel_10 : decode cX0_eel 10 = .ok (.goto 7, 3) := dk_167 0 7 (dk_at dksX0_eel_0 10 rfl rfl)
theorem dX0_eel_13 : decode cX0_eel 13 = .ok (.astore 4, 2) := dk_58 4 (dk_at dksX0_eel_0 13 rfl rfl)
theorem dX0_eel_15 : decode cX0_eel 15 = .ok (.iconst 1, 1) := dk_4 (dk_at dksX0_eel_0 15 rfl rfl)
theorem dX0_eel_16 : decode cX0_eel 16 = .ok (.ireturn, 1) := dk_172 (dk_at dksX0_eel_0 16 rfl rfl)
theorem dX0_eel_17 : decode cX0_eel 17 = .ok (.iconst 0, 1) := dk_3 (dk_at dksX0_eel_0 17 rfl rfl)
theorem dX0_eel_18 : decode cX0_eel 18 = .ok (.ireturn, 1) := dk_172 (dk_at dksX0_eel_0 18 rfl rfl)
abbrev cX0_ship : ByteArray := method_7_code
def yX0_ship : MethodName := ⟨RX0, "ship", "(LEelPort;II[J)I"⟩
def dkwX0_ship_0 : List UInt8 := [45, 3, 42, 27, 28, 182, 0, 27, 133, 80, 167, 0, 7, 58, 4, 4, 172, 3, 172]
abbrev dktX0_ship_0 : List UInt8 := dkwX0_ship_0 ++ []
theorem dksX0_ship_0 : cX0_ship.data.toList.drop 0 = dktX0_ship_0 := by decide +kernel
theorem dX0_ship_0 : decode cX0_ship 0 = .ok (.aload_n 3, 1) := dk_45 (dk_at dksX0_ship_0 0 rfl rfl)
theorem dX0_ship_1 : decode cX0_ship 1 = .ok (.iconst 0, 1) := dk_3 (dk_at dksX0_ship_0 1 rfl rfl)
theorem dX0_ship_2 : decode cX0_ship 2 = .ok (.aload_n 0, 1) := dk_42 (dk_at dksX0_ship_0 2 rfl rfl)
theorem dX0_ship_3 : decode cX0_ship 3 = .ok (.iload_n 1, 1) := dk_27 (dk_at dksX0_ship_0 3 rfl rfl)
theorem dX0_ship_4 : decode cX0_ship 4 = .ok (.iload_n 2, 1) := dk_28 (dk_at dksX0_ship_0 4 rfl rfl)
theorem dX0_ship_5 : decode cX0_ship 5 = .ok (.invokevirtual 27, 3) := dk_182 0 27 (dk_at dksX0_ship_0 5 rfl rfl)
theorem dX0_ship_8 : decode cX0_ship 8 = .ok (.i2l, 1) := dk_133 (dk_at dksX0_ship_0 8 rfl rfl)
theorem dX0_ship_9 : decode cX0_ship 9 = .ok (.lastore, 1) := dk_80 (dk_at dksX0_ship_0 9 rfl rfl)
theorem dX0_ship_10 : decode cX0_ship 10 = .ok (.goto 7, 3) := dk_167 0 7 (dk_at dksX0_ship_0 10 rfl rfl)
theorem dX0_ship_13 : decode cX0_ship 13 = .ok (.astore 4, 2) := dk_58 4 (dk_at dksX0_ship_0 13 rfl rfl)
theorem dX0_ship_15 : decode cX0_ship 15 = .ok (.iconst 1, 1) := dk_4 (dk_at dksX0_ship_0 15 rfl rfl)
theorem dX0_ship_16 : decode cX0_ship 16 = .ok (.ireturn, 1) := dk_172 (dk_at dksX0_ship_0 16 rfl rfl)
theorem dX0_ship_17 : decode cX0_ship 17 = .ok (.iconst 0, 1) := dk_3 (dk_at dksX0_ship_0 17 rfl rfl)
theorem dX0_ship_18 : decode cX0_ship 18 = .ok (.ireturn, 1) := dk_172 (dk_at dksX0_ship_0 18 rfl rfl)
abbrev cX0_meal : ByteArray := method_8_code
def yX0_meal : MethodName := ⟨RX0, "meal", "(LEelPort;III[J)I"⟩
def dkwX0_meal_0 : List UInt8 := [25, 4, 3, 42, 27, 28, 29, 182, 0, 30, 133, 80, 167, 0, 7, 58, 5, 4, 172, 3, 172]
abbrev dktX0_meal_0 : List UInt8 := dkwX0_meal_0 ++ []
theorem dksX0_meal_0 : cX0_meal.data.toList.drop 0 = dktX0_meal_0 := by decide +kernel
theorem dX0_meal_0 : decode cX0_meal 0 = .ok (.aload 4, 2) := dk_25 4 (dk_at dksX0_meal_0 0 rfl rfl)
theorem dX0_meal_2 : decode cX0_meal 2 = .ok (.iconst 0, 1) := dk_3 (dk_at dksX0_meal_0 2 rfl rfl)
theorem dX0_meal_3 : decode cX0_meal 3 = .ok (.aload_n 0, 1) := dk_42 (dk_at dksX0_meal_0 3 rfl rfl)
theorem dX0_meal_4 : decode cX0_meal 4 = .ok (.iload_n 1, 1) := dk_27 (dk_at dksX0_meal_0 4 rfl rfl)
theorem dX0_meal_5 : decode cX0_meal 5 = .ok (.iload_n 2, 1) := dk_28 (dk_at dksX0_meal_0 5 rfl rfl)
theorem dX0_meal_6 : decode cX0_meal 6 = .ok (.iload_n 3, 1) := dk_29 (dk_at dksX0_meal_0 6 rfl rfl)
theorem dX0_meal_7 : decode cX0_meal 7 = .ok (.invokevirtual 30, 3) := dk_182 0 30 (dk_at dksX0_meal_0 7 rfl rfl)
theorem dX0_meal_10 : decode cX0_meal 10 = .ok (.i2l, 1) := dk_133 (dk_at dksX0_meal_0 10 rfl rfl)
theorem dX0_meal_11 : decode cX0_meal 11 = .ok (.lastore, 1) := dk_80 (dk_at dksX0_meal_0 11 rfl rfl)
theorem dX0_meal_12 : decode cX0_meal 12 = .ok (.goto 7, 3) := dk_167 0 7 (dk_at dksX0_meal_0 12 rfl rfl)
theorem dX0_meal_15 : decode cX0_meal 15 = .ok (.astore 5, 2) := dk_58 5 (dk_at dksX0_meal_0 15 rfl rfl)
theorem dX0_meal_17 : decode cX0_meal 17 = .ok (.iconst 1, 1) := dk_4 (dk_at dksX0_meal_0 17 rfl rfl)
theorem dX0_meal_18 : decode cX0_meal 18 = .ok (.ireturn, 1) := dk_172 (dk_at dksX0_meal_0 18 rfl rfl)
theorem dX0_meal_19 : decode cX0_meal 19 = .ok (.iconst 0, 1) := dk_3 (dk_at dksX0_meal_0 19 rfl rfl)
theorem dX0_meal_20 : decode cX0_meal 20 = .ok (.ireturn, 1) := dk_172 (dk_at dksX0_meal_0 20 rfl rfl)
abbrev cX0_hunger : ByteArray := method_9_code
def yX0_hunger : MethodName := ⟨RX0, "hunger", "(LEelPort;II[J)I"⟩
def dkwX0_hunger_0 : List UInt8 := [45, 3, 42, 27, 28, 182, 0, 34, 133, 80, 167, 0, 7, 58, 4, 4, 172, 3, 172]
abbrev dktX0_hunger_0 : List UInt8 := dkwX0_hunger_0 ++ []
theorem dksX0_hunger_0 : cX0_hunger.data.toList.drop 0 = dktX0_hunger_0 := by decide +kernel
theorem dX0_hunger_0 : decode cX0_hunger 0 = .ok (.aload_n 3, 1) := dk_45 (dk_at dksX0_hunger_0 0 rfl rfl)
theorem dX0_hunger_1 : decode cX0_hunger 1 = .ok (.iconst 0, 1) := dk_3 (dk_at dksX0_hunger_0 1 rfl rfl)
theorem dX0_hunger_2 : decode cX0_hunger 2 = .ok (.aload_n 0, 1) := dk_42 (dk_at dksX0_hunger_0 2 rfl rfl)
theorem dX0_hunger_3 : decode cX0_hunger 3 = .ok (.iload_n 1, 1) := dk_27 (dk_at dksX0_hunger_0 3 rfl rfl)
theorem dX0_hunger_4 : decode cX0_hunger 4 = .ok (.iload_n 2, 1) := dk_28 (dk_at dksX0_hunger_0 4 rfl rfl)
theorem dX0_hunger_5 : decode cX0_hunger 5 = .ok (.invokevirtual 34, 3) := dk_182 0 34 (dk_at dksX0_hunger_0 5 rfl rfl)
theorem dX0_hunger_8 : decode cX0_hunger 8 = .ok (.i2l, 1) := dk_133 (dk_at dksX0_hunger_0 8 rfl rfl)
theorem dX0_hunger_9 : decode cX0_hunger 9 = .ok (.lastore, 1) := dk_80 (dk_at dksX0_hunger_0 9 rfl rfl)
theorem dX0_hunger_10 : decode cX0_hunger 10 = .ok (.goto 7, 3) := dk_167 0 7 (dk_at dksX0_hunger_0 10 rfl rfl)
theorem dX0_hunger_13 : decode cX0_hunger 13 = .ok (.astore 4, 2) := dk_58 4 (dk_at dksX0_hunger_0 13 rfl rfl)
theorem dX0_hunger_15 : decode cX0_hunger 15 = .ok (.iconst 1, 1) := dk_4 (dk_at dksX0_hunger_0 15 rfl rfl)
theorem dX0_hunger_16 : decode cX0_hunger 16 = .ok (.ireturn, 1) := dk_172 (dk_at dksX0_hunger_0 16 rfl rfl)
theorem dX0_hunger_17 : decode cX0_hunger 17 = .ok (.iconst 0, 1) := dk_3 (dk_at dksX0_hunger_0 17 rfl rfl)
theorem dX0_hunger_18 : decode cX0_hunger 18 = .ok (.ireturn, 1) := dk_172 (dk_at dksX0_hunger_0 18 rfl rfl)
abbrev cX0_glow : ByteArray := method_10_code
def yX0_glow : MethodName := ⟨RX0, "glow", "(LEelPort;II[J)I"⟩
def dkwX0_glow_0 : List UInt8 := [45, 3, 42, 27, 28, 182, 0, 37, 133, 80, 167, 0, 7, 58, 4, 4, 172, 3, 172]
abbrev dktX0_glow_0 : List UInt8 := dkwX0_glow_0 ++ []
theorem dksX0_glow_0 : cX0_glow.data.toList.drop 0 = dktX0_glow_0 := by decide +kernel
theorem dX0_glow_0 : decode cX0_glow 0 = .ok (.aload_n 3, 1) := dk_45 (dk_at dksX0_glow_0 0 rfl rfl)
theorem dX0_glow_1 : decode cX0_glow 1 = .ok (.iconst 0, 1) := dk_3 (dk_at dksX0_glow_0 1 rfl rfl)
theorem dX0_glow_2 : decode cX0_glow 2 = .ok (.aload_n 0, 1) := dk_42 (dk_at dksX0_glow_0 2 rfl rfl)
theorem dX0_glow_3 : decode cX0_glow 3 = .ok (.iload_n 1, 1) := dk_27 (dk_at dksX0_glow_0 3 rfl rfl)
theorem dX0_glow_4 : decode cX0_glow 4 = .ok (.iload_n 2, 1) := dk_28 (dk_at dksX0_glow_0 4 rfl rfl)
theorem dX0_glow_5 : decode cX0_glow 5 = .ok (.invokevirtual 37, 3) := dk_182 0 37 (dk_at dksX0_glow_0 5 rfl rfl)
theorem dX0_glow_8 : decode cX0_glow 8 = .ok (.i2l, 1) := dk_133 (dk_at dksX0_glow_0 8 rfl rfl)
theorem dX0_glow_9 : decode cX0_glow 9 = .ok (.lastore, 1) := dk_80 (dk_at dksX0_glow_0 9 rfl rfl)
theorem dX0_glow_10 : decode cX0_glow 10 = .ok (.goto 7, 3) := dk_167 0 7 (dk_at dksX0_glow_0 10 rfl rfl)
theorem dX0_glow_13 : decode cX0_glow 13 = .ok (.astore 4, 2) := dk_58 4 (dk_at dksX0_glow_0 13 rfl rfl)
theorem dX0_glow_15 : decode cX0_glow 15 = .ok (.iconst 1, 1) := dk_4 (dk_at dksX0_glow_0 15 rfl rfl)
theorem dX0_glow_16 : decode cX0_glow 16 = .ok (.ireturn, 1) := dk_172 (dk_at dksX0_glow_0 16 rfl rfl)
theorem dX0_glow_17 : decode cX0_glow 17 = .ok (.iconst 0, 1) := dk_3 (dk_at dksX0_glow_0 17 rfl rfl)
theorem dX0_glow_18 : decode cX0_glow 18 = .ok (.ireturn, 1) := dk_172 (dk_at dksX0_glow_0 18 rfl rfl)
abbrev cX0_led : ByteArray := method_11_code
def yX0_led : MethodName := ⟨RX0, "led", "(LEelPort;II[J)I"⟩
def dkwX0_led_0 : List UInt8 := [45, 3, 42, 27, 28, 182, 0, 40, 133, 80, 167, 0, 7, 58, 4, 4, 172, 3, 172]
abbrev dktX0_led_0 : List UInt8 := dkwX0_led_0 ++ []
theorem dksX0_led_0 : cX0_led.data.toList.drop 0 = dktX0_led_0 := by decide +kernel
theorem dX0_led_0 : decode cX0_led 0 = .ok (.aload_n 3, 1) := dk_45 (dk_at dksX0_led_0 0 rfl rfl)
theorem dX0_led_1 : decode cX0_led 1 = .ok (.iconst 0, 1) := dk_3 (dk_at dksX0_led_0 1 rfl rfl)
theorem dX0_led_2 : decode cX0_led 2 = .ok (.aload_n 0, 1) := dk_42 (dk_at dksX0_led_0 2 rfl rfl)
theorem dX0_led_3 : decode cX0_led 3 = .ok (.iload_n 1, 1) := dk_27 (dk_at dksX0_led_0 3 rfl rfl)
theorem dX0_led_4 : decode cX0_led 4 = .ok (.iload_n 2, 1) := dk_28 (dk_at dksX0_led_0 4 rfl rfl)
theorem dX0_led_5 : decode cX0_led 5 = .ok (.invokevirtual 40, 3) := dk_182 0 40 (dk_at dksX0_led_0 5 rfl rfl)
theorem dX0_led_8 : decode cX0_led 8 = .ok (.i2l, 1) := dk_133 (dk_at dksX0_led_0 8 rfl rfl)
theorem dX0_led_9 : decode cX0_led 9 = .ok (.lastore, 1) := dk_80 (dk_at dksX0_led_0 9 rfl rfl)
theorem dX0_led_10 : decode cX0_led 10 = .ok (.goto 7, 3) := dk_167 0 7 (dk_at dksX0_led_0 10 rfl rfl)
theorem dX0_led_13 : decode cX0_led 13 = .ok (.astore 4, 2) := dk_58 4 (dk_at dksX0_led_0 13 rfl rfl)
theorem dX0_led_15 : decode cX0_led 15 = .ok (.iconst 1, 1) := dk_4 (dk_at dksX0_led_0 15 rfl rfl)
theorem dX0_led_16 : decode cX0_led 16 = .ok (.ireturn, 1) := dk_172 (dk_at dksX0_led_0 16 rfl rfl)
theorem dX0_led_17 : decode cX0_led 17 = .ok (.iconst 0, 1) := dk_3 (dk_at dksX0_led_0 17 rfl rfl)
theorem dX0_led_18 : decode cX0_led 18 = .ok (.ireturn, 1) := dk_172 (dk_at dksX0_led_0 18 rfl rfl)
abbrev cX0_light : ByteArray := method_12_code
def yX0_light : MethodName := ⟨RX0, "light", "(LEelPort;II[J)I"⟩
def dkwX0_light_0 : List UInt8 := [45, 3, 42, 27, 28, 182, 0, 43, 133, 80, 167, 0, 7, 58, 4, 4, 172, 3, 172]
abbrev dktX0_light_0 : List UInt8 := dkwX0_light_0 ++ []
theorem dksX0_light_0 : cX0_light.data.toList.drop 0 = dktX0_light_0 := by decide +kernel
theorem dX0_light_0 : decode cX0_light 0 = .ok (.aload_n 3, 1) := dk_45 (dk_at dksX0_light_0 0 rfl rfl)
theorem dX0_light_1 : decode cX0_light 1 = .ok (.iconst 0, 1) := dk_3 (dk_at dksX0_light_0 1 rfl rfl)
theorem dX0_light_2 : decode cX0_light 2 = .ok (.aload_n 0, 1) := dk_42 (dk_at dksX0_light_0 2 rfl rfl)
theorem dX0_light_3 : decode cX0_light 3 = .ok (.iload_n 1, 1) := dk_27 (dk_at dksX0_light_0 3 rfl rfl)
theorem dX0_light_4 : decode cX0_light 4 = .ok (.iload_n 2, 1) := dk_28 (dk_at dksX0_light_0 4 rfl rfl)
theorem dX0_light_5 : decode cX0_light 5 = .ok (.invokevirtual 43, 3) := dk_182 0 43 (dk_at dksX0_light_0 5 rfl rfl)
theorem dX0_light_8 : decode cX0_light 8 = .ok (.i2l, 1) := dk_133 (dk_at dksX0_light_0 8 rfl rfl)
theorem dX0_light_9 : decode cX0_light 9 = .ok (.lastore, 1) := dk_80 (dk_at dksX0_light_0 9 rfl rfl)
theorem dX0_light_10 : decode cX0_light 10 = .ok (.goto 7, 3) := dk_167 0 7 (dk_at dksX0_light_0 10 rfl rfl)
theorem dX0_light_13 : decode cX0_light 13 = .ok (.astore 4, 2) := dk_58 4 (dk_at dksX0_light_0 13 rfl rfl)
theorem dX0_light_15 : decode cX0_light 15 = .ok (.iconst 1, 1) := dk_4 (dk_at dksX0_light_0 15 rfl rfl)
theorem dX0_light_16 : decode cX0_light 16 = .ok (.ireturn, 1) := dk_172 (dk_at dksX0_light_0 16 rfl rfl)
theorem dX0_light_17 : decode cX0_light 17 = .ok (.iconst 0, 1) := dk_3 (dk_at dksX0_light_0 17 rfl rfl)
theorem dX0_light_18 : decode cX0_light 18 = .ok (.ireturn, 1) := dk_172 (dk_at dksX0_light_0 18 rfl rfl)
abbrev cX0_at : ByteArray := method_13_code
def yX0_at : MethodName := ⟨RX0, "at", "(LEelPort;II[J)I"⟩
def dkwX0_at_0 : List UInt8 := [45, 3, 42, 27, 28, 182, 0, 46, 133, 80, 167, 0, 7, 58, 4, 4, 172, 3, 172]
abbrev dktX0_at_0 : List UInt8 := dkwX0_at_0 ++ []
theorem dksX0_at_0 : cX0_at.data.toList.drop 0 = dktX0_at_0 := by decide +kernel
theorem dX0_at_0 : decode cX0_at 0 = .ok (.aload_n 3, 1) := dk_45 (dk_at dksX0_at_0 0 rfl rfl)
theorem dX0_at_1 : decode cX0_at 1 = .ok (.iconst 0, 1) := dk_3 (dk_at dksX0_at_0 1 rfl rfl)
theorem dX0_at_2 : decode cX0_at 2 = .ok (.aload_n 0, 1) := dk_42 (dk_at dksX0_at_0 2 rfl rfl)
theorem dX0_at_3 : decode cX0_at 3 = .ok (.iload_n 1, 1) := dk_27 (dk_at dksX0_at_0 3 rfl rfl)
theorem dX0_at_4 : decode cX0_at 4 = .ok (.iload_n 2, 1) := dk_28 (dk_at dksX0_at_0 4 rfl rfl)
theorem dX0_at_5 : decode cX0_at 5 = .ok (.invokevirtual 46, 3) := dk_182 0 46 (dk_at dksX0_at_0 5 rfl rfl)
theorem dX0_at_8 : decode cX0_at 8 = .ok (.i2l, 1) := dk_133 (dk_at dksX0_at_0 8 rfl rfl)
theorem dX0_at_9 : decode cX0_at 9 = .ok (.lastore, 1) := dk_80 (dk_at dksX0_at_0 9 rfl rfl)
theorem dX0_at_10 : decode cX0_at 10 = .ok (.goto 7, 3) := dk_167 0 7 (dk_at dksX0_at_0 10 rfl rfl)
theorem dX0_at_13 : decode cX0_at 13 = .ok (.astore 4, 2) := dk_58 4 (dk_at dksX0_at_0 13 rfl rfl)
theorem dX0_at_15 : decode cX0_at 15 = .ok (.iconst 1, 1) := dk_4 (dk_at dksX0_at_0 15 rfl rfl)
theorem dX0_at_16 : decode cX0_at 16 = .ok (.ireturn, 1) := dk_172 (dk_at dksX0_at_0 16 rfl rfl)
theorem dX0_at_17 : decode cX0_at 17 = .ok (.iconst 0, 1) := dk_3 (dk_at dksX0_at_0 17 rfl rfl)
theorem dX0_at_18 : decode cX0_at 18 = .ok (.ireturn, 1) := dk_172 (dk_at dksX0_at_0 18 rfl rfl)
abbrev cX0_end : ByteArray := method_14_code
def yX0_end : MethodName := ⟨RX0, "end", "(LEelPort;II[J)I"⟩
def dkwX0_end_0 : List UInt8 := [45, 3, 42, 27, 28, 182, 0, 49, 133, 80, 167, 0, 7, 58, 4, 4, 172, 3, 172]
abbrev dktX0_end_0 : List UInt8 := dkwX0_end_0 ++ []
theorem dksX0_end_0 : cX0_end.data.toList.drop 0 = dktX0_end_0 := by decide +kernel
theorem dX0_end_0 : decode cX0_end 0 = .ok (.aload_n 3, 1) := dk_45 (dk_at dksX0_end_0 0 rfl rfl)
theorem dX0_end_1 : decode cX0_end 1 = .ok (.iconst 0, 1) := dk_3 (dk_at dksX0_end_0 1 rfl rfl)
theorem dX0_end_2 : decode cX0_end 2 = .ok (.aload_n 0, 1) := dk_42 (dk_at dksX0_end_0 2 rfl rfl)
theorem dX0_end_3 : decode cX0_end 3 = .ok (.iload_n 1, 1) := dk_27 (dk_at dksX0_end_0 3 rfl rfl)
theorem dX0_end_4 : decode cX0_end 4 = .ok (.iload_n 2, 1) := dk_28 (dk_at dksX0_end_0 4 rfl rfl)
theorem dX0_end_5 : decode cX0_end 5 = .ok (.invokevirtual 49, 3) := dk_182 0 49 (dk_at dksX0_end_0 5 rfl rfl)
theorem dX0_end_8 : decode cX0_end 8 = .ok (.i2l, 1) := dk_133 (dk_at dksX0_end_0 8 rfl rfl)
theorem dX0_end_9 : decode cX0_end 9 = .ok (.lastore, 1) := dk_80 (dk_at dksX0_end_0 9 rfl rfl)
theorem dX0_end_10 : decode cX0_end 10 = .ok (.goto 7, 3) := dk_167 0 7 (dk_at dksX0_end_0 10 rfl rfl)
theorem dX0_end_13 : decode cX0_end 13 = .ok (.astore 4, 2) := dk_58 4 (dk_at dksX0_end_0 13 rfl rfl)
theorem dX0_end_15 : decode cX0_end 15 = .ok (.iconst 1, 1) := dk_4 (dk_at dksX0_end_0 15 rfl rfl)
theorem dX0_end_16 : decode cX0_end 16 = .ok (.ireturn, 1) := dk_172 (dk_at dksX0_end_0 16 rfl rfl)
theorem dX0_end_17 : decode cX0_end 17 = .ok (.iconst 0, 1) := dk_3 (dk_at dksX0_end_0 17 rfl rfl)
theorem dX0_end_18 : decode cX0_end 18 = .ok (.ireturn, 1) := dk_172 (dk_at dksX0_end_0 18 rfl rfl)
abbrev cX0_plan : ByteArray := method_15_code
def yX0_plan : MethodName := ⟨RX0, "plan", "(LEelPort;IIII[J)I"⟩
def dkwX0_plan_1 : List UInt8 := [172, 3, 172]
abbrev dktX0_plan_1 : List UInt8 := dkwX0_plan_1 ++ []
def dkwX0_plan_0 : List UInt8 := [25, 5, 3, 42, 27, 28, 29, 21, 4, 182, 0, 52, 133, 80, 167, 0, 11, 58, 6, 4, 172, 58, 6, 5]
abbrev dktX0_plan_0 : List UInt8 := dkwX0_plan_0 ++ dktX0_plan_1
theorem dksX0_plan_0 : cX0_plan.data.toList.drop 0 = dktX0_plan_0 := by decide +kernel
theorem dksX0_plan_1 : cX0_plan.data.toList.drop 24 = dktX0_plan_1 := dk_seg dksX0_plan_0 24 rfl rfl
theorem dX0_plan_0 : decode cX0_plan 0 = .ok (.aload 5, 2) := dk_25 5 (dk_at dksX0_plan_0 0 rfl rfl)
theorem dX0_plan_2 : decode cX0_plan 2 = .ok (.iconst 0, 1) := dk_3 (dk_at dksX0_plan_0 2 rfl rfl)
theorem dX0_plan_3 : decode cX0_plan 3 = .ok (.aload_n 0, 1) := dk_42 (dk_at dksX0_plan_0 3 rfl rfl)
theorem dX0_plan_4 : decode cX0_plan 4 = .ok (.iload_n 1, 1) := dk_27 (dk_at dksX0_plan_0 4 rfl rfl)
theorem dX0_plan_5 : decode cX0_plan 5 = .ok (.iload_n 2, 1) := dk_28 (dk_at dksX0_plan_0 5 rfl rfl)
theorem dX0_plan_6 : decode cX0_plan 6 = .ok (.iload_n 3, 1) := dk_29 (dk_at dksX0_plan_0 6 rfl rfl)
theorem dX0_plan_7 : decode cX0_plan 7 = .ok (.iload 4, 2) := dk_21 4 (dk_at dksX0_plan_0 7 rfl rfl)
theorem dX0_plan_9 : decode cX0_plan 9 = .ok (.invokevirtual 52, 3) := dk_182 0 52 (dk_at dksX0_plan_0 9 rfl rfl)
theorem dX0_plan_12 : decode cX0_plan 12 = .ok (.i2l, 1) := dk_133 (dk_at dksX0_plan_0 12 rfl rfl)
theorem dX0_plan_13 : decode cX0_plan 13 = .ok (.lastore, 1) := dk_80 (dk_at dksX0_plan_0 13 rfl rfl)
theorem dX0_plan_14 : decode cX0_plan 14 = .ok (.goto 11, 3) := dk_167 0 11 (dk_at dksX0_plan_0 14 rfl rfl)
theorem dX0_plan_17 : decode cX0_plan 17 = .ok (.astore 6, 2) := dk_58 6 (dk_at dksX0_plan_0 17 rfl rfl)
theorem dX0_plan_19 : decode cX0_plan 19 = .ok (.iconst 1, 1) := dk_4 (dk_at dksX0_plan_0 19 rfl rfl)
theorem dX0_plan_20 : decode cX0_plan 20 = .ok (.ireturn, 1) := dk_172 (dk_at dksX0_plan_0 20 rfl rfl)
theorem dX0_plan_21 : decode cX0_plan 21 = .ok (.astore 6, 2) := dk_58 6 (dk_at dksX0_plan_0 21 rfl rfl)
theorem dX0_plan_23 : decode cX0_plan 23 = .ok (.iconst 2, 1) := dk_5 (dk_at dksX0_plan_0 23 rfl rfl)
theorem dX0_plan_24 : decode cX0_plan 24 = .ok (.ireturn, 1) := dk_172 (dk_at dksX0_plan_1 0 rfl rfl)
theorem dX0_plan_25 : decode cX0_plan 25 = .ok (.iconst 0, 1) := dk_3 (dk_at dksX0_plan_1 1 rfl rfl)
theorem dX0_plan_26 : decode cX0_plan 26 = .ok (.ireturn, 1) := dk_172 (dk_at dksX0_plan_1 2 rfl rfl)
abbrev cX0_planned : ByteArray := method_16_code
def yX0_planned : MethodName := ⟨RX0, "planned", "(LEelPort;I[J)I"⟩
def dkwX0_planned_0 : List UInt8 := [44, 3, 42, 27, 182, 0, 56, 133, 80, 167, 0, 6, 78, 4, 172, 3, 172]
abbrev dktX0_planned_0 : List UInt8 := dkwX0_planned_0 ++ []
theorem dksX0_planned_0 : cX0_planned.data.toList.drop 0 = dktX0_planned_0 := by decide +kernel
theorem dX0_planned_0 : decode cX0_planned 0 = .ok (.aload_n 2, 1) := dk_44 (dk_at dksX0_planned_0 0 rfl rfl)
theorem dX0_planned_1 : decode cX0_planned 1 = .ok (.iconst 0, 1) := dk_3 (dk_at dksX0_planned_0 1 rfl rfl)
theorem dX0_planned_2 : decode cX0_planned 2 = .ok (.aload_n 0, 1) := dk_42 (dk_at dksX0_planned_0 2 rfl rfl)
theorem dX0_planned_3 : decode cX0_planned 3 = .ok (.iload_n 1, 1) := dk_27 (dk_at dksX0_planned_0 3 rfl rfl)
theorem dX0_planned_4 : decode cX0_planned 4 = .ok (.invokevirtual 56, 3) := dk_182 0 56 (dk_at dksX0_planned_0 4 rfl rfl)
theorem dX0_planned_7 : decode cX0_planned 7 = .ok (.i2l, 1) := dk_133 (dk_at dksX0_planned_0 7 rfl rfl)
theorem dX0_planned_8 : decode cX0_planned 8 = .ok (.lastore, 1) := dk_80 (dk_at dksX0_planned_0 8 rfl rfl)
theorem dX0_planned_9 : decode cX0_planned 9 = .ok (.goto 6, 3) := dk_167 0 6 (dk_at dksX0_planned_0 9 rfl rfl)
theorem dX0_planned_12 : decode cX0_planned 12 = .ok (.astore_n 3, 1) := dk_78 (dk_at dksX0_planned_0 12 rfl rfl)
theorem dX0_planned_13 : decode cX0_planned 13 = .ok (.iconst 1, 1) := dk_4 (dk_at dksX0_planned_0 13 rfl rfl)
theorem dX0_planned_14 : decode cX0_planned 14 = .ok (.ireturn, 1) := dk_172 (dk_at dksX0_planned_0 14 rfl rfl)
theorem dX0_planned_15 : decode cX0_planned 15 = .ok (.iconst 0, 1) := dk_3 (dk_at dksX0_planned_0 15 rfl rfl)
theorem dX0_planned_16 : decode cX0_planned 16 = .ok (.ireturn, 1) := dk_172 (dk_at dksX0_planned_0 16 rfl rfl)
abbrev cX0_odds : ByteArray := method_17_code
def yX0_odds : MethodName := ⟨RX0, "odds", "(LEelPort;II[J)I"⟩
def dkwX0_odds_0 : List UInt8 := [45, 3, 42, 27, 28, 182, 0, 59, 133, 80, 167, 0, 7, 58, 4, 4, 172, 3, 172]
abbrev dktX0_odds_0 : List UInt8 := dkwX0_odds_0 ++ []
theorem dksX0_odds_0 : cX0_odds.data.toList.drop 0 = dktX0_odds_0 := by decide +kernel
theorem dX0_odds_0 : decode cX0_odds 0 = .ok (.aload_n 3, 1) := dk_45 (dk_at dksX0_odds_0 0 rfl rfl)
theorem dX0_odds_1 : decode cX0_odds 1 = .ok (.iconst 0, 1) := dk_3 (dk_at dksX0_odds_0 1 rfl rfl)
theorem dX0_odds_2 : decode cX0_odds 2 = .ok (.aload_n 0, 1) := dk_42 (dk_at dksX0_odds_0 2 rfl rfl)
theorem dX0_odds_3 : decode cX0_odds 3 = .ok (.iload_n 1, 1) := dk_27 (dk_at dksX0_odds_0 3 rfl rfl)
theorem dX0_odds_4 : decode cX0_odds 4 = .ok (.iload_n 2, 1) := dk_28 (dk_at dksX0_odds_0 4 rfl rfl)
theorem dX0_odds_5 : decode cX0_odds 5 = .ok (.invokevirtual 59, 3) := dk_182 0 59 (dk_at dksX0_odds_0 5 rfl rfl)
theorem dX0_odds_8 : decode cX0_odds 8 = .ok (.i2l, 1) := dk_133 (dk_at dksX0_odds_0 8 rfl rfl)
theorem dX0_odds_9 : decode cX0_odds 9 = .ok (.lastore, 1) := dk_80 (dk_at dksX0_odds_0 9 rfl rfl)
theorem dX0_odds_10 : decode cX0_odds 10 = .ok (.goto 7, 3) := dk_167 0 7 (dk_at dksX0_odds_0 10 rfl rfl)
theorem dX0_odds_13 : decode cX0_odds 13 = .ok (.astore 4, 2) := dk_58 4 (dk_at dksX0_odds_0 13 rfl rfl)
theorem dX0_odds_15 : decode cX0_odds 15 = .ok (.iconst 1, 1) := dk_4 (dk_at dksX0_odds_0 15 rfl rfl)
theorem dX0_odds_16 : decode cX0_odds 16 = .ok (.ireturn, 1) := dk_172 (dk_at dksX0_odds_0 16 rfl rfl)
theorem dX0_odds_17 : decode cX0_odds 17 = .ok (.iconst 0, 1) := dk_3 (dk_at dksX0_odds_0 17 rfl rfl)
theorem dX0_odds_18 : decode cX0_odds 18 = .ok (.ireturn, 1) := dk_172 (dk_at dksX0_odds_0 18 rfl rfl)
abbrev cX0_bright : ByteArray := method_18_code
def yX0_bright : MethodName := ⟨RX0, "bright", "(LEelPort;IIIII[J)I"⟩
def dkwX0_bright_1 : List UInt8 := [58, 7, 5, 172, 3, 172]
abbrev dktX0_bright_1 : List UInt8 := dkwX0_bright_1 ++ []
def dkwX0_bright_0 : List UInt8 := [25, 6, 3, 42, 27, 28, 29, 21, 4, 21, 5, 182, 0, 62, 133, 80, 167, 0, 11, 58, 7, 4, 172]
abbrev dktX0_bright_0 : List UInt8 := dkwX0_bright_0 ++ dktX0_bright_1
theorem dksX0_bright_0 : cX0_bright.data.toList.drop 0 = dktX0_bright_0 := by decide +kernel
theorem dksX0_bright_1 : cX0_bright.data.toList.drop 23 = dktX0_bright_1 := dk_seg dksX0_bright_0 23 rfl rfl
theorem dX0_bright_0 : decode cX0_bright 0 = .ok (.aload 6, 2) := dk_25 6 (dk_at dksX0_bright_0 0 rfl rfl)
theorem dX0_bright_2 : decode cX0_bright 2 = .ok (.iconst 0, 1) := dk_3 (dk_at dksX0_bright_0 2 rfl rfl)
theorem dX0_bright_3 : decode cX0_bright 3 = .ok (.aload_n 0, 1) := dk_42 (dk_at dksX0_bright_0 3 rfl rfl)
theorem dX0_bright_4 : decode cX0_bright 4 = .ok (.iload_n 1, 1) := dk_27 (dk_at dksX0_bright_0 4 rfl rfl)
theorem dX0_bright_5 : decode cX0_bright 5 = .ok (.iload_n 2, 1) := dk_28 (dk_at dksX0_bright_0 5 rfl rfl)
theorem dX0_bright_6 : decode cX0_bright 6 = .ok (.iload_n 3, 1) := dk_29 (dk_at dksX0_bright_0 6 rfl rfl)
theorem dX0_bright_7 : decode cX0_bright 7 = .ok (.iload 4, 2) := dk_21 4 (dk_at dksX0_bright_0 7 rfl rfl)
theorem dX0_bright_9 : decode cX0_bright 9 = .ok (.iload 5, 2) := dk_21 5 (dk_at dksX0_bright_0 9 rfl rfl)
theorem dX0_bright_11 : decode cX0_bright 11 = .ok (.invokevirtual 62, 3) := dk_182 0 62 (dk_at dksX0_bright_0 11 rfl rfl)
theorem dX0_bright_14 : decode cX0_bright 14 = .ok (.i2l, 1) := dk_133 (dk_at dksX0_bright_0 14 rfl rfl)
theorem dX0_bright_15 : decode cX0_bright 15 = .ok (.lastore, 1) := dk_80 (dk_at dksX0_bright_0 15 rfl rfl)
theorem dX0_bright_16 : decode cX0_bright 16 = .ok (.goto 11, 3) := dk_167 0 11 (dk_at dksX0_bright_0 16 rfl rfl)
theorem dX0_bright_19 : decode cX0_bright 19 = .ok (.astore 7, 2) := dk_58 7 (dk_at dksX0_bright_0 19 rfl rfl)
theorem dX0_bright_21 : decode cX0_bright 21 = .ok (.iconst 1, 1) := dk_4 (dk_at dksX0_bright_0 21 rfl rfl)
theorem dX0_bright_22 : decode cX0_bright 22 = .ok (.ireturn, 1) := dk_172 (dk_at dksX0_bright_0 22 rfl rfl)
theorem dX0_bright_23 : decode cX0_bright 23 = .ok (.astore 7, 2) := dk_58 7 (dk_at dksX0_bright_1 0 rfl rfl)
theorem dX0_bright_25 : decode cX0_bright 25 = .ok (.iconst 2, 1) := dk_5 (dk_at dksX0_bright_1 2 rfl rfl)
theorem dX0_bright_26 : decode cX0_bright 26 = .ok (.ireturn, 1) := dk_172 (dk_at dksX0_bright_1 3 rfl rfl)
theorem dX0_bright_27 : decode cX0_bright 27 = .ok (.iconst 0, 1) := dk_3 (dk_at dksX0_bright_1 4 rfl rfl)
theorem dX0_bright_28 : decode cX0_bright 28 = .ok (.ireturn, 1) := dk_172 (dk_at dksX0_bright_1 5 rfl rfl)
abbrev cX0_rivals : ByteArray := method_19_code
def yX0_rivals : MethodName := ⟨RX0, "rivals", "(LEelPort;II[J)I"⟩
def dkwX0_rivals_0 : List UInt8 := [45, 3, 42, 27, 28, 182, 0, 66, 133, 80, 167, 0, 7, 58, 4, 4, 172, 3, 172]
abbrev dktX0_rivals_0 : List UInt8 := dkwX0_rivals_0 ++ []
theorem dksX0_rivals_0 : cX0_rivals.data.toList.drop 0 = dktX0_rivals_0 := by decide +kernel
theorem dX0_rivals_0 : decode cX0_rivals 0 = .ok (.aload_n 3, 1) := dk_45 (dk_at dksX0_rivals_0 0 rfl rfl)
theorem dX0_rivals_1 : decode cX0_rivals 1 = .ok (.iconst 0, 1) := dk_3 (dk_at dksX0_rivals_0 1 rfl rfl)
theorem dX0_rivals_2 : decode cX0_rivals 2 = .ok (.aload_n 0, 1) := dk_42 (dk_at dksX0_rivals_0 2 rfl rfl)
theorem dX0_rivals_3 : decode cX0_rivals 3 = .ok (.iload_n 1, 1) := dk_27 (dk_at dksX0_rivals_0 3 rfl rfl)
theorem dX0_rivals_4 : decode cX0_rivals 4 = .ok (.iload_n 2, 1) := dk_28 (dk_at dksX0_rivals_0 4 rfl rfl)
theorem dX0_rivals_5 : decode cX0_rivals 5 = .ok (.invokevirtual 66, 3) := dk_182 0 66 (dk_at dksX0_rivals_0 5 rfl rfl)
theorem dX0_rivals_8 : decode cX0_rivals 8 = .ok (.i2l, 1) := dk_133 (dk_at dksX0_rivals_0 8 rfl rfl)
theorem dX0_rivals_9 : decode cX0_rivals 9 = .ok (.lastore, 1) := dk_80 (dk_at dksX0_rivals_0 9 rfl rfl)
theorem dX0_rivals_10 : decode cX0_rivals 10 = .ok (.goto 7, 3) := dk_167 0 7 (dk_at dksX0_rivals_0 10 rfl rfl)
theorem dX0_rivals_13 : decode cX0_rivals 13 = .ok (.astore 4, 2) := dk_58 4 (dk_at dksX0_rivals_0 13 rfl rfl)
theorem dX0_rivals_15 : decode cX0_rivals 15 = .ok (.iconst 1, 1) := dk_4 (dk_at dksX0_rivals_0 15 rfl rfl)
theorem dX0_rivals_16 : decode cX0_rivals 16 = .ok (.ireturn, 1) := dk_172 (dk_at dksX0_rivals_0 16 rfl rfl)
theorem dX0_rivals_17 : decode cX0_rivals 17 = .ok (.iconst 0, 1) := dk_3 (dk_at dksX0_rivals_0 17 rfl rfl)
theorem dX0_rivals_18 : decode cX0_rivals 18 = .ok (.ireturn, 1) := dk_172 (dk_at dksX0_rivals_0 18 rfl rfl)
abbrev cX0_shone : ByteArray := method_20_code
def yX0_shone : MethodName := ⟨RX0, "shone", "(LEelPort;III[J)I"⟩
def dkwX0_shone_0 : List UInt8 := [25, 4, 3, 42, 27, 28, 29, 182, 0, 69, 133, 80, 167, 0, 7, 58, 5, 4, 172, 3, 172]
abbrev dktX0_shone_0 : List UInt8 := dkwX0_shone_0 ++ []
theorem dksX0_shone_0 : cX0_shone.data.toList.drop 0 = dktX0_shone_0 := by decide +kernel
theorem dX0_shone_0 : decode cX0_shone 0 = .ok (.aload 4, 2) := dk_25 4 (dk_at dksX0_shone_0 0 rfl rfl)
theorem dX0_shone_2 : decode cX0_shone 2 = .ok (.iconst 0, 1) := dk_3 (dk_at dksX0_shone_0 2 rfl rfl)
theorem dX0_shone_3 : decode cX0_shone 3 = .ok (.aload_n 0, 1) := dk_42 (dk_at dksX0_shone_0 3 rfl rfl)
theorem dX0_shone_4 : decode cX0_shone 4 = .ok (.iload_n 1, 1) := dk_27 (dk_at dksX0_shone_0 4 rfl rfl)
theorem dX0_shone_5 : decode cX0_shone 5 = .ok (.iload_n 2, 1) := dk_28 (dk_at dksX0_shone_0 5 rfl rfl)
theorem dX0_shone_6 : decode cX0_shone 6 = .ok (.iload_n 3, 1) := dk_29 (dk_at dksX0_shone_0 6 rfl rfl)
theorem dX0_shone_7 : decode cX0_shone 7 = .ok (.invokevirtual 69, 3) := dk_182 0 69 (dk_at dksX0_shone_0 7 rfl rfl)
theorem dX0_shone_10 : decode cX0_shone 10 = .ok (.i2l, 1) := dk_133 (dk_at dksX0_shone_0 10 rfl rfl)
theorem dX0_shone_11 : decode cX0_shone 11 = .ok (.lastore, 1) := dk_80 (dk_at dksX0_shone_0 11 rfl rfl)
theorem dX0_shone_12 : decode cX0_shone 12 = .ok (.goto 7, 3) := dk_167 0 7 (dk_at dksX0_shone_0 12 rfl rfl)
theorem dX0_shone_15 : decode cX0_shone 15 = .ok (.astore 5, 2) := dk_58 5 (dk_at dksX0_shone_0 15 rfl rfl)
theorem dX0_shone_17 : decode cX0_shone 17 = .ok (.iconst 1, 1) := dk_4 (dk_at dksX0_shone_0 17 rfl rfl)
theorem dX0_shone_18 : decode cX0_shone 18 = .ok (.ireturn, 1) := dk_172 (dk_at dksX0_shone_0 18 rfl rfl)
theorem dX0_shone_19 : decode cX0_shone 19 = .ok (.iconst 0, 1) := dk_3 (dk_at dksX0_shone_0 19 rfl rfl)
theorem dX0_shone_20 : decode cX0_shone 20 = .ok (.ireturn, 1) := dk_172 (dk_at dksX0_shone_0 20 rfl rfl)
abbrev cX0_where : ByteArray := method_21_code
def yX0_where : MethodName := ⟨RX0, "where", "(LEelPort;I[J)I"⟩
def dkwX0_where_0 : List UInt8 := [44, 3, 42, 27, 182, 0, 72, 133, 80, 167, 0, 6, 78, 4, 172, 3, 172]
abbrev dktX0_where_0 : List UInt8 := dkwX0_where_0 ++ []
theorem dksX0_where_0 : cX0_where.data.toList.drop 0 = dktX0_where_0 := by decide +kernel
theorem dX0_where_0 : decode cX0_where 0 = .ok (.aload_n 2, 1) := dk_44 (dk_at dksX0_where_0 0 rfl rfl)
theorem dX0_where_1 : decode cX0_where 1 = .ok (.iconst 0, 1) := dk_3 (dk_at dksX0_where_0 1 rfl rfl)
theorem dX0_where_2 : decode cX0_where 2 = .ok (.aload_n 0, 1) := dk_42 (dk_at dksX0_where_0 2 rfl rfl)
theorem dX0_where_3 : decode cX0_where 3 = .ok (.iload_n 1, 1) := dk_27 (dk_at dksX0_where_0 3 rfl rfl)
theorem dX0_where_4 : decode cX0_where 4 = .ok (.invokevirtual 72, 3) := dk_182 0 72 (dk_at dksX0_where_0 4 rfl rfl)
theorem dX0_where_7 : decode cX0_where 7 = .ok (.i2l, 1) := dk_133 (dk_at dksX0_where_0 7 rfl rfl)
theorem dX0_where_8 : decode cX0_where 8 = .ok (.lastore, 1) := dk_80 (dk_at dksX0_where_0 8 rfl rfl)
theorem dX0_where_9 : decode cX0_where 9 = .ok (.goto 6, 3) := dk_167 0 6 (dk_at dksX0_where_0 9 rfl rfl)
theorem dX0_where_12 : decode cX0_where 12 = .ok (.astore_n 3, 1) := dk_78 (dk_at dksX0_where_0 12 rfl rfl)
theorem dX0_where_13 : decode cX0_where 13 = .ok (.iconst 1, 1) := dk_4 (dk_at dksX0_where_0 13 rfl rfl)
theorem dX0_where_14 : decode cX0_where 14 = .ok (.ireturn, 1) := dk_172 (dk_at dksX0_where_0 14 rfl rfl)
theorem dX0_where_15 : decode cX0_where 15 = .ok (.iconst 0, 1) := dk_3 (dk_at dksX0_where_0 15 rfl rfl)
theorem dX0_where_16 : decode cX0_where 16 = .ok (.ireturn, 1) := dk_172 (dk_at dksX0_where_0 16 rfl rfl)
abbrev cX0_nights : ByteArray := method_22_code
def yX0_nights : MethodName := ⟨RX0, "nights", "(LEelPort;III[J)I"⟩
def dkwX0_nights_1 : List UInt8 := [172]
abbrev dktX0_nights_1 : List UInt8 := dkwX0_nights_1 ++ []
def dkwX0_nights_0 : List UInt8 := [25, 4, 3, 42, 27, 28, 29, 182, 0, 75, 133, 80, 167, 0, 11, 58, 5, 4, 172, 58, 5, 5, 172, 3]
abbrev dktX0_nights_0 : List UInt8 := dkwX0_nights_0 ++ dktX0_nights_1
theorem dksX0_nights_0 : cX0_nights.data.toList.drop 0 = dktX0_nights_0 := by decide +kernel
theorem dksX0_nights_1 : cX0_nights.data.toList.drop 24 = dktX0_nights_1 := dk_seg dksX0_nights_0 24 rfl rfl
theorem dX0_nights_0 : decode cX0_nights 0 = .ok (.aload 4, 2) := dk_25 4 (dk_at dksX0_nights_0 0 rfl rfl)
theorem dX0_nights_2 : decode cX0_nights 2 = .ok (.iconst 0, 1) := dk_3 (dk_at dksX0_nights_0 2 rfl rfl)
theorem dX0_nights_3 : decode cX0_nights 3 = .ok (.aload_n 0, 1) := dk_42 (dk_at dksX0_nights_0 3 rfl rfl)
theorem dX0_nights_4 : decode cX0_nights 4 = .ok (.iload_n 1, 1) := dk_27 (dk_at dksX0_nights_0 4 rfl rfl)
theorem dX0_nights_5 : decode cX0_nights 5 = .ok (.iload_n 2, 1) := dk_28 (dk_at dksX0_nights_0 5 rfl rfl)
theorem dX0_nights_6 : decode cX0_nights 6 = .ok (.iload_n 3, 1) := dk_29 (dk_at dksX0_nights_0 6 rfl rfl)
theorem dX0_nights_7 : decode cX0_nights 7 = .ok (.invokevirtual 75, 3) := dk_182 0 75 (dk_at dksX0_nights_0 7 rfl rfl)
theorem dX0_nights_10 : decode cX0_nights 10 = .ok (.i2l, 1) := dk_133 (dk_at dksX0_nights_0 10 rfl rfl)
theorem dX0_nights_11 : decode cX0_nights 11 = .ok (.lastore, 1) := dk_80 (dk_at dksX0_nights_0 11 rfl rfl)
theorem dX0_nights_12 : decode cX0_nights 12 = .ok (.goto 11, 3) := dk_167 0 11 (dk_at dksX0_nights_0 12 rfl rfl)
theorem dX0_nights_15 : decode cX0_nights 15 = .ok (.astore 5, 2) := dk_58 5 (dk_at dksX0_nights_0 15 rfl rfl)
theorem dX0_nights_17 : decode cX0_nights 17 = .ok (.iconst 1, 1) := dk_4 (dk_at dksX0_nights_0 17 rfl rfl)
theorem dX0_nights_18 : decode cX0_nights 18 = .ok (.ireturn, 1) := dk_172 (dk_at dksX0_nights_0 18 rfl rfl)
theorem dX0_nights_19 : decode cX0_nights 19 = .ok (.astore 5, 2) := dk_58 5 (dk_at dksX0_nights_0 19 rfl rfl)
theorem dX0_nights_21 : decode cX0_nights 21 = .ok (.iconst 2, 1) := dk_5 (dk_at dksX0_nights_0 21 rfl rfl)
theorem dX0_nights_22 : decode cX0_nights 22 = .ok (.ireturn, 1) := dk_172 (dk_at dksX0_nights_0 22 rfl rfl)
theorem dX0_nights_23 : decode cX0_nights 23 = .ok (.iconst 0, 1) := dk_3 (dk_at dksX0_nights_0 23 rfl rfl)
theorem dX0_nights_24 : decode cX0_nights 24 = .ok (.ireturn, 1) := dk_172 (dk_at dksX0_nights_1 0 rfl rfl)
theorem q77 : (Jvm.Cond.initialized "EelPortLaw") ∈ lw_all := lw_g (lw_at lw_m1 0 rfl) rfl
theorem q122 : (Jvm.Cond.classLink "EelPortLaw" (8 : Nat) "EelPort") ∈ lw_all := lw_g (lw_at lw_m1 45 rfl) rfl
theorem q124 : (Jvm.Cond.methodLink "EelPortLaw" (78 : Nat) ({ cls := "EelPort", name := "<init>", desc := "()V" } : Jvm.MethodName)) ∈ lw_all := lw_g (lw_at lw_m1 47 rfl) rfl
theorem q658 : (Jvm.Cond.methodLink "EelPortLaw" (82 : Nat) ({ cls := "EelPort", name := "feed", desc := "(IIIII)I" } : Jvm.MethodName)) ∈ lw_all := lw_g (lw_at lw_m3 101 rfl) rfl
theorem q666 : (Jvm.Cond.methodLink "EelPortLaw" (96 : Nat) ({ cls := "EelPort", name := "fault", desc := "()I" } : Jvm.MethodName)) ∈ lw_all := lw_g (lw_at lw_m3 109 rfl) rfl
theorem q670 : (Jvm.Cond.methodLink "EelPortLaw" (117 : Nat) ({ cls := "EelPort", name := "undo", desc := "()I" } : Jvm.MethodName)) ∈ lw_all := lw_g (lw_at lw_m3 113 rfl) rfl
theorem q749 : (Jvm.Cond.methodLink "EelPortLaw" (121 : Nat) ({ cls := "EelPort", name := "cold", desc := "(I)I" } : Jvm.MethodName)) ∈ lw_all := lw_g (lw_at lw_m3 192 rfl) rfl
theorem q756 : (Jvm.Cond.methodLink "EelPortLaw" (163 : Nat) ({ cls := "EelPort", name := "forget", desc := "()I" } : Jvm.MethodName)) ∈ lw_all := lw_g (lw_at lw_m3 199 rfl) rfl
theorem q760 : (Jvm.Cond.methodLink "EelPortLaw" (173 : Nat) ({ cls := "EelPort", name := "image", desc := "()V" } : Jvm.MethodName)) ∈ lw_all := lw_g (lw_at lw_m3 203 rfl) rfl
theorem q774 : (Jvm.Cond.methodLink "EelPortLaw" (177 : Nat) ({ cls := "EelPort", name := "restore", desc := "()Z" } : Jvm.MethodName)) ∈ lw_all := lw_g (lw_at lw_m3 217 rfl) rfl
theorem q778 : (Jvm.Cond.methodLink "EelPortLaw" (86 : Nat) ({ cls := "EelPortLaw", name := "port", desc := "(LEelPort;I[J)I" } : Jvm.MethodName)) ∈ lw_all := lw_g (lw_at lw_m3 221 rfl) rfl
theorem q779 : (Jvm.Cond.static ({ cls := "EelPortLaw", name := "port", desc := "(LEelPort;I[J)I" } : Jvm.MethodName)) ∈ lw_all := lw_g (lw_at lw_m3 222 rfl) rfl
theorem q780 : (Jvm.Cond.codeWith ({ cls := "EelPortLaw", name := "port", desc := "(LEelPort;I[J)I" } : Jvm.MethodName) method_3_code (4 : Nat) (Option.some Jvm.ClassFile.FieldType.int) [((0 : Nat), (9 : Nat), (12 : Nat), (13 : Nat))]) ∈ lw_all := lw_g (lw_at lw_m3 223 rfl) rfl
theorem q781 : (Jvm.Cond.classLink "EelPortLaw" (13 : Nat) "java/lang/IllegalArgumentException") ∈ lw_all := lw_g (lw_at lw_m3 224 rfl) rfl
theorem q782 : (Jvm.Cond.methodLink "EelPortLaw" (7 : Nat) ({ cls := "EelPort", name := "port", desc := "(I)I" } : Jvm.MethodName)) ∈ lw_all := lw_g (lw_at lw_m3 225 rfl) rfl
theorem q1212 : (Jvm.Cond.methodLink "EelPortLaw" (100 : Nat) ({ cls := "EelPortLaw", name := "count", desc := "(LEelPort;I[J)I" } : Jvm.MethodName)) ∈ lw_all := lw_g (lw_at lw_m5 175 rfl) rfl
theorem q1213 : (Jvm.Cond.static ({ cls := "EelPortLaw", name := "count", desc := "(LEelPort;I[J)I" } : Jvm.MethodName)) ∈ lw_all := lw_g (lw_at lw_m5 176 rfl) rfl
theorem q1214 : (Jvm.Cond.codeWith ({ cls := "EelPortLaw", name := "count", desc := "(LEelPort;I[J)I" } : Jvm.MethodName) method_4_code (4 : Nat) (Option.some Jvm.ClassFile.FieldType.int) [((0 : Nat), (9 : Nat), (12 : Nat), (18 : Nat))]) ∈ lw_all := lw_g (lw_at lw_m5 177 rfl) rfl
theorem q1215 : (Jvm.Cond.classLink "EelPortLaw" (18 : Nat) "java/util/NoSuchElementException") ∈ lw_all := lw_g (lw_at lw_m5 178 rfl) rfl
theorem q1216 : (Jvm.Cond.methodLink "EelPortLaw" (15 : Nat) ({ cls := "EelPort", name := "count", desc := "(I)I" } : Jvm.MethodName)) ∈ lw_all := lw_g (lw_at lw_m5 179 rfl) rfl
theorem q1243 : (Jvm.Cond.methodLink "EelPortLaw" (103 : Nat) ({ cls := "EelPortLaw", name := "quay", desc := "(LEelPort;II[J)I" } : Jvm.MethodName)) ∈ lw_all := lw_g (lw_at lw_m5 206 rfl) rfl
theorem q1244 : (Jvm.Cond.static ({ cls := "EelPortLaw", name := "quay", desc := "(LEelPort;II[J)I" } : Jvm.MethodName)) ∈ lw_all := lw_g (lw_at lw_m5 207 rfl) rfl
theorem q1245 : (Jvm.Cond.codeWith ({ cls := "EelPortLaw", name := "quay", desc := "(LEelPort;II[J)I" } : Jvm.MethodName) method_5_code (5 : Nat) (Option.some Jvm.ClassFile.FieldType.int) [((0 : Nat), (10 : Nat), (13 : Nat), (18 : Nat))]) ∈ lw_all := lw_g (lw_at lw_m5 208 rfl) rfl
theorem q1246 : (Jvm.Cond.methodLink "EelPortLaw" (20 : Nat) ({ cls := "EelPort", name := "quay", desc := "(II)I" } : Jvm.MethodName)) ∈ lw_all := lw_g (lw_at lw_m5 209 rfl) rfl
theorem q1282 : (Jvm.Cond.methodLink "EelPortLaw" (107 : Nat) ({ cls := "EelPortLaw", name := "eel", desc := "(LEelPort;II[J)I" } : Jvm.MethodName)) ∈ lw_all := lw_g (lw_at lw_m6 5 rfl) rfl
theorem q1283 : (Jvm.Cond.static ({ cls := "EelPortLaw", name := "eel", desc := "(LEelPort;II[J)I" } : Jvm.MethodName)) ∈ lw_all := lw_g (lw_at lw_m6 6 rfl) rfl
theorem q1284 : (Jvm.Cond.codeWith ({ cls := "EelPortLaw", name := "eel", desc := "(LEelPort;II[J)I" } : Jvm.MethodName) method_6_code (5 : Nat) (Option.some Jvm.ClassFile.FieldType.int) [((0 : Nat), (10 : Nat), (13 : Nat), (18 : Nat))]) ∈ lw_all := lw_g (lw_at lw_m6 7 rfl) rfl
theorem q1285 : (Jvm.Cond.methodLink "EelPortLaw" (24 : Nat) ({ cls := "EelPort", name := "eel", desc := "(II)I" } : Jvm.MethodName)) ∈ lw_all := lw_g (lw_at lw_m6 8 rfl) rfl
theorem q1307 : (Jvm.Cond.methodLink "EelPortLaw" (110 : Nat) ({ cls := "EelPortLaw", name := "ship", desc := "(LEelPort;II[J)I" } : Jvm.MethodName)) ∈ lw_all := lw_g (lw_at lw_m6 30 rfl) rfl
theorem q1308 : (Jvm.Cond.static ({ cls := "EelPortLaw", name := "ship", desc := "(LEelPort;II[J)I" } : Jvm.MethodName)) ∈ lw_all := lw_g (lw_at lw_m6 31 rfl) rfl
theorem q1309 : (Jvm.Cond.codeWith ({ cls := "EelPortLaw", name := "ship", desc := "(LEelPort;II[J)I" } : Jvm.MethodName) method_7_code (5 : Nat) (Option.some Jvm.ClassFile.FieldType.int) [((0 : Nat), (10 : Nat), (13 : Nat), (18 : Nat))]) ∈ lw_all := lw_g (lw_at lw_m6 32 rfl) rfl
theorem q1310 : (Jvm.Cond.methodLink "EelPortLaw" (27 : Nat) ({ cls := "EelPort", name := "ship", desc := "(II)I" } : Jvm.MethodName)) ∈ lw_all := lw_g (lw_at lw_m6 33 rfl) rfl
theorem q1334 : (Jvm.Cond.methodLink "EelPortLaw" (113 : Nat) ({ cls := "EelPortLaw", name := "meal", desc := "(LEelPort;III[J)I" } : Jvm.MethodName)) ∈ lw_all := lw_g (lw_at lw_m6 57 rfl) rfl
theorem q1335 : (Jvm.Cond.static ({ cls := "EelPortLaw", name := "meal", desc := "(LEelPort;III[J)I" } : Jvm.MethodName)) ∈ lw_all := lw_g (lw_at lw_m6 58 rfl) rfl
theorem q1336 : (Jvm.Cond.codeWith ({ cls := "EelPortLaw", name := "meal", desc := "(LEelPort;III[J)I" } : Jvm.MethodName) method_8_code (6 : Nat) (Option.some Jvm.ClassFile.FieldType.int) [((0 : Nat), (12 : Nat), (15 : Nat), (18 : Nat))]) ∈ lw_all := lw_g (lw_at lw_m6 59 rfl) rfl
theorem q1337 : (Jvm.Cond.methodLink "EelPortLaw" (30 : Nat) ({ cls := "EelPort", name := "meal", desc := "(III)I" } : Jvm.MethodName)) ∈ lw_all := lw_g (lw_at lw_m6 60 rfl) rfl
theorem q1352 : (Jvm.Cond.methodLink "EelPortLaw" (125 : Nat) ({ cls := "EelPortLaw", name := "hunger", desc := "(LEelPort;II[J)I" } : Jvm.MethodName)) ∈ lw_all := lw_g (lw_at lw_m6 75 rfl) rfl
theorem q1353 : (Jvm.Cond.static ({ cls := "EelPortLaw", name := "hunger", desc := "(LEelPort;II[J)I" } : Jvm.MethodName)) ∈ lw_all := lw_g (lw_at lw_m6 76 rfl) rfl
theorem q1354 : (Jvm.Cond.codeWith ({ cls := "EelPortLaw", name := "hunger", desc := "(LEelPort;II[J)I" } : Jvm.MethodName) method_9_code (5 : Nat) (Option.some Jvm.ClassFile.FieldType.int) [((0 : Nat), (10 : Nat), (13 : Nat), (18 : Nat))]) ∈ lw_all := lw_g (lw_at lw_m6 77 rfl) rfl
theorem q1355 : (Jvm.Cond.methodLink "EelPortLaw" (34 : Nat) ({ cls := "EelPort", name := "hunger", desc := "(II)I" } : Jvm.MethodName)) ∈ lw_all := lw_g (lw_at lw_m6 78 rfl) rfl
theorem q1359 : (Jvm.Cond.methodLink "EelPortLaw" (128 : Nat) ({ cls := "EelPortLaw", name := "glow", desc := "(LEelPort;II[J)I" } : Jvm.MethodName)) ∈ lw_all := lw_g (lw_at lw_m6 82 rfl) rfl
theorem q1360 : (Jvm.Cond.static ({ cls := "EelPortLaw", name := "glow", desc := "(LEelPort;II[J)I" } : Jvm.MethodName)) ∈ lw_all := lw_g (lw_at lw_m6 83 rfl) rfl
theorem q1361 : (Jvm.Cond.codeWith ({ cls := "EelPortLaw", name := "glow", desc := "(LEelPort;II[J)I" } : Jvm.MethodName) method_10_code (5 : Nat) (Option.some Jvm.ClassFile.FieldType.int) [((0 : Nat), (10 : Nat), (13 : Nat), (18 : Nat))]) ∈ lw_all := lw_g (lw_at lw_m6 84 rfl) rfl
theorem q1362 : (Jvm.Cond.methodLink "EelPortLaw" (37 : Nat) ({ cls := "EelPort", name := "glow", desc := "(II)I" } : Jvm.MethodName)) ∈ lw_all := lw_g (lw_at lw_m6 85 rfl) rfl
theorem q1366 : (Jvm.Cond.methodLink "EelPortLaw" (131 : Nat) ({ cls := "EelPortLaw", name := "led", desc := "(LEelPort;II[J)I" } : Jvm.MethodName)) ∈ lw_all := lw_g (lw_at lw_m6 89 rfl) rfl
theorem q1367 : (Jvm.Cond.static ({ cls := "EelPortLaw", name := "led", desc := "(LEelPort;II[J)I" } : Jvm.MethodName)) ∈ lw_all := lw_g (lw_at lw_m6 90 rfl) rfl
theorem q1368 : (Jvm.Cond.codeWith ({ cls := "EelPortLaw", name := "led", desc := "(LEelPort;II[J)I" } : Jvm.MethodName) method_11_code (5 : Nat) (Option.some Jvm.ClassFile.FieldType.int) [((0 : Nat), (10 : Nat), (13 : Nat), (18 : Nat))]) ∈ lw_all := lw_g (lw_at lw_m6 91 rfl) rfl
theorem q1369 : (Jvm.Cond.methodLink "EelPortLaw" (40 : Nat) ({ cls := "EelPort", name := "led", desc := "(II)I" } : Jvm.MethodName)) ∈ lw_all := lw_g (lw_at lw_m6 92 rfl) rfl
theorem q1376 : (Jvm.Cond.methodLink "EelPortLaw" (134 : Nat) ({ cls := "EelPortLaw", name := "light", desc := "(LEelPort;II[J)I" } : Jvm.MethodName)) ∈ lw_all := lw_g (lw_at lw_m6 99 rfl) rfl
theorem q1377 : (Jvm.Cond.static ({ cls := "EelPortLaw", name := "light", desc := "(LEelPort;II[J)I" } : Jvm.MethodName)) ∈ lw_all := lw_g (lw_at lw_m6 100 rfl) rfl
theorem q1378 : (Jvm.Cond.codeWith ({ cls := "EelPortLaw", name := "light", desc := "(LEelPort;II[J)I" } : Jvm.MethodName) method_12_code (5 : Nat) (Option.some Jvm.ClassFile.FieldType.int) [((0 : Nat), (10 : Nat), (13 : Nat), (18 : Nat))]) ∈ lw_all := lw_g (lw_at lw_m6 101 rfl) rfl
theorem q1379 : (Jvm.Cond.methodLink "EelPortLaw" (43 : Nat) ({ cls := "EelPort", name := "light", desc := "(II)I" } : Jvm.MethodName)) ∈ lw_all := lw_g (lw_at lw_m6 102 rfl) rfl
theorem q1398 : (Jvm.Cond.methodLink "EelPortLaw" (137 : Nat) ({ cls := "EelPortLaw", name := "at", desc := "(LEelPort;II[J)I" } : Jvm.MethodName)) ∈ lw_all := lw_g (lw_at lw_m6 121 rfl) rfl
theorem q1399 : (Jvm.Cond.static ({ cls := "EelPortLaw", name := "at", desc := "(LEelPort;II[J)I" } : Jvm.MethodName)) ∈ lw_all := lw_g (lw_at lw_m6 122 rfl) rfl
theorem q1400 : (Jvm.Cond.codeWith ({ cls := "EelPortLaw", name := "at", desc := "(LEelPort;II[J)I" } : Jvm.MethodName) method_13_code (5 : Nat) (Option.some Jvm.ClassFile.FieldType.int) [((0 : Nat), (10 : Nat), (13 : Nat), (18 : Nat))]) ∈ lw_all := lw_g (lw_at lw_m6 123 rfl) rfl
theorem q1401 : (Jvm.Cond.methodLink "EelPortLaw" (46 : Nat) ({ cls := "EelPort", name := "at", desc := "(II)I" } : Jvm.MethodName)) ∈ lw_all := lw_g (lw_at lw_m6 124 rfl) rfl
theorem q1467 : (Jvm.Cond.methodLink "EelPortLaw" (140 : Nat) ({ cls := "EelPortLaw", name := "end", desc := "(LEelPort;II[J)I" } : Jvm.MethodName)) ∈ lw_all := lw_g (lw_at lw_m6 190 rfl) rfl
theorem q1468 : (Jvm.Cond.static ({ cls := "EelPortLaw", name := "end", desc := "(LEelPort;II[J)I" } : Jvm.MethodName)) ∈ lw_all := lw_g (lw_at lw_m6 191 rfl) rfl
theorem q1469 : (Jvm.Cond.codeWith ({ cls := "EelPortLaw", name := "end", desc := "(LEelPort;II[J)I" } : Jvm.MethodName) method_14_code (5 : Nat) (Option.some Jvm.ClassFile.FieldType.int) [((0 : Nat), (10 : Nat), (13 : Nat), (18 : Nat))]) ∈ lw_all := lw_g (lw_at lw_m6 192 rfl) rfl
theorem q1470 : (Jvm.Cond.methodLink "EelPortLaw" (49 : Nat) ({ cls := "EelPort", name := "end", desc := "(II)I" } : Jvm.MethodName)) ∈ lw_all := lw_g (lw_at lw_m6 193 rfl) rfl
theorem q1479 : (Jvm.Cond.methodLink "EelPortLaw" (143 : Nat) ({ cls := "EelPortLaw", name := "plan", desc := "(LEelPort;IIII[J)I" } : Jvm.MethodName)) ∈ lw_all := lw_g (lw_at lw_m6 202 rfl) rfl
theorem q1480 : (Jvm.Cond.static ({ cls := "EelPortLaw", name := "plan", desc := "(LEelPort;IIII[J)I" } : Jvm.MethodName)) ∈ lw_all := lw_g (lw_at lw_m6 203 rfl) rfl
theorem q1481 : (Jvm.Cond.codeWith ({ cls := "EelPortLaw", name := "plan", desc := "(LEelPort;IIII[J)I" } : Jvm.MethodName) method_15_code (7 : Nat) (Option.some Jvm.ClassFile.FieldType.int) [((0 : Nat), (14 : Nat), (17 : Nat), (18 : Nat)), ((0 : Nat), (14 : Nat), (21 : Nat), (13 : Nat))]) ∈ lw_all := lw_g (lw_at lw_m6 204 rfl) rfl
theorem q1482 : (Jvm.Cond.methodLink "EelPortLaw" (52 : Nat) ({ cls := "EelPort", name := "plan", desc := "(IIII)I" } : Jvm.MethodName)) ∈ lw_all := lw_g (lw_at lw_m6 205 rfl) rfl
theorem q1492 : (Jvm.Cond.methodLink "EelPortLaw" (147 : Nat) ({ cls := "EelPortLaw", name := "planned", desc := "(LEelPort;I[J)I" } : Jvm.MethodName)) ∈ lw_all := lw_g (lw_at lw_m6 215 rfl) rfl
theorem q1493 : (Jvm.Cond.static ({ cls := "EelPortLaw", name := "planned", desc := "(LEelPort;I[J)I" } : Jvm.MethodName)) ∈ lw_all := lw_g (lw_at lw_m6 216 rfl) rfl
theorem q1494 : (Jvm.Cond.codeWith ({ cls := "EelPortLaw", name := "planned", desc := "(LEelPort;I[J)I" } : Jvm.MethodName) method_16_code (4 : Nat) (Option.some Jvm.ClassFile.FieldType.int) [((0 : Nat), (9 : Nat), (12 : Nat), (18 : Nat))]) ∈ lw_all := lw_g (lw_at lw_m6 217 rfl) rfl
theorem q1495 : (Jvm.Cond.methodLink "EelPortLaw" (56 : Nat) ({ cls := "EelPort", name := "planned", desc := "(I)I" } : Jvm.MethodName)) ∈ lw_all := lw_g (lw_at lw_m6 218 rfl) rfl
theorem q1499 : (Jvm.Cond.methodLink "EelPortLaw" (150 : Nat) ({ cls := "EelPortLaw", name := "odds", desc := "(LEelPort;II[J)I" } : Jvm.MethodName)) ∈ lw_all := lw_g (lw_at lw_m6 222 rfl) rfl
theorem q1500 : (Jvm.Cond.static ({ cls := "EelPortLaw", name := "odds", desc := "(LEelPort;II[J)I" } : Jvm.MethodName)) ∈ lw_all := lw_g (lw_at lw_m6 223 rfl) rfl
theorem q1501 : (Jvm.Cond.codeWith ({ cls := "EelPortLaw", name := "odds", desc := "(LEelPort;II[J)I" } : Jvm.MethodName) method_17_code (5 : Nat) (Option.some Jvm.ClassFile.FieldType.int) [((0 : Nat), (10 : Nat), (13 : Nat), (18 : Nat))]) ∈ lw_all := lw_g (lw_at lw_m6 224 rfl) rfl
theorem q1502 : (Jvm.Cond.methodLink "EelPortLaw" (59 : Nat) ({ cls := "EelPort", name := "odds", desc := "(II)I" } : Jvm.MethodName)) ∈ lw_all := lw_g (lw_at lw_m6 225 rfl) rfl
theorem q1513 : (Jvm.Cond.methodLink "EelPortLaw" (153 : Nat) ({ cls := "EelPortLaw", name := "bright", desc := "(LEelPort;IIIII[J)I" } : Jvm.MethodName)) ∈ lw_all := lw_g (lw_at lw_m6 236 rfl) rfl
theorem q1514 : (Jvm.Cond.static ({ cls := "EelPortLaw", name := "bright", desc := "(LEelPort;IIIII[J)I" } : Jvm.MethodName)) ∈ lw_all := lw_g (lw_at lw_m6 237 rfl) rfl
theorem q1515 : (Jvm.Cond.codeWith ({ cls := "EelPortLaw", name := "bright", desc := "(LEelPort;IIIII[J)I" } : Jvm.MethodName) method_18_code (8 : Nat) (Option.some Jvm.ClassFile.FieldType.int) [((0 : Nat), (16 : Nat), (19 : Nat), (18 : Nat)), ((0 : Nat), (16 : Nat), (23 : Nat), (13 : Nat))]) ∈ lw_all := lw_g (lw_at lw_m6 238 rfl) rfl
theorem q1516 : (Jvm.Cond.methodLink "EelPortLaw" (62 : Nat) ({ cls := "EelPort", name := "bright", desc := "(IIIII)I" } : Jvm.MethodName)) ∈ lw_all := lw_g (lw_at lw_m6 239 rfl) rfl
theorem q1528 : (Jvm.Cond.methodLink "EelPortLaw" (157 : Nat) ({ cls := "EelPortLaw", name := "rivals", desc := "(LEelPort;II[J)I" } : Jvm.MethodName)) ∈ lw_all := lw_g (lw_at lw_m7 11 rfl) rfl
theorem q1529 : (Jvm.Cond.static ({ cls := "EelPortLaw", name := "rivals", desc := "(LEelPort;II[J)I" } : Jvm.MethodName)) ∈ lw_all := lw_g (lw_at lw_m7 12 rfl) rfl
theorem q1530 : (Jvm.Cond.codeWith ({ cls := "EelPortLaw", name := "rivals", desc := "(LEelPort;II[J)I" } : Jvm.MethodName) method_19_code (5 : Nat) (Option.some Jvm.ClassFile.FieldType.int) [((0 : Nat), (10 : Nat), (13 : Nat), (18 : Nat))]) ∈ lw_all := lw_g (lw_at lw_m7 13 rfl) rfl
theorem q1531 : (Jvm.Cond.methodLink "EelPortLaw" (66 : Nat) ({ cls := "EelPort", name := "rivals", desc := "(II)I" } : Jvm.MethodName)) ∈ lw_all := lw_g (lw_at lw_m7 14 rfl) rfl
theorem q1543 : (Jvm.Cond.methodLink "EelPortLaw" (160 : Nat) ({ cls := "EelPortLaw", name := "shone", desc := "(LEelPort;III[J)I" } : Jvm.MethodName)) ∈ lw_all := lw_g (lw_at lw_m7 26 rfl) rfl
theorem q1544 : (Jvm.Cond.static ({ cls := "EelPortLaw", name := "shone", desc := "(LEelPort;III[J)I" } : Jvm.MethodName)) ∈ lw_all := lw_g (lw_at lw_m7 27 rfl) rfl
theorem q1545 : (Jvm.Cond.codeWith ({ cls := "EelPortLaw", name := "shone", desc := "(LEelPort;III[J)I" } : Jvm.MethodName) method_20_code (6 : Nat) (Option.some Jvm.ClassFile.FieldType.int) [((0 : Nat), (12 : Nat), (15 : Nat), (18 : Nat))]) ∈ lw_all := lw_g (lw_at lw_m7 28 rfl) rfl
theorem q1546 : (Jvm.Cond.methodLink "EelPortLaw" (69 : Nat) ({ cls := "EelPort", name := "shone", desc := "(III)I" } : Jvm.MethodName)) ∈ lw_all := lw_g (lw_at lw_m7 29 rfl) rfl
theorem q1550 : (Jvm.Cond.methodLink "EelPortLaw" (167 : Nat) ({ cls := "EelPortLaw", name := "where", desc := "(LEelPort;I[J)I" } : Jvm.MethodName)) ∈ lw_all := lw_g (lw_at lw_m7 33 rfl) rfl
theorem q1551 : (Jvm.Cond.static ({ cls := "EelPortLaw", name := "where", desc := "(LEelPort;I[J)I" } : Jvm.MethodName)) ∈ lw_all := lw_g (lw_at lw_m7 34 rfl) rfl
theorem q1552 : (Jvm.Cond.codeWith ({ cls := "EelPortLaw", name := "where", desc := "(LEelPort;I[J)I" } : Jvm.MethodName) method_21_code (4 : Nat) (Option.some Jvm.ClassFile.FieldType.int) [((0 : Nat), (9 : Nat), (12 : Nat), (18 : Nat))]) ∈ lw_all := lw_g (lw_at lw_m7 35 rfl) rfl
theorem q1553 : (Jvm.Cond.methodLink "EelPortLaw" (72 : Nat) ({ cls := "EelPort", name := "where", desc := "(I)I" } : Jvm.MethodName)) ∈ lw_all := lw_g (lw_at lw_m7 36 rfl) rfl
theorem q1566 : (Jvm.Cond.methodLink "EelPortLaw" (170 : Nat) ({ cls := "EelPortLaw", name := "nights", desc := "(LEelPort;III[J)I" } : Jvm.MethodName)) ∈ lw_all := lw_g (lw_at lw_m7 49 rfl) rfl
theorem q1567 : (Jvm.Cond.static ({ cls := "EelPortLaw", name := "nights", desc := "(LEelPort;III[J)I" } : Jvm.MethodName)) ∈ lw_all := lw_g (lw_at lw_m7 50 rfl) rfl
theorem q1568 : (Jvm.Cond.codeWith ({ cls := "EelPortLaw", name := "nights", desc := "(LEelPort;III[J)I" } : Jvm.MethodName) method_22_code (6 : Nat) (Option.some Jvm.ClassFile.FieldType.int) [((0 : Nat), (12 : Nat), (15 : Nat), (18 : Nat)), ((0 : Nat), (12 : Nat), (19 : Nat), (13 : Nat))]) ∈ lw_all := lw_g (lw_at lw_m7 51 rfl) rfl
theorem q1569 : (Jvm.Cond.methodLink "EelPortLaw" (75 : Nat) ({ cls := "EelPort", name := "nights", desc := "(III)I" } : Jvm.MethodName)) ∈ lw_all := lw_g (lw_at lw_m7 52 rfl) rfl
theorem q1574 : (Jvm.Cond.classLink "EelPortLaw" (79 : Nat) "EelPortModel") ∈ lw_all := lw_g (lw_at lw_m7 57 rfl) rfl
theorem q1576 : (Jvm.Cond.methodLink "EelPortLaw" (81 : Nat) ({ cls := "EelPortModel", name := "<init>", desc := "()V" } : Jvm.MethodName)) ∈ lw_all := lw_g (lw_at lw_m7 59 rfl) rfl
theorem q1817 : (Jvm.Cond.methodLink "EelPortLaw" (92 : Nat) ({ cls := "EelPortModel", name := "thrown", desc := "()I" } : Jvm.MethodName)) ∈ lw_all := lw_g (lw_at lw_m8 60 rfl) rfl
theorem q1821 : (Jvm.Cond.methodLink "EelPortLaw" (85 : Nat) ({ cls := "EelPortModel", name := "feed", desc := "(IIIII)I" } : Jvm.MethodName)) ∈ lw_all := lw_g (lw_at lw_m8 64 rfl) rfl
theorem q1825 : (Jvm.Cond.methodLink "EelPortLaw" (91 : Nat) ({ cls := "EelPortModel", name := "port", desc := "(I)I" } : Jvm.MethodName)) ∈ lw_all := lw_g (lw_at lw_m8 68 rfl) rfl
theorem q1945 : (Jvm.Cond.methodLink "EelPortLaw" (99 : Nat) ({ cls := "EelPortModel", name := "fault", desc := "()I" } : Jvm.MethodName)) ∈ lw_all := lw_g (lw_at lw_m8 188 rfl) rfl
theorem q1949 : (Jvm.Cond.methodLink "EelPortLaw" (102 : Nat) ({ cls := "EelPortModel", name := "count", desc := "(I)I" } : Jvm.MethodName)) ∈ lw_all := lw_g (lw_at lw_m8 192 rfl) rfl
theorem q1960 : (Jvm.Cond.methodLink "EelPortLaw" (106 : Nat) ({ cls := "EelPortModel", name := "quay", desc := "(II)I" } : Jvm.MethodName)) ∈ lw_all := lw_g (lw_at lw_m8 203 rfl) rfl
theorem q1968 : (Jvm.Cond.methodLink "EelPortLaw" (109 : Nat) ({ cls := "EelPortModel", name := "eel", desc := "(II)I" } : Jvm.MethodName)) ∈ lw_all := lw_g (lw_at lw_m8 211 rfl) rfl
theorem q1976 : (Jvm.Cond.methodLink "EelPortLaw" (112 : Nat) ({ cls := "EelPortModel", name := "ship", desc := "(II)I" } : Jvm.MethodName)) ∈ lw_all := lw_g (lw_at lw_m8 219 rfl) rfl
theorem q1984 : (Jvm.Cond.methodLink "EelPortLaw" (116 : Nat) ({ cls := "EelPortModel", name := "meal", desc := "(III)I" } : Jvm.MethodName)) ∈ lw_all := lw_g (lw_at lw_m8 227 rfl) rfl
theorem q1995 : (Jvm.Cond.methodLink "EelPortLaw" (120 : Nat) ({ cls := "EelPortModel", name := "undo", desc := "()I" } : Jvm.MethodName)) ∈ lw_all := lw_g (lw_at lw_m8 238 rfl) rfl
theorem q1999 : (Jvm.Cond.methodLink "EelPortLaw" (124 : Nat) ({ cls := "EelPortModel", name := "cold", desc := "(I)I" } : Jvm.MethodName)) ∈ lw_all := lw_g (lw_at lw_m9 2 rfl) rfl
theorem q2003 : (Jvm.Cond.methodLink "EelPortLaw" (127 : Nat) ({ cls := "EelPortModel", name := "hunger", desc := "(II)I" } : Jvm.MethodName)) ∈ lw_all := lw_g (lw_at lw_m9 6 rfl) rfl
theorem q2040 : (Jvm.Cond.methodLink "EelPortLaw" (130 : Nat) ({ cls := "EelPortModel", name := "glow", desc := "(II)I" } : Jvm.MethodName)) ∈ lw_all := lw_g (lw_at lw_m9 43 rfl) rfl
theorem q2044 : (Jvm.Cond.methodLink "EelPortLaw" (133 : Nat) ({ cls := "EelPortModel", name := "led", desc := "(II)I" } : Jvm.MethodName)) ∈ lw_all := lw_g (lw_at lw_m9 47 rfl) rfl
theorem q2048 : (Jvm.Cond.methodLink "EelPortLaw" (136 : Nat) ({ cls := "EelPortModel", name := "light", desc := "(II)I" } : Jvm.MethodName)) ∈ lw_all := lw_g (lw_at lw_m9 51 rfl) rfl
theorem q2052 : (Jvm.Cond.methodLink "EelPortLaw" (139 : Nat) ({ cls := "EelPortModel", name := "at", desc := "(II)I" } : Jvm.MethodName)) ∈ lw_all := lw_g (lw_at lw_m9 55 rfl) rfl
theorem q2080 : (Jvm.Cond.methodLink "EelPortLaw" (142 : Nat) ({ cls := "EelPortModel", name := "end", desc := "(II)I" } : Jvm.MethodName)) ∈ lw_all := lw_g (lw_at lw_m9 83 rfl) rfl
theorem q2088 : (Jvm.Cond.methodLink "EelPortLaw" (146 : Nat) ({ cls := "EelPortModel", name := "plan", desc := "(IIII)I" } : Jvm.MethodName)) ∈ lw_all := lw_g (lw_at lw_m9 91 rfl) rfl
theorem q2099 : (Jvm.Cond.methodLink "EelPortLaw" (149 : Nat) ({ cls := "EelPortModel", name := "planned", desc := "(I)I" } : Jvm.MethodName)) ∈ lw_all := lw_g (lw_at lw_m9 102 rfl) rfl
theorem q2103 : (Jvm.Cond.methodLink "EelPortLaw" (152 : Nat) ({ cls := "EelPortModel", name := "odds", desc := "(II)I" } : Jvm.MethodName)) ∈ lw_all := lw_g (lw_at lw_m9 106 rfl) rfl
theorem q2110 : (Jvm.Cond.methodLink "EelPortLaw" (156 : Nat) ({ cls := "EelPortModel", name := "bright", desc := "(IIIII)I" } : Jvm.MethodName)) ∈ lw_all := lw_g (lw_at lw_m9 113 rfl) rfl
theorem q2122 : (Jvm.Cond.methodLink "EelPortLaw" (159 : Nat) ({ cls := "EelPortModel", name := "rivals", desc := "(II)I" } : Jvm.MethodName)) ∈ lw_all := lw_g (lw_at lw_m9 125 rfl) rfl
theorem q2138 : (Jvm.Cond.methodLink "EelPortLaw" (162 : Nat) ({ cls := "EelPortModel", name := "shone", desc := "(III)I" } : Jvm.MethodName)) ∈ lw_all := lw_g (lw_at lw_m9 141 rfl) rfl
theorem q2142 : (Jvm.Cond.methodLink "EelPortLaw" (166 : Nat) ({ cls := "EelPortModel", name := "forget", desc := "()I" } : Jvm.MethodName)) ∈ lw_all := lw_g (lw_at lw_m9 145 rfl) rfl
theorem q2146 : (Jvm.Cond.methodLink "EelPortLaw" (169 : Nat) ({ cls := "EelPortModel", name := "where", desc := "(I)I" } : Jvm.MethodName)) ∈ lw_all := lw_g (lw_at lw_m9 149 rfl) rfl
theorem q2158 : (Jvm.Cond.methodLink "EelPortLaw" (172 : Nat) ({ cls := "EelPortModel", name := "nights", desc := "(III)I" } : Jvm.MethodName)) ∈ lw_all := lw_g (lw_at lw_m9 161 rfl) rfl
theorem q2163 : (Jvm.Cond.methodLink "EelPortLaw" (176 : Nat) ({ cls := "EelPortModel", name := "image", desc := "()V" } : Jvm.MethodName)) ∈ lw_all := lw_g (lw_at lw_m9 166 rfl) rfl
theorem q2167 : (Jvm.Cond.methodLink "EelPortLaw" (181 : Nat) ({ cls := "EelPortModel", name := "restore", desc := "()Z" } : Jvm.MethodName)) ∈ lw_all := lw_g (lw_at lw_m9 170 rfl) rfl

