/-! PluginChains$Log -/
set_option maxRecDepth 100000
def RX1 : String := "PluginChains$Log"
def TX1 : u_T := fun k => match k with
  | 0 => ("PluginChains$Log", "kept", "[I", true)
  | _ => ("PluginChains$Log", "many", "I", false)
def tyX1 : Nat → FieldType := fun k => match k with
  | 0 => .array .int
  | _ => .int
abbrev wsX10 : List Cond := u_ws RX1 TX1 2
theorem nmX1 : ∀ a, a < 2 → ∀ b, b < 2 → a ≠ b → (TX1 a).2.1 ≠ (TX1 b).2.1 := by decide +kernel
theorem tyX1_ok : ∀ k, k < 2 → parseFieldDescriptor (TX1 k).2.2.1 = some (tyX1 k) := by decide +kernel
abbrev cX1_init : ByteArray := prog_19_method_1_code
def yX1_init : MethodName := ⟨RX1, "<init>", "()V"⟩
def dkwX1_init_0 : List UInt8 := [42, 183, 0, 3, 42, 16, 40, 188, 10, 181, 0, 9, 177]
abbrev dktX1_init_0 : List UInt8 := dkwX1_init_0 ++ []
theorem dksX1_init_0 : cX1_init.data.toList.drop 0 = dktX1_init_0 := by decide +kernel
theorem dX1_init_0 : decode cX1_init 0 = .ok (.aload_n 0, 1) := dk_42 (dk_at dksX1_init_0 0 rfl rfl)
theorem dX1_init_1 : decode cX1_init 1 = .ok (.invokespecial 3, 3) := dk_183 0 3 (dk_at dksX1_init_0 1 rfl rfl)
theorem dX1_init_4 : decode cX1_init 4 = .ok (.aload_n 0, 1) := dk_42 (dk_at dksX1_init_0 4 rfl rfl)
theorem dX1_init_5 : decode cX1_init 5 = .ok (.bipush 40, 2) := dk_16 40 (dk_at dksX1_init_0 5 rfl rfl)
theorem dX1_init_7 : decode cX1_init 7 = .ok (.newarray .int, 2) := dk_188_10 (dk_at dksX1_init_0 7 rfl rfl)
theorem dX1_init_9 : decode cX1_init 9 = .ok (.putfield 9, 3) := dk_181 0 9 (dk_at dksX1_init_0 9 rfl rfl)
theorem dX1_init_12 : decode cX1_init 12 = .ok (.return_, 1) := dk_177 (dk_at dksX1_init_0 12 rfl rfl)
abbrev cX1_add : ByteArray := prog_19_method_2_code
def yX1_add : MethodName := ⟨RX1, "add", "(I)V"⟩
def dkwX1_add_0 : List UInt8 := [42, 180, 0, 9, 42, 180, 0, 15, 16, 40, 112, 27, 79, 42, 89, 180, 0, 15, 4, 96, 181, 0, 15, 177]
abbrev dktX1_add_0 : List UInt8 := dkwX1_add_0 ++ []
theorem dksX1_add_0 : cX1_add.data.toList.drop 0 = dktX1_add_0 := by decide +kernel
theorem dX1_add_0 : decode cX1_add 0 = .ok (.aload_n 0, 1) := dk_42 (dk_at dksX1_add_0 0 rfl rfl)
theorem dX1_add_1 : decode cX1_add 1 = .ok (.getfield 9, 3) := dk_180 0 9 (dk_at dksX1_add_0 1 rfl rfl)
theorem dX1_add_4 : decode cX1_add 4 = .ok (.aload_n 0, 1) := dk_42 (dk_at dksX1_add_0 4 rfl rfl)
theorem dX1_add_5 : decode cX1_add 5 = .ok (.getfield 15, 3) := dk_180 0 15 (dk_at dksX1_add_0 5 rfl rfl)
theorem dX1_add_8 : decode cX1_add 8 = .ok (.bipush 40, 2) := dk_16 40 (dk_at dksX1_add_0 8 rfl rfl)
theorem dX1_add_10 : decode cX1_add 10 = .ok (.irem, 1) := dk_112 (dk_at dksX1_add_0 10 rfl rfl)
theorem dX1_add_11 : decode cX1_add 11 = .ok (.iload_n 1, 1) := dk_27 (dk_at dksX1_add_0 11 rfl rfl)
theorem dX1_add_12 : decode cX1_add 12 = .ok (.iastore, 1) := dk_79 (dk_at dksX1_add_0 12 rfl rfl)
theorem dX1_add_13 : decode cX1_add 13 = .ok (.aload_n 0, 1) := dk_42 (dk_at dksX1_add_0 13 rfl rfl)
theorem dX1_add_14 : decode cX1_add 14 = .ok (.dup, 1) := dk_89 (dk_at dksX1_add_0 14 rfl rfl)
theorem dX1_add_15 : decode cX1_add 15 = .ok (.getfield 15, 3) := dk_180 0 15 (dk_at dksX1_add_0 15 rfl rfl)
theorem dX1_add_18 : decode cX1_add 18 = .ok (.iconst 1, 1) := dk_4 (dk_at dksX1_add_0 18 rfl rfl)
theorem dX1_add_19 : decode cX1_add 19 = .ok (.iadd, 1) := dk_96 (dk_at dksX1_add_0 19 rfl rfl)
theorem dX1_add_20 : decode cX1_add 20 = .ok (.putfield 15, 3) := dk_181 0 15 (dk_at dksX1_add_0 20 rfl rfl)
theorem dX1_add_23 : decode cX1_add 23 = .ok (.return_, 1) := dk_177 (dk_at dksX1_add_0 23 rfl rfl)
abbrev cX1_at : ByteArray := prog_19_method_3_code
def yX1_at : MethodName := ⟨RX1, "at", "(I)I"⟩
def dkwX1_at_1 : List UInt8 := [184, 0, 25, 153, 0, 17, 42, 180, 0, 9, 28, 27, 96, 16, 40, 112, 46, 167, 0, 4, 2, 172]
abbrev dktX1_at_1 : List UInt8 := dkwX1_at_1 ++ []
def dkwX1_at_0 : List UInt8 := [3, 42, 180, 0, 15, 16, 40, 100, 184, 0, 19, 61, 27, 133, 9, 42, 180, 0, 15, 28, 100, 4, 100, 133]
abbrev dktX1_at_0 : List UInt8 := dkwX1_at_0 ++ dktX1_at_1
theorem dksX1_at_0 : cX1_at.data.toList.drop 0 = dktX1_at_0 := by decide +kernel
theorem dksX1_at_1 : cX1_at.data.toList.drop 24 = dktX1_at_1 := dk_seg dksX1_at_0 24 rfl rfl
theorem dX1_at_0 : decode cX1_at 0 = .ok (.iconst 0, 1) := dk_3 (dk_at dksX1_at_0 0 rfl rfl)
theorem dX1_at_1 : decode cX1_at 1 = .ok (.aload_n 0, 1) := dk_42 (dk_at dksX1_at_0 1 rfl rfl)
theorem dX1_at_2 : decode cX1_at 2 = .ok (.getfield 15, 3) := dk_180 0 15 (dk_at dksX1_at_0 2 rfl rfl)
theorem dX1_at_5 : decode cX1_at 5 = .ok (.bipush 40, 2) := dk_16 40 (dk_at dksX1_at_0 5 rfl rfl)
theorem dX1_at_7 : decode cX1_at 7 = .ok (.isub, 1) := dk_100 (dk_at dksX1_at_0 7 rfl rfl)
theorem dX1_at_8 : decode cX1_at 8 = .ok (.invokestatic 19, 3) := dk_184 0 19 (dk_at dksX1_at_0 8 rfl rfl)
theorem dX1_at_11 : decode cX1_at 11 = .ok (.istore_n 2, 1) := dk_61 (dk_at dksX1_at_0 11 rfl rfl)
theorem dX1_at_12 : decode cX1_at 12 = .ok (.iload_n 1, 1) := dk_27 (dk_at dksX1_at_0 12 rfl rfl)
theorem dX1_at_13 : decode cX1_at 13 = .ok (.i2l, 1) := dk_133 (dk_at dksX1_at_0 13 rfl rfl)
theorem dX1_at_14 : decode cX1_at 14 = .ok (.lconst 0, 1) := dk_9 (dk_at dksX1_at_0 14 rfl rfl)
theorem dX1_at_15 : decode cX1_at 15 = .ok (.aload_n 0, 1) := dk_42 (dk_at dksX1_at_0 15 rfl rfl)
theorem dX1_at_16 : decode cX1_at 16 = .ok (.getfield 15, 3) := dk_180 0 15 (dk_at dksX1_at_0 16 rfl rfl)
theorem dX1_at_19 : decode cX1_at 19 = .ok (.iload_n 2, 1) := dk_28 (dk_at dksX1_at_0 19 rfl rfl)
theorem dX1_at_20 : decode cX1_at 20 = .ok (.isub, 1) := dk_100 (dk_at dksX1_at_0 20 rfl rfl)
theorem dX1_at_21 : decode cX1_at 21 = .ok (.iconst 1, 1) := dk_4 (dk_at dksX1_at_0 21 rfl rfl)
theorem dX1_at_22 : decode cX1_at 22 = .ok (.isub, 1) := dk_100 (dk_at dksX1_at_0 22 rfl rfl)
theorem dX1_at_23 : decode cX1_at 23 = .ok (.i2l, 1) := dk_133 (dk_at dksX1_at_0 23 rfl rfl)
theorem dX1_at_24 : decode cX1_at 24 = .ok (.invokestatic 25, 3) := dk_184 0 25 (dk_at dksX1_at_1 0 rfl rfl)
theorem dX1_at_27 : decode cX1_at 27 = .ok (.ifCond .eq 17, 3) := dk_153 0 17 (dk_at dksX1_at_1 3 rfl rfl)
theorem dX1_at_30 : decode cX1_at 30 = .ok (.aload_n 0, 1) := dk_42 (dk_at dksX1_at_1 6 rfl rfl)
theorem dX1_at_31 : decode cX1_at 31 = .ok (.getfield 9, 3) := dk_180 0 9 (dk_at dksX1_at_1 7 rfl rfl)
theorem dX1_at_34 : decode cX1_at 34 = .ok (.iload_n 2, 1) := dk_28 (dk_at dksX1_at_1 10 rfl rfl)
theorem dX1_at_35 : decode cX1_at 35 = .ok (.iload_n 1, 1) := dk_27 (dk_at dksX1_at_1 11 rfl rfl)
theorem dX1_at_36 : decode cX1_at 36 = .ok (.iadd, 1) := dk_96 (dk_at dksX1_at_1 12 rfl rfl)
theorem dX1_at_37 : decode cX1_at 37 = .ok (.bipush 40, 2) := dk_16 40 (dk_at dksX1_at_1 13 rfl rfl)
theorem dX1_at_39 : decode cX1_at 39 = .ok (.irem, 1) := dk_112 (dk_at dksX1_at_1 15 rfl rfl)
theorem dX1_at_40 : decode cX1_at 40 = .ok (.iaload, 1) := dk_46 (dk_at dksX1_at_1 16 rfl rfl)
theorem dX1_at_41 : decode cX1_at 41 = .ok (.goto 4, 3) := dk_167 0 4 (dk_at dksX1_at_1 17 rfl rfl)
theorem dX1_at_44 : decode cX1_at 44 = .ok (.iconst (-1), 1) := dk_2 (dk_at dksX1_at_1 20 rfl rfl)
theorem dX1_at_45 : decode cX1_at 45 = .ok (.ireturn, 1) := dk_172 (dk_at dksX1_at_1 21 rfl rfl)
theorem q82 : (Jvm.Cond.initialized "PluginChains$Log") ∈ lw_all := lw_g (lw_at lw_m1 2 rfl) rfl
theorem q185 : (Jvm.Cond.instantiable "PluginChains$Log" (2 : Nat)) ∈ lw_all := lw_g (lw_at lw_m1 105 rfl) rfl
theorem q187 : (Jvm.Cond.instanceMethod ({ cls := "PluginChains$Log", name := "<init>", desc := "()V" } : Jvm.MethodName)) ∈ lw_all := lw_g (lw_at lw_m1 107 rfl) rfl
theorem q188 : (Jvm.Cond.code ({ cls := "PluginChains$Log", name := "<init>", desc := "()V" } : Jvm.MethodName) prog_19_method_1_code (1 : Nat) (Option.none : Option Jvm.ClassFile.FieldType)) ∈ lw_all := lw_g (lw_at lw_m1 108 rfl) rfl
theorem q189 : (Jvm.Cond.methodLink "PluginChains$Log" (3 : Nat) ({ cls := "java/lang/Object", name := "<init>", desc := "()V" } : Jvm.MethodName)) ∈ lw_all := lw_g (lw_at lw_m1 109 rfl) rfl
theorem q190 : (Jvm.Cond.fieldLink "PluginChains$Log" (9 : Nat) "PluginChains$Log" "kept" "[I") ∈ lw_all := lw_g (lw_at lw_m1 110 rfl) rfl
theorem q191 : (Jvm.Cond.fieldLink "PluginChains$Log" (15 : Nat) "PluginChains$Log" "many" "I") ∈ lw_all := lw_g (lw_at lw_m1 111 rfl) rfl
theorem q193 : (Jvm.Cond.laysFinal "PluginChains$Log" "PluginChains$Log" "kept" "[I") ∈ lw_all := lw_g (lw_at lw_m1 113 rfl) rfl
theorem q194 : (Jvm.Cond.soleField "PluginChains$Log" "kept") ∈ lw_all := lw_g (lw_at lw_m1 114 rfl) rfl
theorem q195 : (Jvm.Cond.lays "PluginChains$Log" "PluginChains$Log" "many" "I") ∈ lw_all := lw_g (lw_at lw_m1 115 rfl) rfl
theorem q196 : (Jvm.Cond.soleField "PluginChains$Log" "many") ∈ lw_all := lw_g (lw_at lw_m1 116 rfl) rfl
theorem q197 : (Jvm.Cond.superclass "PluginChains$Log" "java/lang/Object") ∈ lw_all := lw_g (lw_at lw_m1 117 rfl) rfl
theorem q1317 : (Jvm.Cond.selects "PluginChains$Log" ({ cls := "java/lang/Object", name := "getClass", desc := "()Ljava/lang/Class;" } : Jvm.MethodName) ({ cls := "java/lang/Object", name := "getClass", desc := "()Ljava/lang/Class;" } : Jvm.MethodName)) ∈ lw_all := lw_g (lw_at lw_m6 37 rfl) rfl
theorem q2437 : (Jvm.Cond.instanceMethod ({ cls := "PluginChains$Log", name := "add", desc := "(I)V" } : Jvm.MethodName)) ∈ lw_all := lw_g (lw_at lw_m10 197 rfl) rfl
theorem q2438 : (Jvm.Cond.selects "PluginChains$Log" ({ cls := "PluginChains$Log", name := "add", desc := "(I)V" } : Jvm.MethodName) ({ cls := "PluginChains$Log", name := "add", desc := "(I)V" } : Jvm.MethodName)) ∈ lw_all := lw_g (lw_at lw_m10 198 rfl) rfl
theorem q2439 : (Jvm.Cond.code ({ cls := "PluginChains$Log", name := "add", desc := "(I)V" } : Jvm.MethodName) prog_19_method_2_code (2 : Nat) (Option.none : Option Jvm.ClassFile.FieldType)) ∈ lw_all := lw_g (lw_at lw_m10 199 rfl) rfl
theorem q3465 : (Jvm.Cond.instanceMethod ({ cls := "PluginChains$Log", name := "at", desc := "(I)I" } : Jvm.MethodName)) ∈ lw_all := lw_g (lw_at lw_m15 25 rfl) rfl
theorem q3466 : (Jvm.Cond.selects "PluginChains$Log" ({ cls := "PluginChains$Log", name := "at", desc := "(I)I" } : Jvm.MethodName) ({ cls := "PluginChains$Log", name := "at", desc := "(I)I" } : Jvm.MethodName)) ∈ lw_all := lw_g (lw_at lw_m15 26 rfl) rfl
theorem q3467 : (Jvm.Cond.code ({ cls := "PluginChains$Log", name := "at", desc := "(I)I" } : Jvm.MethodName) prog_19_method_3_code (3 : Nat) (Option.some Jvm.ClassFile.FieldType.int)) ∈ lw_all := lw_g (lw_at lw_m15 27 rfl) rfl
theorem q3468 : (Jvm.Cond.methodLink "PluginChains$Log" (19 : Nat) ({ cls := "java/lang/Math", name := "max", desc := "(II)I" } : Jvm.MethodName)) ∈ lw_all := lw_g (lw_at lw_m15 28 rfl) rfl
theorem q3469 : (Jvm.Cond.methodLink "PluginChains$Log" (25 : Nat) ({ cls := "PluginChains", name := "in", desc := "(JJJ)Z" } : Jvm.MethodName)) ∈ lw_all := lw_g (lw_at lw_m15 29 rfl) rfl
theorem q4049 : (Jvm.Cond.castable "PluginChains$Log" "java/lang/Object") ∈ lw_tbl := lw_at lw_m17 129 rfl
theorem in_X1 : ∀ w ∈ wsX10, w ∈ lw_all := lw_in wsX10 [193, 195] (by decide +kernel) (by decide +kernel)

/-! PluginChains$Host -/
set_option maxRecDepth 100000
def RX2 : String := "PluginChains$Host"
def TX2 : u_T := fun k => match k with
  | 0 => ("PluginChains$Host", "many", "I", false)
  | 1 => ("PluginChains$Host", "hooksMany", "I", false)
  | 2 => ("PluginChains$Host", "clock", "I", false)
  | 3 => ("PluginChains$Host", "seed", "I", false)
  | 4 => ("PluginChains$Host", "plugs", "[LPluginChains$Plain;", true)
  | 5 => ("PluginChains$Host", "state", "[I", true)
  | 6 => ("PluginChains$Host", "faults", "[I", true)
  | 7 => ("PluginChains$Host", "tally", "[I", true)
  | 8 => ("PluginChains$Host", "age", "[I", true)
  | 9 => ("PluginChains$Host", "hooks", "[LPluginChains$Hook;", true)
  | _ => ("PluginChains$Host", "names", "Ljava/util/TreeMap;", true)
def tyX2 : Nat → FieldType := fun k => match k with
  | 0 => .int
  | 1 => .int
  | 2 => .int
  | 3 => .int
  | 4 => .array (.object "PluginChains$Plain")
  | 5 => .array .int
  | 6 => .array .int
  | 7 => .array .int
  | 8 => .array .int
  | 9 => .array (.object "PluginChains$Hook")
  | _ => .object "java/util/TreeMap"
abbrev wsX20 : List Cond := u_ws RX2 TX2 11
theorem nmX2 : ∀ a, a < 11 → ∀ b, b < 11 → a ≠ b → (TX2 a).2.1 ≠ (TX2 b).2.1 := by decide +kernel
theorem tyX2_ok : ∀ k, k < 11 → parseFieldDescriptor (TX2 k).2.2.1 = some (tyX2 k) := by decide +kernel
abbrev cX2_init : ByteArray := prog_16_method_1_code
def yX2_init : MethodName := ⟨RX2, "<init>", "()V"⟩
def dkwX2_init_2 : List UInt8 := [181, 0, 31, 42, 16, 24, 189, 0, 34, 181, 0, 36, 42, 187, 0, 40, 89, 183, 0, 42, 181, 0, 43, 177]
abbrev dktX2_init_2 : List UInt8 := dkwX2_init_2 ++ []
def dkwX2_init_1 : List UInt8 := [181, 0, 21, 42, 16, 12, 188, 10, 181, 0, 25, 42, 16, 12, 188, 10, 181, 0, 28, 42, 16, 12, 188, 10]
abbrev dktX2_init_1 : List UInt8 := dkwX2_init_1 ++ dktX2_init_2
def dkwX2_init_0 : List UInt8 := [42, 183, 0, 3, 42, 4, 181, 0, 9, 42, 16, 12, 189, 0, 15, 181, 0, 17, 42, 16, 12, 188, 10]
abbrev dktX2_init_0 : List UInt8 := dkwX2_init_0 ++ dktX2_init_1
theorem dksX2_init_0 : cX2_init.data.toList.drop 0 = dktX2_init_0 := by decide +kernel
theorem dksX2_init_1 : cX2_init.data.toList.drop 23 = dktX2_init_1 := dk_seg dksX2_init_0 23 rfl rfl
theorem dksX2_init_2 : cX2_init.data.toList.drop 47 = dktX2_init_2 := dk_seg dksX2_init_1 24 rfl rfl
theorem dX2_init_0 : decode cX2_init 0 = .ok (.aload_n 0, 1) := dk_42 (dk_at dksX2_init_0 0 rfl rfl)
theorem dX2_init_1 : decode cX2_init 1 = .ok (.invokespecial 3, 3) := dk_183 0 3 (dk_at dksX2_init_0 1 rfl rfl)
theorem dX2_init_4 : decode cX2_init 4 = .ok (.aload_n 0, 1) := dk_42 (dk_at dksX2_init_0 4 rfl rfl)
theorem dX2_init_5 : decode cX2_init 5 = .ok (.iconst 1, 1) := dk_4 (dk_at dksX2_init_0 5 rfl rfl)
theorem dX2_init_6 : decode cX2_init 6 = .ok (.putfield 9, 3) := dk_181 0 9 (dk_at dksX2_init_0 6 rfl rfl)
theorem dX2_init_9 : decode cX2_init 9 = .ok (.aload_n 0, 1) := dk_42 (dk_at dksX2_init_0 9 rfl rfl)
theorem dX2_init_10 : decode cX2_init 10 = .ok (.bipush 12, 2) := dk_16 12 (dk_at dksX2_init_0 10 rfl rfl)
theorem dX2_init_12 : decode cX2_init 12 = .ok (.anewarray 15, 3) := dk_189 0 15 (dk_at dksX2_init_0 12 rfl rfl)
theorem dX2_init_15 : decode cX2_init 15 = .ok (.putfield 17, 3) := dk_181 0 17 (dk_at dksX2_init_0 15 rfl rfl)
theorem dX2_init_18 : decode cX2_init 18 = .ok (.aload_n 0, 1) := dk_42 (dk_at dksX2_init_0 18 rfl rfl)
theorem dX2_init_19 : decode cX2_init 19 = .ok (.bipush 12, 2) := dk_16 12 (dk_at dksX2_init_0 19 rfl rfl)
theorem dX2_init_21 : decode cX2_init 21 = .ok (.newarray .int, 2) := dk_188_10 (dk_at dksX2_init_0 21 rfl rfl)
theorem dX2_init_23 : decode cX2_init 23 = .ok (.putfield 21, 3) := dk_181 0 21 (dk_at dksX2_init_1 0 rfl rfl)
theorem dX2_init_26 : decode cX2_init 26 = .ok (.aload_n 0, 1) := dk_42 (dk_at dksX2_init_1 3 rfl rfl)
theorem dX2_init_27 : decode cX2_init 27 = .ok (.bipush 12, 2) := dk_16 12 (dk_at dksX2_init_1 4 rfl rfl)
theorem dX2_init_29 : decode cX2_init 29 = .ok (.newarray .int, 2) := dk_188_10 (dk_at dksX2_init_1 6 rfl rfl)
theorem dX2_init_31 : decode cX2_init 31 = .ok (.putfield 25, 3) := dk_181 0 25 (dk_at dksX2_init_1 8 rfl rfl)
theorem dX2_init_34 : decode cX2_init 34 = .ok (.aload_n 0, 1) := dk_42 (dk_at dksX2_init_1 11 rfl rfl)
theorem dX2_init_35 : decode cX2_init 35 = .ok (.bipush 12, 2) := dk_16 12 (dk_at dksX2_init_1 12 rfl rfl)
theorem dX2_init_37 : decode cX2_init 37 = .ok (.newarray .int, 2) := dk_188_10 (dk_at dksX2_init_1 14 rfl rfl)
theorem dX2_init_39 : decode cX2_init 39 = .ok (.putfield 28, 3) := dk_181 0 28 (dk_at dksX2_init_1 16 rfl rfl)
theorem dX2_init_42 : decode cX2_init 42 = .ok (.aload_n 0, 1) := dk_42 (dk_at dksX2_init_1 19 rfl rfl)
theorem dX2_init_43 : decode cX2_init 43 = .ok (.bipush 12, 2) := dk_16 12 (dk_at dksX2_init_1 20 rfl rfl)
theorem dX2_init_45 : decode cX2_init 45 = .ok (.newarray .int, 2) := dk_188_10 (dk_at dksX2_init_1 22 rfl rfl)
theorem dX2_init_47 : decode cX2_init 47 = .ok (.putfield 31, 3) := dk_181 0 31 (dk_at dksX2_init_2 0 rfl rfl)
theorem dX2_init_50 : decode cX2_init 50 = .ok (.aload_n 0, 1) := dk_42 (dk_at dksX2_init_2 3 rfl rfl)
theorem dX2_init_51 : decode cX2_init 51 = .ok (.bipush 24, 2) := dk_16 24 (dk_at dksX2_init_2 4 rfl rfl)
theorem dX2_init_53 : decode cX2_init 53 = .ok (.anewarray 34, 3) := dk_189 0 34 (dk_at dksX2_init_2 6 rfl rfl)
theorem dX2_init_56 : decode cX2_init 56 = .ok (.putfield 36, 3) := dk_181 0 36 (dk_at dksX2_init_2 9 rfl rfl)
theorem dX2_init_59 : decode cX2_init 59 = .ok (.aload_n 0, 1) := dk_42 (dk_at dksX2_init_2 12 rfl rfl)
theorem dX2_init_60 : decode cX2_init 60 = .ok (.new 40, 3) := dk_187 0 40 (dk_at dksX2_init_2 13 rfl rfl)
theorem dX2_init_63 : decode cX2_init 63 = .ok (.dup, 1) := dk_89 (dk_at dksX2_init_2 16 rfl rfl)
theorem dX2_init_64 : decode cX2_init 64 = .ok (.invokespecial 42, 3) := dk_183 0 42 (dk_at dksX2_init_2 17 rfl rfl)
theorem dX2_init_67 : decode cX2_init 67 = .ok (.putfield 43, 3) := dk_181 0 43 (dk_at dksX2_init_2 20 rfl rfl)
theorem dX2_init_70 : decode cX2_init 70 = .ok (.return_, 1) := dk_177 (dk_at dksX2_init_2 23 rfl rfl)
abbrev cX2_isPlug : ByteArray := prog_16_method_3_code
def yX2_isPlug : MethodName := ⟨RX2, "isPlug", "(I)Z"⟩
def dkwX2_isPlug_0 : List UInt8 := [27, 155, 0, 15, 27, 42, 180, 0, 47, 162, 0, 7, 4, 167, 0, 4, 3, 172]
abbrev dktX2_isPlug_0 : List UInt8 := dkwX2_isPlug_0 ++ []
theorem dksX2_isPlug_0 : cX2_isPlug.data.toList.drop 0 = dktX2_isPlug_0 := by decide +kernel
theorem dX2_isPlug_0 : decode cX2_isPlug 0 = .ok (.iload_n 1, 1) := dk_27 (dk_at dksX2_isPlug_0 0 rfl rfl)
theorem dX2_isPlug_1 : decode cX2_isPlug 1 = .ok (.ifCond .lt 15, 3) := dk_155 0 15 (dk_at dksX2_isPlug_0 1 rfl rfl)
theorem dX2_isPlug_4 : decode cX2_isPlug 4 = .ok (.iload_n 1, 1) := dk_27 (dk_at dksX2_isPlug_0 4 rfl rfl)
theorem dX2_isPlug_5 : decode cX2_isPlug 5 = .ok (.aload_n 0, 1) := dk_42 (dk_at dksX2_isPlug_0 5 rfl rfl)
theorem dX2_isPlug_6 : decode cX2_isPlug 6 = .ok (.getfield 47, 3) := dk_180 0 47 (dk_at dksX2_isPlug_0 6 rfl rfl)
theorem dX2_isPlug_9 : decode cX2_isPlug 9 = .ok (.if_icmp .ge 7, 3) := dk_162 0 7 (dk_at dksX2_isPlug_0 9 rfl rfl)
theorem dX2_isPlug_12 : decode cX2_isPlug 12 = .ok (.iconst 1, 1) := dk_4 (dk_at dksX2_isPlug_0 12 rfl rfl)
theorem dX2_isPlug_13 : decode cX2_isPlug 13 = .ok (.goto 4, 3) := dk_167 0 4 (dk_at dksX2_isPlug_0 13 rfl rfl)
theorem dX2_isPlug_16 : decode cX2_isPlug 16 = .ok (.iconst 0, 1) := dk_3 (dk_at dksX2_isPlug_0 16 rfl rfl)
theorem dX2_isPlug_17 : decode cX2_isPlug 17 = .ok (.ireturn, 1) := dk_172 (dk_at dksX2_isPlug_0 17 rfl rfl)
abbrev cX2_add : ByteArray := prog_16_method_5_code
def yX2_add : MethodName := ⟨RX2, "add", "(ILjava/lang/String;IIII)I"⟩
def dkwX2_add_3 : List UInt8 := [180, 0, 47, 90, 4, 96, 181, 0, 47, 172]
abbrev dktX2_add_3 : List UInt8 := dkwX2_add_3 ++ []
def dkwX2_add_2 : List UInt8 := [42, 180, 0, 47, 3, 79, 42, 180, 0, 43, 44, 42, 180, 0, 47, 184, 0, 69, 182, 0, 75, 87, 42, 89]
abbrev dktX2_add_2 : List UInt8 := dkwX2_add_2 ++ dktX2_add_3
def dkwX2_add_1 : List UInt8 := [180, 0, 21, 42, 180, 0, 47, 3, 79, 42, 180, 0, 25, 42, 180, 0, 47, 21, 6, 79, 42, 180, 0, 28]
abbrev dktX2_add_1 : List UInt8 := dkwX2_add_1 ++ dktX2_add_2
def dkwX2_add_0 : List UInt8 := [42, 180, 0, 17, 42, 180, 0, 47, 27, 42, 180, 0, 47, 44, 29, 21, 4, 21, 5, 184, 0, 79, 83, 42]
abbrev dktX2_add_0 : List UInt8 := dkwX2_add_0 ++ dktX2_add_1
theorem dksX2_add_0 : cX2_add.data.toList.drop 0 = dktX2_add_0 := by decide +kernel
theorem dksX2_add_1 : cX2_add.data.toList.drop 24 = dktX2_add_1 := dk_seg dksX2_add_0 24 rfl rfl
theorem dksX2_add_2 : cX2_add.data.toList.drop 48 = dktX2_add_2 := dk_seg dksX2_add_1 24 rfl rfl
theorem dksX2_add_3 : cX2_add.data.toList.drop 72 = dktX2_add_3 := dk_seg dksX2_add_2 24 rfl rfl
theorem dX2_add_0 : decode cX2_add 0 = .ok (.aload_n 0, 1) := dk_42 (dk_at dksX2_add_0 0 rfl rfl)
theorem dX2_add_1 : decode cX2_add 1 = .ok (.getfield 17, 3) := dk_180 0 17 (dk_at dksX2_add_0 1 rfl rfl)
theorem dX2_add_4 : decode cX2_add 4 = .ok (.aload_n 0, 1) := dk_42 (dk_at dksX2_add_0 4 rfl rfl)
theorem dX2_add_5 : decode cX2_add 5 = .ok (.getfield 47, 3) := dk_180 0 47 (dk_at dksX2_add_0 5 rfl rfl)
theorem dX2_add_8 : decode cX2_add 8 = .ok (.iload_n 1, 1) := dk_27 (dk_at dksX2_add_0 8 rfl rfl)
theorem dX2_add_9 : decode cX2_add 9 = .ok (.aload_n 0, 1) := dk_42 (dk_at dksX2_add_0 9 rfl rfl)
theorem dX2_add_10 : decode cX2_add 10 = .ok (.getfield 47, 3) := dk_180 0 47 (dk_at dksX2_add_0 10 rfl rfl)
theorem dX2_add_13 : decode cX2_add 13 = .ok (.aload_n 2, 1) := dk_44 (dk_at dksX2_add_0 13 rfl rfl)
theorem dX2_add_14 : decode cX2_add 14 = .ok (.iload_n 3, 1) := dk_29 (dk_at dksX2_add_0 14 rfl rfl)
theorem dX2_add_15 : decode cX2_add 15 = .ok (.iload 4, 2) := dk_21 4 (dk_at dksX2_add_0 15 rfl rfl)
theorem dX2_add_17 : decode cX2_add 17 = .ok (.iload 5, 2) := dk_21 5 (dk_at dksX2_add_0 17 rfl rfl)
theorem dX2_add_19 : decode cX2_add 19 = .ok (.invokestatic 79, 3) := dk_184 0 79 (dk_at dksX2_add_0 19 rfl rfl)
theorem dX2_add_22 : decode cX2_add 22 = .ok (.aastore, 1) := dk_83 (dk_at dksX2_add_0 22 rfl rfl)
theorem dX2_add_23 : decode cX2_add 23 = .ok (.aload_n 0, 1) := dk_42 (dk_at dksX2_add_0 23 rfl rfl)
theorem dX2_add_24 : decode cX2_add 24 = .ok (.getfield 21, 3) := dk_180 0 21 (dk_at dksX2_add_1 0 rfl rfl)
theorem dX2_add_27 : decode cX2_add 27 = .ok (.aload_n 0, 1) := dk_42 (dk_at dksX2_add_1 3 rfl rfl)
theorem dX2_add_28 : decode cX2_add 28 = .ok (.getfield 47, 3) := dk_180 0 47 (dk_at dksX2_add_1 4 rfl rfl)
theorem dX2_add_31 : decode cX2_add 31 = .ok (.iconst 0, 1) := dk_3 (dk_at dksX2_add_1 7 rfl rfl)
theorem dX2_add_32 : decode cX2_add 32 = .ok (.iastore, 1) := dk_79 (dk_at dksX2_add_1 8 rfl rfl)
theorem dX2_add_33 : decode cX2_add 33 = .ok (.aload_n 0, 1) := dk_42 (dk_at dksX2_add_1 9 rfl rfl)
theorem dX2_add_34 : decode cX2_add 34 = .ok (.getfield 25, 3) := dk_180 0 25 (dk_at dksX2_add_1 10 rfl rfl)
theorem dX2_add_37 : decode cX2_add 37 = .ok (.aload_n 0, 1) := dk_42 (dk_at dksX2_add_1 13 rfl rfl)
theorem dX2_add_38 : decode cX2_add 38 = .ok (.getfield 47, 3) := dk_180 0 47 (dk_at dksX2_add_1 14 rfl rfl)
theorem dX2_add_41 : decode cX2_add 41 = .ok (.iload 6, 2) := dk_21 6 (dk_at dksX2_add_1 17 rfl rfl)
theorem dX2_add_43 : decode cX2_add 43 = .ok (.iastore, 1) := dk_79 (dk_at dksX2_add_1 19 rfl rfl)
theorem dX2_add_44 : decode cX2_add 44 = .ok (.aload_n 0, 1) := dk_42 (dk_at dksX2_add_1 20 rfl rfl)
theorem dX2_add_45 : decode cX2_add 45 = .ok (.getfield 28, 3) := dk_180 0 28 (dk_at dksX2_add_1 21 rfl rfl)
theorem dX2_add_48 : decode cX2_add 48 = .ok (.aload_n 0, 1) := dk_42 (dk_at dksX2_add_2 0 rfl rfl)
theorem dX2_add_49 : decode cX2_add 49 = .ok (.getfield 47, 3) := dk_180 0 47 (dk_at dksX2_add_2 1 rfl rfl)
theorem dX2_add_52 : decode cX2_add 52 = .ok (.iconst 0, 1) := dk_3 (dk_at dksX2_add_2 4 rfl rfl)
theorem dX2_add_53 : decode cX2_add 53 = .ok (.iastore, 1) := dk_79 (dk_at dksX2_add_2 5 rfl rfl)
theorem dX2_add_54 : decode cX2_add 54 = .ok (.aload_n 0, 1) := dk_42 (dk_at dksX2_add_2 6 rfl rfl)
theorem dX2_add_55 : decode cX2_add 55 = .ok (.getfield 43, 3) := dk_180 0 43 (dk_at dksX2_add_2 7 rfl rfl)
theorem dX2_add_58 : decode cX2_add 58 = .ok (.aload_n 2, 1) := dk_44 (dk_at dksX2_add_2 10 rfl rfl)
theorem dX2_add_59 : decode cX2_add 59 = .ok (.aload_n 0, 1) := dk_42 (dk_at dksX2_add_2 11 rfl rfl)
theorem dX2_add_60 : decode cX2_add 60 = .ok (.getfield 47, 3) := dk_180 0 47 (dk_at dksX2_add_2 12 rfl rfl)
theorem dX2_add_63 : decode cX2_add 63 = .ok (.invokestatic 69, 3) := dk_184 0 69 (dk_at dksX2_add_2 15 rfl rfl)
theorem dX2_add_66 : decode cX2_add 66 = .ok (.invokevirtual 75, 3) := dk_182 0 75 (dk_at dksX2_add_2 18 rfl rfl)
theorem dX2_add_69 : decode cX2_add 69 = .ok (.pop, 1) := dk_87 (dk_at dksX2_add_2 21 rfl rfl)
theorem dX2_add_70 : decode cX2_add 70 = .ok (.aload_n 0, 1) := dk_42 (dk_at dksX2_add_2 22 rfl rfl)
theorem dX2_add_71 : decode cX2_add 71 = .ok (.dup, 1) := dk_89 (dk_at dksX2_add_2 23 rfl rfl)
theorem dX2_add_72 : decode cX2_add 72 = .ok (.getfield 47, 3) := dk_180 0 47 (dk_at dksX2_add_3 0 rfl rfl)
theorem dX2_add_75 : decode cX2_add 75 = .ok (.dup_x1, 1) := dk_90 (dk_at dksX2_add_3 3 rfl rfl)
theorem dX2_add_76 : decode cX2_add 76 = .ok (.iconst 1, 1) := dk_4 (dk_at dksX2_add_3 4 rfl rfl)
theorem dX2_add_77 : decode cX2_add 77 = .ok (.iadd, 1) := dk_96 (dk_at dksX2_add_3 5 rfl rfl)
theorem dX2_add_78 : decode cX2_add 78 = .ok (.putfield 47, 3) := dk_181 0 47 (dk_at dksX2_add_3 6 rfl rfl)
theorem dX2_add_81 : decode cX2_add 81 = .ok (.ireturn, 1) := dk_172 (dk_at dksX2_add_3 9 rfl rfl)
abbrev cX2_take : ByteArray := prog_16_method_2_code
def yX2_take : MethodName := ⟨RX2, "take", "(LPluginChains$Host;)LPluginChains$Host;"⟩
def dkwX2_take_7 : List UInt8 := [180, 0, 17, 28, 50, 180, 0, 65, 28, 184, 0, 69, 182, 0, 75, 87, 132, 2, 1, 167, 255, 214, 42, 176]
abbrev dktX2_take_7 : List UInt8 := dkwX2_take_7 ++ []
def dkwX2_take_6 : List UInt8 := [61, 28, 42, 180, 0, 47, 162, 0, 40, 42, 180, 0, 21, 28, 46, 6, 159, 0, 24, 42, 180, 0, 43, 42]
abbrev dktX2_take_6 : List UInt8 := dkwX2_take_6 ++ dktX2_take_7
def dkwX2_take_5 : List UInt8 := [180, 0, 36, 3, 42, 180, 0, 36, 3, 42, 180, 0, 50, 184, 0, 56, 42, 180, 0, 43, 182, 0, 62, 3]
abbrev dktX2_take_5 : List UInt8 := dkwX2_take_5 ++ dktX2_take_6
def dkwX2_take_4 : List UInt8 := [180, 0, 47, 184, 0, 56, 43, 180, 0, 31, 3, 42, 180, 0, 31, 3, 42, 180, 0, 47, 184, 0, 56, 43]
abbrev dktX2_take_4 : List UInt8 := dkwX2_take_4 ++ dktX2_take_5
def dkwX2_take_3 : List UInt8 := [3, 42, 180, 0, 25, 3, 42, 180, 0, 47, 184, 0, 56, 43, 180, 0, 28, 3, 42, 180, 0, 28, 3, 42]
abbrev dktX2_take_3 : List UInt8 := dkwX2_take_3 ++ dktX2_take_4
def dkwX2_take_2 : List UInt8 := [184, 0, 56, 43, 180, 0, 21, 3, 42, 180, 0, 21, 3, 42, 180, 0, 47, 184, 0, 56, 43, 180, 0, 25]
abbrev dktX2_take_2 : List UInt8 := dkwX2_take_2 ++ dktX2_take_3
def dkwX2_take_1 : List UInt8 := [42, 43, 180, 0, 9, 181, 0, 9, 43, 180, 0, 17, 3, 42, 180, 0, 17, 3, 42, 180, 0, 47]
abbrev dktX2_take_1 : List UInt8 := dkwX2_take_1 ++ dktX2_take_2
def dkwX2_take_0 : List UInt8 := [42, 43, 180, 0, 47, 181, 0, 47, 42, 43, 180, 0, 50, 181, 0, 50, 42, 43, 180, 0, 53, 181, 0, 53]
abbrev dktX2_take_0 : List UInt8 := dkwX2_take_0 ++ dktX2_take_1
theorem dksX2_take_0 : cX2_take.data.toList.drop 0 = dktX2_take_0 := by decide +kernel
theorem dksX2_take_1 : cX2_take.data.toList.drop 24 = dktX2_take_1 := dk_seg dksX2_take_0 24 rfl rfl
theorem dksX2_take_2 : cX2_take.data.toList.drop 46 = dktX2_take_2 := dk_seg dksX2_take_1 22 rfl rfl
theorem dksX2_take_3 : cX2_take.data.toList.drop 70 = dktX2_take_3 := dk_seg dksX2_take_2 24 rfl rfl
theorem dksX2_take_4 : cX2_take.data.toList.drop 94 = dktX2_take_4 := dk_seg dksX2_take_3 24 rfl rfl
theorem dksX2_take_5 : cX2_take.data.toList.drop 118 = dktX2_take_5 := dk_seg dksX2_take_4 24 rfl rfl
theorem dksX2_take_6 : cX2_take.data.toList.drop 142 = dktX2_take_6 := dk_seg dksX2_take_5 24 rfl rfl
theorem dksX2_take_7 : cX2_take.data.toList.drop 166 = dktX2_take_7 := dk_seg dksX2_take_6 24 rfl rfl
theorem dX2_take_0 : decode cX2_take 0 = .ok (.aload_n 0, 1) := dk_42 (dk_at dksX2_take_0 0 rfl rfl)
theorem dX2_take_1 : decode cX2_take 1 = .ok (.aload_n 1, 1) := dk_43 (dk_at dksX2_take_0 1 rfl rfl)
theorem dX2_take_2 : decode cX2_take 2 = .ok (.getfield 47, 3) := dk_180 0 47 (dk_at dksX2_take_0 2 rfl rfl)
theorem dX2_take_5 : decode cX2_take 5 = .ok (.putfield 47, 3) := dk_181 0 47 (dk_at dksX2_take_0 5 rfl rfl)
theorem dX2_take_8 : decode cX2_take 8 = .ok (.aload_n 0, 1) := dk_42 (dk_at dksX2_take_0 8 rfl rfl)
theorem dX2_take_9 : decode cX2_take 9 = .ok (.aload_n 1, 1) := dk_43 (dk_at dksX2_take_0 9 rfl rfl)
theorem dX2_take_10 : decode cX2_take 10 = .ok (.getfield 50, 3) := dk_180 0 50 (dk_at dksX2_take_0 10 rfl rfl)
theorem dX2_take_13 : decode cX2_take 13 = .ok (.putfield 50, 3) := dk_181 0 50 (dk_at dksX2_take_0 13 rfl rfl)
theorem dX2_take_16 : decode cX2_take 16 = .ok (.aload_n 0, 1) := dk_42 (dk_at dksX2_take_0 16 rfl rfl)
theorem dX2_take_17 : decode cX2_take 17 = .ok (.aload_n 1, 1) := dk_43 (dk_at dksX2_take_0 17 rfl rfl)
theorem dX2_take_18 : decode cX2_take 18 = .ok (.getfield 53, 3) := dk_180 0 53 (dk_at dksX2_take_0 18 rfl rfl)
theorem dX2_take_21 : decode cX2_take 21 = .ok (.putfield 53, 3) := dk_181 0 53 (dk_at dksX2_take_0 21 rfl rfl)
theorem dX2_take_24 : decode cX2_take 24 = .ok (.aload_n 0, 1) := dk_42 (dk_at dksX2_take_1 0 rfl rfl)
theorem dX2_take_25 : decode cX2_take 25 = .ok (.aload_n 1, 1) := dk_43 (dk_at dksX2_take_1 1 rfl rfl)
theorem dX2_take_26 : decode cX2_take 26 = .ok (.getfield 9, 3) := dk_180 0 9 (dk_at dksX2_take_1 2 rfl rfl)
theorem dX2_take_29 : decode cX2_take 29 = .ok (.putfield 9, 3) := dk_181 0 9 (dk_at dksX2_take_1 5 rfl rfl)
theorem dX2_take_32 : decode cX2_take 32 = .ok (.aload_n 1, 1) := dk_43 (dk_at dksX2_take_1 8 rfl rfl)
theorem dX2_take_33 : decode cX2_take 33 = .ok (.getfield 17, 3) := dk_180 0 17 (dk_at dksX2_take_1 9 rfl rfl)
theorem dX2_take_36 : decode cX2_take 36 = .ok (.iconst 0, 1) := dk_3 (dk_at dksX2_take_1 12 rfl rfl)
theorem dX2_take_37 : decode cX2_take 37 = .ok (.aload_n 0, 1) := dk_42 (dk_at dksX2_take_1 13 rfl rfl)
theorem dX2_take_38 : decode cX2_take 38 = .ok (.getfield 17, 3) := dk_180 0 17 (dk_at dksX2_take_1 14 rfl rfl)
theorem dX2_take_41 : decode cX2_take 41 = .ok (.iconst 0, 1) := dk_3 (dk_at dksX2_take_1 17 rfl rfl)
theorem dX2_take_42 : decode cX2_take 42 = .ok (.aload_n 0, 1) := dk_42 (dk_at dksX2_take_1 18 rfl rfl)
theorem dX2_take_43 : decode cX2_take 43 = .ok (.getfield 47, 3) := dk_180 0 47 (dk_at dksX2_take_1 19 rfl rfl)
theorem dX2_take_46 : decode cX2_take 46 = .ok (.invokestatic 56, 3) := dk_184 0 56 (dk_at dksX2_take_2 0 rfl rfl)
theorem dX2_take_49 : decode cX2_take 49 = .ok (.aload_n 1, 1) := dk_43 (dk_at dksX2_take_2 3 rfl rfl)
theorem dX2_take_50 : decode cX2_take 50 = .ok (.getfield 21, 3) := dk_180 0 21 (dk_at dksX2_take_2 4 rfl rfl)
theorem dX2_take_53 : decode cX2_take 53 = .ok (.iconst 0, 1) := dk_3 (dk_at dksX2_take_2 7 rfl rfl)
theorem dX2_take_54 : decode cX2_take 54 = .ok (.aload_n 0, 1) := dk_42 (dk_at dksX2_take_2 8 rfl rfl)
theorem dX2_take_55 : decode cX2_take 55 = .ok (.getfield 21, 3) := dk_180 0 21 (dk_at dksX2_take_2 9 rfl rfl)
theorem dX2_take_58 : decode cX2_take 58 = .ok (.iconst 0, 1) := dk_3 (dk_at dksX2_take_2 12 rfl rfl)
theorem dX2_take_59 : decode cX2_take 59 = .ok (.aload_n 0, 1) := dk_42 (dk_at dksX2_take_2 13 rfl rfl)
theorem dX2_take_60 : decode cX2_take 60 = .ok (.getfield 47, 3) := dk_180 0 47 (dk_at dksX2_take_2 14 rfl rfl)
theorem dX2_take_63 : decode cX2_take 63 = .ok (.invokestatic 56, 3) := dk_184 0 56 (dk_at dksX2_take_2 17 rfl rfl)
theorem dX2_take_66 : decode cX2_take 66 = .ok (.aload_n 1, 1) := dk_43 (dk_at dksX2_take_2 20 rfl rfl)
theorem dX2_take_67 : decode cX2_take 67 = .ok (.getfield 25, 3) := dk_180 0 25 (dk_at dksX2_take_2 21 rfl rfl)
theorem dX2_take_70 : decode cX2_take 70 = .ok (.iconst 0, 1) := dk_3 (dk_at dksX2_take_3 0 rfl rfl)
theorem dX2_take_71 : decode cX2_take 71 = .ok (.aload_n 0, 1) := dk_42 (dk_at dksX2_take_3 1 rfl rfl)
theorem dX2_take_72 : decode cX2_take 72 = .ok (.getfield 25, 3) := dk_180 0 25 (dk_at dksX2_take_3 2 rfl rfl)
theorem dX2_take_75 : decode cX2_take 75 = .ok (.iconst 0, 1) := dk_3 (dk_at dksX2_take_3 5 rfl rfl)
theorem dX2_take_76 : decode cX2_take 76 = .ok (.aload_n 0, 1) := dk_42 (dk_at dksX2_take_3 6 rfl rfl)
theorem dX2_take_77 : decode cX2_take 77 = .ok (.getfield 47, 3) := dk_180 0 47 (dk_at dksX2_take_3 7 rfl rfl)
theorem dX2_take_80 : decode cX2_take 80 = .ok (.invokestatic 56, 3) := dk_184 0 56 (dk_at dksX2_take_3 10 rfl rfl)
theorem dX2_take_83 : decode cX2_take 83 = .ok (.aload_n 1, 1) := dk_43 (dk_at dksX2_take_3 13 rfl rfl)
theorem dX2_take_84 : decode cX2_take 84 = .ok (.getfield 28, 3) := dk_180 0 28 (dk_at dksX2_take_3 14 rfl rfl)
theorem dX2_take_87 : decode cX2_take 87 = .ok (.iconst 0, 1) := dk_3 (dk_at dksX2_take_3 17 rfl rfl)
theorem dX2_take_88 : decode cX2_take 88 = .ok (.aload_n 0, 1) := dk_42 (dk_at dksX2_take_3 18 rfl rfl)
theorem dX2_take_89 : decode cX2_take 89 = .ok (.getfield 28, 3) := dk_180 0 28 (dk_at dksX2_take_3 19 rfl rfl)
theorem dX2_take_92 : decode cX2_take 92 = .ok (.iconst 0, 1) := dk_3 (dk_at dksX2_take_3 22 rfl rfl)
theorem dX2_take_93 : decode cX2_take 93 = .ok (.aload_n 0, 1) := dk_42 (dk_at dksX2_take_3 23 rfl rfl)
theorem dX2_take_94 : decode cX2_take 94 = .ok (.getfield 47, 3) := dk_180 0 47 (dk_at dksX2_take_4 0 rfl rfl)
theorem dX2_take_97 : decode cX2_take 97 = .ok (.invokestatic 56, 3) := dk_184 0 56 (dk_at dksX2_take_4 3 rfl rfl)
theorem dX2_take_100 : decode cX2_take 100 = .ok (.aload_n 1, 1) := dk_43 (dk_at dksX2_take_4 6 rfl rfl)
theorem dX2_take_101 : decode cX2_take 101 = .ok (.getfield 31, 3) := dk_180 0 31 (dk_at dksX2_take_4 7 rfl rfl)
theorem dX2_take_104 : decode cX2_take 104 = .ok (.iconst 0, 1) := dk_3 (dk_at dksX2_take_4 10 rfl rfl)
theorem dX2_take_105 : decode cX2_take 105 = .ok (.aload_n 0, 1) := dk_42 (dk_at dksX2_take_4 11 rfl rfl)
theorem dX2_take_106 : decode cX2_take 106 = .ok (.getfield 31, 3) := dk_180 0 31 (dk_at dksX2_take_4 12 rfl rfl)
theorem dX2_take_109 : decode cX2_take 109 = .ok (.iconst 0, 1) := dk_3 (dk_at dksX2_take_4 15 rfl rfl)
theorem dX2_take_110 : decode cX2_take 110 = .ok (.aload_n 0, 1) := dk_42 (dk_at dksX2_take_4 16 rfl rfl)
theorem dX2_take_111 : decode cX2_take 111 = .ok (.getfield 47, 3) := dk_180 0 47 (dk_at dksX2_take_4 17 rfl rfl)
theorem dX2_take_114 : decode cX2_take 114 = .ok (.invokestatic 56, 3) := dk_184 0 56 (dk_at dksX2_take_4 20 rfl rfl)
theorem dX2_take_117 : decode cX2_take 117 = .ok (.aload_n 1, 1) := dk_43 (dk_at dksX2_take_4 23 rfl rfl)
theorem dX2_take_118 : decode cX2_take 118 = .ok (.getfield 36, 3) := dk_180 0 36 (dk_at dksX2_take_5 0 rfl rfl)
theorem dX2_take_121 : decode cX2_take 121 = .ok (.iconst 0, 1) := dk_3 (dk_at dksX2_take_5 3 rfl rfl)
theorem dX2_take_122 : decode cX2_take 122 = .ok (.aload_n 0, 1) := dk_42 (dk_at dksX2_take_5 4 rfl rfl)
theorem dX2_take_123 : decode cX2_take 123 = .ok (.getfield 36, 3) := dk_180 0 36 (dk_at dksX2_take_5 5 rfl rfl)
theorem dX2_take_126 : decode cX2_take 126 = .ok (.iconst 0, 1) := dk_3 (dk_at dksX2_take_5 8 rfl rfl)
theorem dX2_take_127 : decode cX2_take 127 = .ok (.aload_n 0, 1) := dk_42 (dk_at dksX2_take_5 9 rfl rfl)
theorem dX2_take_128 : decode cX2_take 128 = .ok (.getfield 50, 3) := dk_180 0 50 (dk_at dksX2_take_5 10 rfl rfl)
theorem dX2_take_131 : decode cX2_take 131 = .ok (.invokestatic 56, 3) := dk_184 0 56 (dk_at dksX2_take_5 13 rfl rfl)
theorem dX2_take_134 : decode cX2_take 134 = .ok (.aload_n 0, 1) := dk_42 (dk_at dksX2_take_5 16 rfl rfl)
theorem dX2_take_135 : decode cX2_take 135 = .ok (.getfield 43, 3) := dk_180 0 43 (dk_at dksX2_take_5 17 rfl rfl)
theorem dX2_take_138 : decode cX2_take 138 = .ok (.invokevirtual 62, 3) := dk_182 0 62 (dk_at dksX2_take_5 20 rfl rfl)
theorem dX2_take_141 : decode cX2_take 141 = .ok (.iconst 0, 1) := dk_3 (dk_at dksX2_take_5 23 rfl rfl)
theorem dX2_take_142 : decode cX2_take 142 = .ok (.istore_n 2, 1) := dk_61 (dk_at dksX2_take_6 0 rfl rfl)
theorem dX2_take_143 : decode cX2_take 143 = .ok (.iload_n 2, 1) := dk_28 (dk_at dksX2_take_6 1 rfl rfl)
theorem dX2_take_144 : decode cX2_take 144 = .ok (.aload_n 0, 1) := dk_42 (dk_at dksX2_take_6 2 rfl rfl)
theorem dX2_take_145 : decode cX2_take 145 = .ok (.getfield 47, 3) := dk_180 0 47 (dk_at dksX2_take_6 3 rfl rfl)
theorem dX2_take_148 : decode cX2_take 148 = .ok (.if_icmp .ge 40, 3) := dk_162 0 40 (dk_at dksX2_take_6 6 rfl rfl)
theorem dX2_take_151 : decode cX2_take 151 = .ok (.aload_n 0, 1) := dk_42 (dk_at dksX2_take_6 9 rfl rfl)
theorem dX2_take_152 : decode cX2_take 152 = .ok (.getfield 21, 3) := dk_180 0 21 (dk_at dksX2_take_6 10 rfl rfl)
theorem dX2_take_155 : decode cX2_take 155 = .ok (.iload_n 2, 1) := dk_28 (dk_at dksX2_take_6 13 rfl rfl)
theorem dX2_take_156 : decode cX2_take 156 = .ok (.iaload, 1) := dk_46 (dk_at dksX2_take_6 14 rfl rfl)
theorem dX2_take_157 : decode cX2_take 157 = .ok (.iconst 3, 1) := dk_6 (dk_at dksX2_take_6 15 rfl rfl)
theorem dX2_take_158 : decode cX2_take 158 = .ok (.if_icmp .eq 24, 3) := dk_159 0 24 (dk_at dksX2_take_6 16 rfl rfl)
theorem dX2_take_161 : decode cX2_take 161 = .ok (.aload_n 0, 1) := dk_42 (dk_at dksX2_take_6 19 rfl rfl)
theorem dX2_take_162 : decode cX2_take 162 = .ok (.getfield 43, 3) := dk_180 0 43 (dk_at dksX2_take_6 20 rfl rfl)
theorem dX2_take_165 : decode cX2_take 165 = .ok (.aload_n 0, 1) := dk_42 (dk_at dksX2_take_6 23 rfl rfl)
theorem dX2_take_166 : decode cX2_take 166 = .ok (.getfield 17, 3) := dk_180 0 17 (dk_at dksX2_take_7 0 rfl rfl)
theorem dX2_take_169 : decode cX2_take 169 = .ok (.iload_n 2, 1) := dk_28 (dk_at dksX2_take_7 3 rfl rfl)
theorem dX2_take_170 : decode cX2_take 170 = .ok (.aaload, 1) := dk_50 (dk_at dksX2_take_7 4 rfl rfl)
theorem dX2_take_171 : decode cX2_take 171 = .ok (.getfield 65, 3) := dk_180 0 65 (dk_at dksX2_take_7 5 rfl rfl)
theorem dX2_take_174 : decode cX2_take 174 = .ok (.iload_n 2, 1) := dk_28 (dk_at dksX2_take_7 8 rfl rfl)
theorem dX2_take_175 : decode cX2_take 175 = .ok (.invokestatic 69, 3) := dk_184 0 69 (dk_at dksX2_take_7 9 rfl rfl)
theorem dX2_take_178 : decode cX2_take 178 = .ok (.invokevirtual 75, 3) := dk_182 0 75 (dk_at dksX2_take_7 12 rfl rfl)
theorem dX2_take_181 : decode cX2_take 181 = .ok (.pop, 1) := dk_87 (dk_at dksX2_take_7 15 rfl rfl)
theorem dX2_take_182 : decode cX2_take 182 = .ok (.iinc 2 1, 3) := dk_132 2 1 (dk_at dksX2_take_7 16 rfl rfl)
theorem dX2_take_185 : decode cX2_take 185 = .ok (.goto (-42), 3) := dk_167 255 214 (dk_at dksX2_take_7 19 rfl rfl)
theorem dX2_take_188 : decode cX2_take 188 = .ok (.aload_n 0, 1) := dk_42 (dk_at dksX2_take_7 22 rfl rfl)
theorem dX2_take_189 : decode cX2_take 189 = .ok (.areturn, 1) := dk_176 (dk_at dksX2_take_7 23 rfl rfl)
abbrev cX2_runs : ByteArray := prog_16_method_4_code
def yX2_runs : MethodName := ⟨RX2, "runs", "(I)Z"⟩
def dkwX2_runs_0 : List UInt8 := [42, 180, 0, 21, 27, 46, 4, 160, 0, 7, 4, 167, 0, 4, 3, 172]
abbrev dktX2_runs_0 : List UInt8 := dkwX2_runs_0 ++ []
theorem dksX2_runs_0 : cX2_runs.data.toList.drop 0 = dktX2_runs_0 := by decide +kernel
theorem dX2_runs_0 : decode cX2_runs 0 = .ok (.aload_n 0, 1) := dk_42 (dk_at dksX2_runs_0 0 rfl rfl)
theorem dX2_runs_1 : decode cX2_runs 1 = .ok (.getfield 21, 3) := dk_180 0 21 (dk_at dksX2_runs_0 1 rfl rfl)
theorem dX2_runs_4 : decode cX2_runs 4 = .ok (.iload_n 1, 1) := dk_27 (dk_at dksX2_runs_0 4 rfl rfl)
theorem dX2_runs_5 : decode cX2_runs 5 = .ok (.iaload, 1) := dk_46 (dk_at dksX2_runs_0 5 rfl rfl)
theorem dX2_runs_6 : decode cX2_runs 6 = .ok (.iconst 1, 1) := dk_4 (dk_at dksX2_runs_0 6 rfl rfl)
theorem dX2_runs_7 : decode cX2_runs 7 = .ok (.if_icmp .ne 7, 3) := dk_160 0 7 (dk_at dksX2_runs_0 7 rfl rfl)
theorem dX2_runs_10 : decode cX2_runs 10 = .ok (.iconst 1, 1) := dk_4 (dk_at dksX2_runs_0 10 rfl rfl)
theorem dX2_runs_11 : decode cX2_runs 11 = .ok (.goto 4, 3) := dk_167 0 4 (dk_at dksX2_runs_0 11 rfl rfl)
theorem dX2_runs_14 : decode cX2_runs 14 = .ok (.iconst 0, 1) := dk_3 (dk_at dksX2_runs_0 14 rfl rfl)
theorem dX2_runs_15 : decode cX2_runs 15 = .ok (.ireturn, 1) := dk_172 (dk_at dksX2_runs_0 15 rfl rfl)
abbrev cX2_provider : ByteArray := prog_16_method_8_code
def yX2_provider : MethodName := ⟨RX2, "provider", "(II)I"⟩
def dkwX2_provider_3 : List UInt8 := [192, 0, 104, 58, 4, 25, 4, 199, 0, 7, 2, 167, 0, 8, 25, 4, 180, 0, 121, 172]
abbrev dktX2_provider_3 : List UInt8 := dkwX2_provider_3 ++ []
def dkwX2_provider_2 : List UInt8 := [42, 180, 0, 31, 21, 4, 46, 183, 0, 110, 182, 0, 113, 132, 4, 1, 167, 255, 203, 45, 182, 0, 117]
abbrev dktX2_provider_2 : List UInt8 := dkwX2_provider_2 ++ dktX2_provider_3
def dkwX2_provider_1 : List UInt8 := [28, 182, 0, 100, 153, 0, 33, 45, 187, 0, 104, 89, 21, 4, 42, 180, 0, 17, 21, 4, 50, 182, 0, 106]
abbrev dktX2_provider_1 : List UInt8 := dkwX2_provider_1 ++ dktX2_provider_2
def dkwX2_provider_0 : List UInt8 := [187, 0, 97, 89, 183, 0, 99, 78, 3, 54, 4, 21, 4, 42, 180, 0, 47, 162, 0, 50, 42, 21, 4, 27]
abbrev dktX2_provider_0 : List UInt8 := dkwX2_provider_0 ++ dktX2_provider_1
theorem dksX2_provider_0 : cX2_provider.data.toList.drop 0 = dktX2_provider_0 := by decide +kernel
theorem dksX2_provider_1 : cX2_provider.data.toList.drop 24 = dktX2_provider_1 := dk_seg dksX2_provider_0 24 rfl rfl
theorem dksX2_provider_2 : cX2_provider.data.toList.drop 48 = dktX2_provider_2 := dk_seg dksX2_provider_1 24 rfl rfl
theorem dksX2_provider_3 : cX2_provider.data.toList.drop 71 = dktX2_provider_3 := dk_seg dksX2_provider_2 23 rfl rfl
theorem dX2_provider_0 : decode cX2_provider 0 = .ok (.new 97, 3) := dk_187 0 97 (dk_at dksX2_provider_0 0 rfl rfl)
theorem dX2_provider_3 : decode cX2_provider 3 = .ok (.dup, 1) := dk_89 (dk_at dksX2_provider_0 3 rfl rfl)
theorem dX2_provider_4 : decode cX2_provider 4 = .ok (.invokespecial 99, 3) := dk_183 0 99 (dk_at dksX2_provider_0 4 rfl rfl)
theorem dX2_provider_7 : decode cX2_provider 7 = .ok (.astore_n 3, 1) := dk_78 (dk_at dksX2_provider_0 7 rfl rfl)
theorem dX2_provider_8 : decode cX2_provider 8 = .ok (.iconst 0, 1) := dk_3 (dk_at dksX2_provider_0 8 rfl rfl)
theorem dX2_provider_9 : decode cX2_provider 9 = .ok (.istore 4, 2) := dk_54 4 (dk_at dksX2_provider_0 9 rfl rfl)
theorem dX2_provider_11 : decode cX2_provider 11 = .ok (.iload 4, 2) := dk_21 4 (dk_at dksX2_provider_0 11 rfl rfl)
theorem dX2_provider_13 : decode cX2_provider 13 = .ok (.aload_n 0, 1) := dk_42 (dk_at dksX2_provider_0 13 rfl rfl)
theorem dX2_provider_14 : decode cX2_provider 14 = .ok (.getfield 47, 3) := dk_180 0 47 (dk_at dksX2_provider_0 14 rfl rfl)
theorem dX2_provider_17 : decode cX2_provider 17 = .ok (.if_icmp .ge 50, 3) := dk_162 0 50 (dk_at dksX2_provider_0 17 rfl rfl)
theorem dX2_provider_20 : decode cX2_provider 20 = .ok (.aload_n 0, 1) := dk_42 (dk_at dksX2_provider_0 20 rfl rfl)
theorem dX2_provider_21 : decode cX2_provider 21 = .ok (.iload 4, 2) := dk_21 4 (dk_at dksX2_provider_0 21 rfl rfl)
theorem dX2_provider_23 : decode cX2_provider 23 = .ok (.iload_n 1, 1) := dk_27 (dk_at dksX2_provider_0 23 rfl rfl)
theorem dX2_provider_24 : decode cX2_provider 24 = .ok (.iload_n 2, 1) := dk_28 (dk_at dksX2_provider_1 0 rfl rfl)
theorem dX2_provider_25 : decode cX2_provider 25 = .ok (.invokevirtual 100, 3) := dk_182 0 100 (dk_at dksX2_provider_1 1 rfl rfl)
theorem dX2_provider_28 : decode cX2_provider 28 = .ok (.ifCond .eq 33, 3) := dk_153 0 33 (dk_at dksX2_provider_1 4 rfl rfl)
theorem dX2_provider_31 : decode cX2_provider 31 = .ok (.aload_n 3, 1) := dk_45 (dk_at dksX2_provider_1 7 rfl rfl)
theorem dX2_provider_32 : decode cX2_provider 32 = .ok (.new 104, 3) := dk_187 0 104 (dk_at dksX2_provider_1 8 rfl rfl)
theorem dX2_provider_35 : decode cX2_provider 35 = .ok (.dup, 1) := dk_89 (dk_at dksX2_provider_1 11 rfl rfl)
theorem dX2_provider_36 : decode cX2_provider 36 = .ok (.iload 4, 2) := dk_21 4 (dk_at dksX2_provider_1 12 rfl rfl)
theorem dX2_provider_38 : decode cX2_provider 38 = .ok (.aload_n 0, 1) := dk_42 (dk_at dksX2_provider_1 14 rfl rfl)
theorem dX2_provider_39 : decode cX2_provider 39 = .ok (.getfield 17, 3) := dk_180 0 17 (dk_at dksX2_provider_1 15 rfl rfl)
theorem dX2_provider_42 : decode cX2_provider 42 = .ok (.iload 4, 2) := dk_21 4 (dk_at dksX2_provider_1 18 rfl rfl)
theorem dX2_provider_44 : decode cX2_provider 44 = .ok (.aaload, 1) := dk_50 (dk_at dksX2_provider_1 20 rfl rfl)
theorem dX2_provider_45 : decode cX2_provider 45 = .ok (.invokevirtual 106, 3) := dk_182 0 106 (dk_at dksX2_provider_1 21 rfl rfl)
theorem dX2_provider_48 : decode cX2_provider 48 = .ok (.aload_n 0, 1) := dk_42 (dk_at dksX2_provider_2 0 rfl rfl)
theorem dX2_provider_49 : decode cX2_provider 49 = .ok (.getfield 31, 3) := dk_180 0 31 (dk_at dksX2_provider_2 1 rfl rfl)
theorem dX2_provider_52 : decode cX2_provider 52 = .ok (.iload 4, 2) := dk_21 4 (dk_at dksX2_provider_2 4 rfl rfl)
theorem dX2_provider_54 : decode cX2_provider 54 = .ok (.iaload, 1) := dk_46 (dk_at dksX2_provider_2 6 rfl rfl)
theorem dX2_provider_55 : decode cX2_provider 55 = .ok (.invokespecial 110, 3) := dk_183 0 110 (dk_at dksX2_provider_2 7 rfl rfl)
theorem dX2_provider_58 : decode cX2_provider 58 = .ok (.invokevirtual 113, 3) := dk_182 0 113 (dk_at dksX2_provider_2 10 rfl rfl)
theorem dX2_provider_61 : decode cX2_provider 61 = .ok (.iinc 4 1, 3) := dk_132 4 1 (dk_at dksX2_provider_2 13 rfl rfl)
theorem dX2_provider_64 : decode cX2_provider 64 = .ok (.goto (-53), 3) := dk_167 255 203 (dk_at dksX2_provider_2 16 rfl rfl)
theorem dX2_provider_67 : decode cX2_provider 67 = .ok (.aload_n 3, 1) := dk_45 (dk_at dksX2_provider_2 19 rfl rfl)
theorem dX2_provider_68 : decode cX2_provider 68 = .ok (.invokevirtual 117, 3) := dk_182 0 117 (dk_at dksX2_provider_2 20 rfl rfl)
theorem dX2_provider_71 : decode cX2_provider 71 = .ok (.checkcast 104, 3) := dk_192 0 104 (dk_at dksX2_provider_3 0 rfl rfl)
theorem dX2_provider_74 : decode cX2_provider 74 = .ok (.astore 4, 2) := dk_58 4 (dk_at dksX2_provider_3 3 rfl rfl)
theorem dX2_provider_76 : decode cX2_provider 76 = .ok (.aload 4, 2) := dk_25 4 (dk_at dksX2_provider_3 5 rfl rfl)
theorem dX2_provider_78 : decode cX2_provider 78 = .ok (.ifnonnull 7, 3) := dk_199 0 7 (dk_at dksX2_provider_3 7 rfl rfl)
theorem dX2_provider_81 : decode cX2_provider 81 = .ok (.iconst (-1), 1) := dk_2 (dk_at dksX2_provider_3 10 rfl rfl)
theorem dX2_provider_82 : decode cX2_provider 82 = .ok (.goto 8, 3) := dk_167 0 8 (dk_at dksX2_provider_3 11 rfl rfl)
theorem dX2_provider_85 : decode cX2_provider 85 = .ok (.aload 4, 2) := dk_25 4 (dk_at dksX2_provider_3 14 rfl rfl)
theorem dX2_provider_87 : decode cX2_provider 87 = .ok (.getfield 121, 3) := dk_180 0 121 (dk_at dksX2_provider_3 16 rfl rfl)
theorem dX2_provider_90 : decode cX2_provider 90 = .ok (.ireturn, 1) := dk_172 (dk_at dksX2_provider_3 19 rfl rfl)
abbrev cX2_serves : ByteArray := prog_16_method_7_code
def yX2_serves : MethodName := ⟨RX2, "serves", "(III)Z"⟩
def dkwX2_serves_2 : List UInt8 := [167, 0, 4, 3, 172]
abbrev dktX2_serves_2 : List UInt8 := dkwX2_serves_2 ++ []
def dkwX2_serves_1 : List UInt8 := [184, 0, 90, 153, 0, 24, 42, 28, 182, 0, 83, 153, 0, 12, 42, 27, 28, 182, 0, 94, 153, 0, 7, 4]
abbrev dktX2_serves_1 : List UInt8 := dkwX2_serves_1 ++ dktX2_serves_2
def dkwX2_serves_0 : List UInt8 := [27, 28, 159, 0, 48, 42, 27, 182, 0, 83, 153, 0, 40, 42, 180, 0, 17, 27, 50, 180, 0, 87, 29]
abbrev dktX2_serves_0 : List UInt8 := dkwX2_serves_0 ++ dktX2_serves_1
theorem dksX2_serves_0 : cX2_serves.data.toList.drop 0 = dktX2_serves_0 := by decide +kernel
theorem dksX2_serves_1 : cX2_serves.data.toList.drop 23 = dktX2_serves_1 := dk_seg dksX2_serves_0 23 rfl rfl
theorem dksX2_serves_2 : cX2_serves.data.toList.drop 47 = dktX2_serves_2 := dk_seg dksX2_serves_1 24 rfl rfl
theorem dX2_serves_0 : decode cX2_serves 0 = .ok (.iload_n 1, 1) := dk_27 (dk_at dksX2_serves_0 0 rfl rfl)
theorem dX2_serves_1 : decode cX2_serves 1 = .ok (.iload_n 2, 1) := dk_28 (dk_at dksX2_serves_0 1 rfl rfl)
theorem dX2_serves_2 : decode cX2_serves 2 = .ok (.if_icmp .eq 48, 3) := dk_159 0 48 (dk_at dksX2_serves_0 2 rfl rfl)
theorem dX2_serves_5 : decode cX2_serves 5 = .ok (.aload_n 0, 1) := dk_42 (dk_at dksX2_serves_0 5 rfl rfl)
theorem dX2_serves_6 : decode cX2_serves 6 = .ok (.iload_n 1, 1) := dk_27 (dk_at dksX2_serves_0 6 rfl rfl)
theorem dX2_serves_7 : decode cX2_serves 7 = .ok (.invokevirtual 83, 3) := dk_182 0 83 (dk_at dksX2_serves_0 7 rfl rfl)
theorem dX2_serves_10 : decode cX2_serves 10 = .ok (.ifCond .eq 40, 3) := dk_153 0 40 (dk_at dksX2_serves_0 10 rfl rfl)
theorem dX2_serves_13 : decode cX2_serves 13 = .ok (.aload_n 0, 1) := dk_42 (dk_at dksX2_serves_0 13 rfl rfl)
theorem dX2_serves_14 : decode cX2_serves 14 = .ok (.getfield 17, 3) := dk_180 0 17 (dk_at dksX2_serves_0 14 rfl rfl)
theorem dX2_serves_17 : decode cX2_serves 17 = .ok (.iload_n 1, 1) := dk_27 (dk_at dksX2_serves_0 17 rfl rfl)
theorem dX2_serves_18 : decode cX2_serves 18 = .ok (.aaload, 1) := dk_50 (dk_at dksX2_serves_0 18 rfl rfl)
theorem dX2_serves_19 : decode cX2_serves 19 = .ok (.getfield 87, 3) := dk_180 0 87 (dk_at dksX2_serves_0 19 rfl rfl)
theorem dX2_serves_22 : decode cX2_serves 22 = .ok (.iload_n 3, 1) := dk_29 (dk_at dksX2_serves_0 22 rfl rfl)
theorem dX2_serves_23 : decode cX2_serves 23 = .ok (.invokestatic 90, 3) := dk_184 0 90 (dk_at dksX2_serves_1 0 rfl rfl)
theorem dX2_serves_26 : decode cX2_serves 26 = .ok (.ifCond .eq 24, 3) := dk_153 0 24 (dk_at dksX2_serves_1 3 rfl rfl)
theorem dX2_serves_29 : decode cX2_serves 29 = .ok (.aload_n 0, 1) := dk_42 (dk_at dksX2_serves_1 6 rfl rfl)
theorem dX2_serves_30 : decode cX2_serves 30 = .ok (.iload_n 2, 1) := dk_28 (dk_at dksX2_serves_1 7 rfl rfl)
theorem dX2_serves_31 : decode cX2_serves 31 = .ok (.invokevirtual 83, 3) := dk_182 0 83 (dk_at dksX2_serves_1 8 rfl rfl)
theorem dX2_serves_34 : decode cX2_serves 34 = .ok (.ifCond .eq 12, 3) := dk_153 0 12 (dk_at dksX2_serves_1 11 rfl rfl)
theorem dX2_serves_37 : decode cX2_serves 37 = .ok (.aload_n 0, 1) := dk_42 (dk_at dksX2_serves_1 14 rfl rfl)
theorem dX2_serves_38 : decode cX2_serves 38 = .ok (.iload_n 1, 1) := dk_27 (dk_at dksX2_serves_1 15 rfl rfl)
theorem dX2_serves_39 : decode cX2_serves 39 = .ok (.iload_n 2, 1) := dk_28 (dk_at dksX2_serves_1 16 rfl rfl)
theorem dX2_serves_40 : decode cX2_serves 40 = .ok (.invokevirtual 94, 3) := dk_182 0 94 (dk_at dksX2_serves_1 17 rfl rfl)
theorem dX2_serves_43 : decode cX2_serves 43 = .ok (.ifCond .eq 7, 3) := dk_153 0 7 (dk_at dksX2_serves_1 20 rfl rfl)
theorem dX2_serves_46 : decode cX2_serves 46 = .ok (.iconst 1, 1) := dk_4 (dk_at dksX2_serves_1 23 rfl rfl)
theorem dX2_serves_47 : decode cX2_serves 47 = .ok (.goto 4, 3) := dk_167 0 4 (dk_at dksX2_serves_2 0 rfl rfl)
theorem dX2_serves_50 : decode cX2_serves 50 = .ok (.iconst 0, 1) := dk_3 (dk_at dksX2_serves_2 3 rfl rfl)
theorem dX2_serves_51 : decode cX2_serves 51 = .ok (.ireturn, 1) := dk_172 (dk_at dksX2_serves_2 4 rfl rfl)
abbrev cX2_isOlder : ByteArray := prog_16_method_6_code
def yX2_isOlder : MethodName := ⟨RX2, "isOlder", "(II)Z"⟩
def dkwX2_isOlder_0 : List UInt8 := [42, 180, 0, 31, 27, 46, 42, 180, 0, 31, 28, 46, 162, 0, 7, 4, 167, 0, 4, 3, 172]
abbrev dktX2_isOlder_0 : List UInt8 := dkwX2_isOlder_0 ++ []
theorem dksX2_isOlder_0 : cX2_isOlder.data.toList.drop 0 = dktX2_isOlder_0 := by decide +kernel
theorem dX2_isOlder_0 : decode cX2_isOlder 0 = .ok (.aload_n 0, 1) := dk_42 (dk_at dksX2_isOlder_0 0 rfl rfl)
theorem dX2_isOlder_1 : decode cX2_isOlder 1 = .ok (.getfield 31, 3) := dk_180 0 31 (dk_at dksX2_isOlder_0 1 rfl rfl)
theorem dX2_isOlder_4 : decode cX2_isOlder 4 = .ok (.iload_n 1, 1) := dk_27 (dk_at dksX2_isOlder_0 4 rfl rfl)
theorem dX2_isOlder_5 : decode cX2_isOlder 5 = .ok (.iaload, 1) := dk_46 (dk_at dksX2_isOlder_0 5 rfl rfl)
theorem dX2_isOlder_6 : decode cX2_isOlder 6 = .ok (.aload_n 0, 1) := dk_42 (dk_at dksX2_isOlder_0 6 rfl rfl)
theorem dX2_isOlder_7 : decode cX2_isOlder 7 = .ok (.getfield 31, 3) := dk_180 0 31 (dk_at dksX2_isOlder_0 7 rfl rfl)
theorem dX2_isOlder_10 : decode cX2_isOlder 10 = .ok (.iload_n 2, 1) := dk_28 (dk_at dksX2_isOlder_0 10 rfl rfl)
theorem dX2_isOlder_11 : decode cX2_isOlder 11 = .ok (.iaload, 1) := dk_46 (dk_at dksX2_isOlder_0 11 rfl rfl)
theorem dX2_isOlder_12 : decode cX2_isOlder 12 = .ok (.if_icmp .ge 7, 3) := dk_162 0 7 (dk_at dksX2_isOlder_0 12 rfl rfl)
theorem dX2_isOlder_15 : decode cX2_isOlder 15 = .ok (.iconst 1, 1) := dk_4 (dk_at dksX2_isOlder_0 15 rfl rfl)
theorem dX2_isOlder_16 : decode cX2_isOlder 16 = .ok (.goto 4, 3) := dk_167 0 4 (dk_at dksX2_isOlder_0 16 rfl rfl)
theorem dX2_isOlder_19 : decode cX2_isOlder 19 = .ok (.iconst 0, 1) := dk_3 (dk_at dksX2_isOlder_0 19 rfl rfl)
theorem dX2_isOlder_20 : decode cX2_isOlder 20 = .ok (.ireturn, 1) := dk_172 (dk_at dksX2_isOlder_0 20 rfl rfl)
abbrev cX2_candidate : ByteArray := prog_16_method_9_code
def yX2_candidate : MethodName := ⟨RX2, "candidate", "(II)I"⟩
def dkwX2_candidate_4 : List UInt8 := [192, 0, 15, 180, 0, 144, 172]
abbrev dktX2_candidate_4 : List UInt8 := dkwX2_candidate_4 ++ []
def dkwX2_candidate_3 : List UInt8 := [87, 132, 4, 1, 167, 255, 199, 45, 182, 0, 136, 153, 0, 7, 2, 167, 0, 13, 45, 182, 0, 140]
abbrev dktX2_candidate_3 : List UInt8 := dkwX2_candidate_3 ++ dktX2_candidate_4
def dkwX2_candidate_2 : List UInt8 := [21, 4, 50, 180, 0, 87, 28, 184, 0, 90, 153, 0, 15, 45, 42, 180, 0, 17, 21, 4, 50, 182, 0, 132]
abbrev dktX2_candidate_2 : List UInt8 := dkwX2_candidate_2 ++ dktX2_candidate_3
def dkwX2_candidate_1 : List UInt8 := [162, 0, 54, 21, 4, 27, 159, 0, 42, 42, 180, 0, 21, 21, 4, 46, 154, 0, 32, 42, 180, 0, 17]
abbrev dktX2_candidate_1 : List UInt8 := dkwX2_candidate_1 ++ dktX2_candidate_2
def dkwX2_candidate_0 : List UInt8 := [187, 0, 124, 89, 187, 0, 126, 89, 183, 0, 128, 183, 0, 129, 78, 3, 54, 4, 21, 4, 42, 180, 0, 47]
abbrev dktX2_candidate_0 : List UInt8 := dkwX2_candidate_0 ++ dktX2_candidate_1
theorem dksX2_candidate_0 : cX2_candidate.data.toList.drop 0 = dktX2_candidate_0 := by decide +kernel
theorem dksX2_candidate_1 : cX2_candidate.data.toList.drop 24 = dktX2_candidate_1 := dk_seg dksX2_candidate_0 24 rfl rfl
theorem dksX2_candidate_2 : cX2_candidate.data.toList.drop 47 = dktX2_candidate_2 := dk_seg dksX2_candidate_1 23 rfl rfl
theorem dksX2_candidate_3 : cX2_candidate.data.toList.drop 71 = dktX2_candidate_3 := dk_seg dksX2_candidate_2 24 rfl rfl
theorem dksX2_candidate_4 : cX2_candidate.data.toList.drop 93 = dktX2_candidate_4 := dk_seg dksX2_candidate_3 22 rfl rfl
theorem dX2_candidate_0 : decode cX2_candidate 0 = .ok (.new 124, 3) := dk_187 0 124 (dk_at dksX2_candidate_0 0 rfl rfl)
theorem dX2_candidate_3 : decode cX2_candidate 3 = .ok (.dup, 1) := dk_89 (dk_at dksX2_candidate_0 3 rfl rfl)
theorem dX2_candidate_4 : decode cX2_candidate 4 = .ok (.new 126, 3) := dk_187 0 126 (dk_at dksX2_candidate_0 4 rfl rfl)
theorem dX2_candidate_7 : decode cX2_candidate 7 = .ok (.dup, 1) := dk_89 (dk_at dksX2_candidate_0 7 rfl rfl)
theorem dX2_candidate_8 : decode cX2_candidate 8 = .ok (.invokespecial 128, 3) := dk_183 0 128 (dk_at dksX2_candidate_0 8 rfl rfl)
theorem dX2_candidate_11 : decode cX2_candidate 11 = .ok (.invokespecial 129, 3) := dk_183 0 129 (dk_at dksX2_candidate_0 11 rfl rfl)
theorem dX2_candidate_14 : decode cX2_candidate 14 = .ok (.astore_n 3, 1) := dk_78 (dk_at dksX2_candidate_0 14 rfl rfl)
theorem dX2_candidate_15 : decode cX2_candidate 15 = .ok (.iconst 0, 1) := dk_3 (dk_at dksX2_candidate_0 15 rfl rfl)
theorem dX2_candidate_16 : decode cX2_candidate 16 = .ok (.istore 4, 2) := dk_54 4 (dk_at dksX2_candidate_0 16 rfl rfl)
theorem dX2_candidate_18 : decode cX2_candidate 18 = .ok (.iload 4, 2) := dk_21 4 (dk_at dksX2_candidate_0 18 rfl rfl)
theorem dX2_candidate_20 : decode cX2_candidate 20 = .ok (.aload_n 0, 1) := dk_42 (dk_at dksX2_candidate_0 20 rfl rfl)
theorem dX2_candidate_21 : decode cX2_candidate 21 = .ok (.getfield 47, 3) := dk_180 0 47 (dk_at dksX2_candidate_0 21 rfl rfl)
theorem dX2_candidate_24 : decode cX2_candidate 24 = .ok (.if_icmp .ge 54, 3) := dk_162 0 54 (dk_at dksX2_candidate_1 0 rfl rfl)
theorem dX2_candidate_27 : decode cX2_candidate 27 = .ok (.iload 4, 2) := dk_21 4 (dk_at dksX2_candidate_1 3 rfl rfl)
theorem dX2_candidate_29 : decode cX2_candidate 29 = .ok (.iload_n 1, 1) := dk_27 (dk_at dksX2_candidate_1 5 rfl rfl)
theorem dX2_candidate_30 : decode cX2_candidate 30 = .ok (.if_icmp .eq 42, 3) := dk_159 0 42 (dk_at dksX2_candidate_1 6 rfl rfl)
theorem dX2_candidate_33 : decode cX2_candidate 33 = .ok (.aload_n 0, 1) := dk_42 (dk_at dksX2_candidate_1 9 rfl rfl)
theorem dX2_candidate_34 : decode cX2_candidate 34 = .ok (.getfield 21, 3) := dk_180 0 21 (dk_at dksX2_candidate_1 10 rfl rfl)
theorem dX2_candidate_37 : decode cX2_candidate 37 = .ok (.iload 4, 2) := dk_21 4 (dk_at dksX2_candidate_1 13 rfl rfl)
theorem dX2_candidate_39 : decode cX2_candidate 39 = .ok (.iaload, 1) := dk_46 (dk_at dksX2_candidate_1 15 rfl rfl)
theorem dX2_candidate_40 : decode cX2_candidate 40 = .ok (.ifCond .ne 32, 3) := dk_154 0 32 (dk_at dksX2_candidate_1 16 rfl rfl)
theorem dX2_candidate_43 : decode cX2_candidate 43 = .ok (.aload_n 0, 1) := dk_42 (dk_at dksX2_candidate_1 19 rfl rfl)
theorem dX2_candidate_44 : decode cX2_candidate 44 = .ok (.getfield 17, 3) := dk_180 0 17 (dk_at dksX2_candidate_1 20 rfl rfl)
theorem dX2_candidate_47 : decode cX2_candidate 47 = .ok (.iload 4, 2) := dk_21 4 (dk_at dksX2_candidate_2 0 rfl rfl)
theorem dX2_candidate_49 : decode cX2_candidate 49 = .ok (.aaload, 1) := dk_50 (dk_at dksX2_candidate_2 2 rfl rfl)
theorem dX2_candidate_50 : decode cX2_candidate 50 = .ok (.getfield 87, 3) := dk_180 0 87 (dk_at dksX2_candidate_2 3 rfl rfl)
theorem dX2_candidate_53 : decode cX2_candidate 53 = .ok (.iload_n 2, 1) := dk_28 (dk_at dksX2_candidate_2 6 rfl rfl)
theorem dX2_candidate_54 : decode cX2_candidate 54 = .ok (.invokestatic 90, 3) := dk_184 0 90 (dk_at dksX2_candidate_2 7 rfl rfl)
theorem dX2_candidate_57 : decode cX2_candidate 57 = .ok (.ifCond .eq 15, 3) := dk_153 0 15 (dk_at dksX2_candidate_2 10 rfl rfl)
theorem dX2_candidate_60 : decode cX2_candidate 60 = .ok (.aload_n 3, 1) := dk_45 (dk_at dksX2_candidate_2 13 rfl rfl)
theorem dX2_candidate_61 : decode cX2_candidate 61 = .ok (.aload_n 0, 1) := dk_42 (dk_at dksX2_candidate_2 14 rfl rfl)
theorem dX2_candidate_62 : decode cX2_candidate 62 = .ok (.getfield 17, 3) := dk_180 0 17 (dk_at dksX2_candidate_2 15 rfl rfl)
theorem dX2_candidate_65 : decode cX2_candidate 65 = .ok (.iload 4, 2) := dk_21 4 (dk_at dksX2_candidate_2 18 rfl rfl)
theorem dX2_candidate_67 : decode cX2_candidate 67 = .ok (.aaload, 1) := dk_50 (dk_at dksX2_candidate_2 20 rfl rfl)
theorem dX2_candidate_68 : decode cX2_candidate 68 = .ok (.invokevirtual 132, 3) := dk_182 0 132 (dk_at dksX2_candidate_2 21 rfl rfl)
theorem dX2_candidate_71 : decode cX2_candidate 71 = .ok (.pop, 1) := dk_87 (dk_at dksX2_candidate_3 0 rfl rfl)
theorem dX2_candidate_72 : decode cX2_candidate 72 = .ok (.iinc 4 1, 3) := dk_132 4 1 (dk_at dksX2_candidate_3 1 rfl rfl)
theorem dX2_candidate_75 : decode cX2_candidate 75 = .ok (.goto (-57), 3) := dk_167 255 199 (dk_at dksX2_candidate_3 4 rfl rfl)
theorem dX2_candidate_78 : decode cX2_candidate 78 = .ok (.aload_n 3, 1) := dk_45 (dk_at dksX2_candidate_3 7 rfl rfl)
theorem dX2_candidate_79 : decode cX2_candidate 79 = .ok (.invokevirtual 136, 3) := dk_182 0 136 (dk_at dksX2_candidate_3 8 rfl rfl)
theorem dX2_candidate_82 : decode cX2_candidate 82 = .ok (.ifCond .eq 7, 3) := dk_153 0 7 (dk_at dksX2_candidate_3 11 rfl rfl)
theorem dX2_candidate_85 : decode cX2_candidate 85 = .ok (.iconst (-1), 1) := dk_2 (dk_at dksX2_candidate_3 14 rfl rfl)
theorem dX2_candidate_86 : decode cX2_candidate 86 = .ok (.goto 13, 3) := dk_167 0 13 (dk_at dksX2_candidate_3 15 rfl rfl)
theorem dX2_candidate_89 : decode cX2_candidate 89 = .ok (.aload_n 3, 1) := dk_45 (dk_at dksX2_candidate_3 18 rfl rfl)
theorem dX2_candidate_90 : decode cX2_candidate 90 = .ok (.invokevirtual 140, 3) := dk_182 0 140 (dk_at dksX2_candidate_3 19 rfl rfl)
theorem dX2_candidate_93 : decode cX2_candidate 93 = .ok (.checkcast 15, 3) := dk_192 0 15 (dk_at dksX2_candidate_4 0 rfl rfl)
theorem dX2_candidate_96 : decode cX2_candidate 96 = .ok (.getfield 144, 3) := dk_180 0 144 (dk_at dksX2_candidate_4 3 rfl rfl)
theorem dX2_candidate_99 : decode cX2_candidate 99 = .ok (.ireturn, 1) := dk_172 (dk_at dksX2_candidate_4 6 rfl rfl)
abbrev cX2_stop : ByteArray := prog_16_method_10_code
def yX2_stop : MethodName := ⟨RX2, "stop", "(ILPluginChains$Log;)V"⟩
def dkwX2_stop_0 : List UInt8 := [42, 180, 0, 21, 27, 3, 79, 44, 17, 0, 200, 27, 96, 182, 0, 145, 177]
abbrev dktX2_stop_0 : List UInt8 := dkwX2_stop_0 ++ []
theorem dksX2_stop_0 : cX2_stop.data.toList.drop 0 = dktX2_stop_0 := by decide +kernel
theorem dX2_stop_0 : decode cX2_stop 0 = .ok (.aload_n 0, 1) := dk_42 (dk_at dksX2_stop_0 0 rfl rfl)
theorem dX2_stop_1 : decode cX2_stop 1 = .ok (.getfield 21, 3) := dk_180 0 21 (dk_at dksX2_stop_0 1 rfl rfl)
theorem dX2_stop_4 : decode cX2_stop 4 = .ok (.iload_n 1, 1) := dk_27 (dk_at dksX2_stop_0 4 rfl rfl)
theorem dX2_stop_5 : decode cX2_stop 5 = .ok (.iconst 0, 1) := dk_3 (dk_at dksX2_stop_0 5 rfl rfl)
theorem dX2_stop_6 : decode cX2_stop 6 = .ok (.iastore, 1) := dk_79 (dk_at dksX2_stop_0 6 rfl rfl)
theorem dX2_stop_7 : decode cX2_stop 7 = .ok (.aload_n 2, 1) := dk_44 (dk_at dksX2_stop_0 7 rfl rfl)
theorem dX2_stop_8 : decode cX2_stop 8 = .ok (.sipush 200, 3) := dk_17 0 200 (dk_at dksX2_stop_0 8 rfl rfl)
theorem dX2_stop_11 : decode cX2_stop 11 = .ok (.iload_n 1, 1) := dk_27 (dk_at dksX2_stop_0 11 rfl rfl)
theorem dX2_stop_12 : decode cX2_stop 12 = .ok (.iadd, 1) := dk_96 (dk_at dksX2_stop_0 12 rfl rfl)
theorem dX2_stop_13 : decode cX2_stop 13 = .ok (.invokevirtual 145, 3) := dk_182 0 145 (dk_at dksX2_stop_0 13 rfl rfl)
theorem dX2_stop_16 : decode cX2_stop 16 = .ok (.return_, 1) := dk_177 (dk_at dksX2_stop_0 16 rfl rfl)
abbrev cX2_waves : ByteArray := prog_16_method_12_code
def yX2_waves : MethodName := ⟨RX2, "waves", "(I)[I"⟩
def dkwX2_waves_6 : List UInt8 := [132, 4, 1, 167, 255, 147, 44, 176]
abbrev dktX2_waves_6 : List UInt8 := dkwX2_waves_6 ++ []
def dkwX2_waves_5 : List UInt8 := [185, 0, 178, 1, 0, 192, 0, 70, 182, 0, 181, 54, 6, 44, 21, 6, 21, 4, 79, 167, 255, 225]
abbrev dktX2_waves_5 : List UInt8 := dkwX2_waves_5 ++ dktX2_waves_6
def dkwX2_waves_4 : List UInt8 := [132, 5, 1, 167, 255, 207, 45, 182, 0, 169, 58, 5, 25, 5, 185, 0, 173, 1, 0, 153, 0, 27, 25, 5]
abbrev dktX2_waves_4 : List UInt8 := dkwX2_waves_4 ++ dktX2_waves_5
def dkwX2_waves_3 : List UInt8 := [160, 0, 23, 42, 21, 5, 44, 182, 0, 165, 153, 0, 13, 45, 21, 5, 184, 0, 69, 182, 0, 162, 87]
abbrev dktX2_waves_3 : List UInt8 := dkwX2_waves_3 ++ dktX2_waves_4
def dkwX2_waves_2 : List UInt8 := [21, 5, 42, 180, 0, 47, 162, 0, 46, 42, 21, 5, 182, 0, 83, 153, 0, 31, 44, 21, 5, 46, 2]
abbrev dktX2_waves_2 : List UInt8 := dkwX2_waves_2 ++ dktX2_waves_3
def dkwX2_waves_1 : List UInt8 := [184, 0, 69, 182, 0, 162, 87, 4, 54, 4, 45, 182, 0, 163, 154, 0, 108, 45, 182, 0, 164, 3, 54, 5]
abbrev dktX2_waves_1 : List UInt8 := dkwX2_waves_1 ++ dktX2_waves_2
def dkwX2_waves_0 : List UInt8 := [16, 12, 188, 10, 77, 44, 2, 184, 0, 153, 44, 27, 3, 79, 187, 0, 159, 89, 183, 0, 161, 78, 45, 27]
abbrev dktX2_waves_0 : List UInt8 := dkwX2_waves_0 ++ dktX2_waves_1
theorem dksX2_waves_0 : cX2_waves.data.toList.drop 0 = dktX2_waves_0 := by decide +kernel
theorem dksX2_waves_1 : cX2_waves.data.toList.drop 24 = dktX2_waves_1 := dk_seg dksX2_waves_0 24 rfl rfl
theorem dksX2_waves_2 : cX2_waves.data.toList.drop 48 = dktX2_waves_2 := dk_seg dksX2_waves_1 24 rfl rfl
theorem dksX2_waves_3 : cX2_waves.data.toList.drop 71 = dktX2_waves_3 := dk_seg dksX2_waves_2 23 rfl rfl
theorem dksX2_waves_4 : cX2_waves.data.toList.drop 94 = dktX2_waves_4 := dk_seg dksX2_waves_3 23 rfl rfl
theorem dksX2_waves_5 : cX2_waves.data.toList.drop 118 = dktX2_waves_5 := dk_seg dksX2_waves_4 24 rfl rfl
theorem dksX2_waves_6 : cX2_waves.data.toList.drop 140 = dktX2_waves_6 := dk_seg dksX2_waves_5 22 rfl rfl
theorem dX2_waves_0 : decode cX2_waves 0 = .ok (.bipush 12, 2) := dk_16 12 (dk_at dksX2_waves_0 0 rfl rfl)
theorem dX2_waves_2 : decode cX2_waves 2 = .ok (.newarray .int, 2) := dk_188_10 (dk_at dksX2_waves_0 2 rfl rfl)
theorem dX2_waves_4 : decode cX2_waves 4 = .ok (.astore_n 2, 1) := dk_77 (dk_at dksX2_waves_0 4 rfl rfl)
theorem dX2_waves_5 : decode cX2_waves 5 = .ok (.aload_n 2, 1) := dk_44 (dk_at dksX2_waves_0 5 rfl rfl)
theorem dX2_waves_6 : decode cX2_waves 6 = .ok (.iconst (-1), 1) := dk_2 (dk_at dksX2_waves_0 6 rfl rfl)
theorem dX2_waves_7 : decode cX2_waves 7 = .ok (.invokestatic 153, 3) := dk_184 0 153 (dk_at dksX2_waves_0 7 rfl rfl)
theorem dX2_waves_10 : decode cX2_waves 10 = .ok (.aload_n 2, 1) := dk_44 (dk_at dksX2_waves_0 10 rfl rfl)
theorem dX2_waves_11 : decode cX2_waves 11 = .ok (.iload_n 1, 1) := dk_27 (dk_at dksX2_waves_0 11 rfl rfl)
theorem dX2_waves_12 : decode cX2_waves 12 = .ok (.iconst 0, 1) := dk_3 (dk_at dksX2_waves_0 12 rfl rfl)
theorem dX2_waves_13 : decode cX2_waves 13 = .ok (.iastore, 1) := dk_79 (dk_at dksX2_waves_0 13 rfl rfl)
theorem dX2_waves_14 : decode cX2_waves 14 = .ok (.new 159, 3) := dk_187 0 159 (dk_at dksX2_waves_0 14 rfl rfl)
theorem dX2_waves_17 : decode cX2_waves 17 = .ok (.dup, 1) := dk_89 (dk_at dksX2_waves_0 17 rfl rfl)
theorem dX2_waves_18 : decode cX2_waves 18 = .ok (.invokespecial 161, 3) := dk_183 0 161 (dk_at dksX2_waves_0 18 rfl rfl)
theorem dX2_waves_21 : decode cX2_waves 21 = .ok (.astore_n 3, 1) := dk_78 (dk_at dksX2_waves_0 21 rfl rfl)
theorem dX2_waves_22 : decode cX2_waves 22 = .ok (.aload_n 3, 1) := dk_45 (dk_at dksX2_waves_0 22 rfl rfl)
theorem dX2_waves_23 : decode cX2_waves 23 = .ok (.iload_n 1, 1) := dk_27 (dk_at dksX2_waves_0 23 rfl rfl)
theorem dX2_waves_24 : decode cX2_waves 24 = .ok (.invokestatic 69, 3) := dk_184 0 69 (dk_at dksX2_waves_1 0 rfl rfl)
theorem dX2_waves_27 : decode cX2_waves 27 = .ok (.invokevirtual 162, 3) := dk_182 0 162 (dk_at dksX2_waves_1 3 rfl rfl)
theorem dX2_waves_30 : decode cX2_waves 30 = .ok (.pop, 1) := dk_87 (dk_at dksX2_waves_1 6 rfl rfl)
theorem dX2_waves_31 : decode cX2_waves 31 = .ok (.iconst 1, 1) := dk_4 (dk_at dksX2_waves_1 7 rfl rfl)
theorem dX2_waves_32 : decode cX2_waves 32 = .ok (.istore 4, 2) := dk_54 4 (dk_at dksX2_waves_1 8 rfl rfl)
theorem dX2_waves_34 : decode cX2_waves 34 = .ok (.aload_n 3, 1) := dk_45 (dk_at dksX2_waves_1 10 rfl rfl)
theorem dX2_waves_35 : decode cX2_waves 35 = .ok (.invokevirtual 163, 3) := dk_182 0 163 (dk_at dksX2_waves_1 11 rfl rfl)
theorem dX2_waves_38 : decode cX2_waves 38 = .ok (.ifCond .ne 108, 3) := dk_154 0 108 (dk_at dksX2_waves_1 14 rfl rfl)
theorem dX2_waves_41 : decode cX2_waves 41 = .ok (.aload_n 3, 1) := dk_45 (dk_at dksX2_waves_1 17 rfl rfl)
theorem dX2_waves_42 : decode cX2_waves 42 = .ok (.invokevirtual 164, 3) := dk_182 0 164 (dk_at dksX2_waves_1 18 rfl rfl)
theorem dX2_waves_45 : decode cX2_waves 45 = .ok (.iconst 0, 1) := dk_3 (dk_at dksX2_waves_1 21 rfl rfl)
theorem dX2_waves_46 : decode cX2_waves 46 = .ok (.istore 5, 2) := dk_54 5 (dk_at dksX2_waves_1 22 rfl rfl)
theorem dX2_waves_48 : decode cX2_waves 48 = .ok (.iload 5, 2) := dk_21 5 (dk_at dksX2_waves_2 0 rfl rfl)
theorem dX2_waves_50 : decode cX2_waves 50 = .ok (.aload_n 0, 1) := dk_42 (dk_at dksX2_waves_2 2 rfl rfl)
theorem dX2_waves_51 : decode cX2_waves 51 = .ok (.getfield 47, 3) := dk_180 0 47 (dk_at dksX2_waves_2 3 rfl rfl)
theorem dX2_waves_54 : decode cX2_waves 54 = .ok (.if_icmp .ge 46, 3) := dk_162 0 46 (dk_at dksX2_waves_2 6 rfl rfl)
theorem dX2_waves_57 : decode cX2_waves 57 = .ok (.aload_n 0, 1) := dk_42 (dk_at dksX2_waves_2 9 rfl rfl)
theorem dX2_waves_58 : decode cX2_waves 58 = .ok (.iload 5, 2) := dk_21 5 (dk_at dksX2_waves_2 10 rfl rfl)
theorem dX2_waves_60 : decode cX2_waves 60 = .ok (.invokevirtual 83, 3) := dk_182 0 83 (dk_at dksX2_waves_2 12 rfl rfl)
theorem dX2_waves_63 : decode cX2_waves 63 = .ok (.ifCond .eq 31, 3) := dk_153 0 31 (dk_at dksX2_waves_2 15 rfl rfl)
theorem dX2_waves_66 : decode cX2_waves 66 = .ok (.aload_n 2, 1) := dk_44 (dk_at dksX2_waves_2 18 rfl rfl)
theorem dX2_waves_67 : decode cX2_waves 67 = .ok (.iload 5, 2) := dk_21 5 (dk_at dksX2_waves_2 19 rfl rfl)
theorem dX2_waves_69 : decode cX2_waves 69 = .ok (.iaload, 1) := dk_46 (dk_at dksX2_waves_2 21 rfl rfl)
theorem dX2_waves_70 : decode cX2_waves 70 = .ok (.iconst (-1), 1) := dk_2 (dk_at dksX2_waves_2 22 rfl rfl)
theorem dX2_waves_71 : decode cX2_waves 71 = .ok (.if_icmp .ne 23, 3) := dk_160 0 23 (dk_at dksX2_waves_3 0 rfl rfl)
theorem dX2_waves_74 : decode cX2_waves 74 = .ok (.aload_n 0, 1) := dk_42 (dk_at dksX2_waves_3 3 rfl rfl)
theorem dX2_waves_75 : decode cX2_waves 75 = .ok (.iload 5, 2) := dk_21 5 (dk_at dksX2_waves_3 4 rfl rfl)
theorem dX2_waves_77 : decode cX2_waves 77 = .ok (.aload_n 2, 1) := dk_44 (dk_at dksX2_waves_3 6 rfl rfl)
theorem dX2_waves_78 : decode cX2_waves 78 = .ok (.invokevirtual 165, 3) := dk_182 0 165 (dk_at dksX2_waves_3 7 rfl rfl)
theorem dX2_waves_81 : decode cX2_waves 81 = .ok (.ifCond .eq 13, 3) := dk_153 0 13 (dk_at dksX2_waves_3 10 rfl rfl)
theorem dX2_waves_84 : decode cX2_waves 84 = .ok (.aload_n 3, 1) := dk_45 (dk_at dksX2_waves_3 13 rfl rfl)
theorem dX2_waves_85 : decode cX2_waves 85 = .ok (.iload 5, 2) := dk_21 5 (dk_at dksX2_waves_3 14 rfl rfl)
theorem dX2_waves_87 : decode cX2_waves 87 = .ok (.invokestatic 69, 3) := dk_184 0 69 (dk_at dksX2_waves_3 16 rfl rfl)
theorem dX2_waves_90 : decode cX2_waves 90 = .ok (.invokevirtual 162, 3) := dk_182 0 162 (dk_at dksX2_waves_3 19 rfl rfl)
theorem dX2_waves_93 : decode cX2_waves 93 = .ok (.pop, 1) := dk_87 (dk_at dksX2_waves_3 22 rfl rfl)
theorem dX2_waves_94 : decode cX2_waves 94 = .ok (.iinc 5 1, 3) := dk_132 5 1 (dk_at dksX2_waves_4 0 rfl rfl)
theorem dX2_waves_97 : decode cX2_waves 97 = .ok (.goto (-49), 3) := dk_167 255 207 (dk_at dksX2_waves_4 3 rfl rfl)
theorem dX2_waves_100 : decode cX2_waves 100 = .ok (.aload_n 3, 1) := dk_45 (dk_at dksX2_waves_4 6 rfl rfl)
theorem dX2_waves_101 : decode cX2_waves 101 = .ok (.invokevirtual 169, 3) := dk_182 0 169 (dk_at dksX2_waves_4 7 rfl rfl)
theorem dX2_waves_104 : decode cX2_waves 104 = .ok (.astore 5, 2) := dk_58 5 (dk_at dksX2_waves_4 10 rfl rfl)
theorem dX2_waves_106 : decode cX2_waves 106 = .ok (.aload 5, 2) := dk_25 5 (dk_at dksX2_waves_4 12 rfl rfl)
theorem dX2_waves_108 : decode cX2_waves 108 = .ok (.invokeinterface 173 1, 5) := by decide +kernel
theorem dX2_waves_113 : decode cX2_waves 113 = .ok (.ifCond .eq 27, 3) := dk_153 0 27 (dk_at dksX2_waves_4 19 rfl rfl)
theorem dX2_waves_116 : decode cX2_waves 116 = .ok (.aload 5, 2) := dk_25 5 (dk_at dksX2_waves_4 22 rfl rfl)
theorem dX2_waves_118 : decode cX2_waves 118 = .ok (.invokeinterface 178 1, 5) := by decide +kernel
theorem dX2_waves_123 : decode cX2_waves 123 = .ok (.checkcast 70, 3) := dk_192 0 70 (dk_at dksX2_waves_5 5 rfl rfl)
theorem dX2_waves_126 : decode cX2_waves 126 = .ok (.invokevirtual 181, 3) := dk_182 0 181 (dk_at dksX2_waves_5 8 rfl rfl)
theorem dX2_waves_129 : decode cX2_waves 129 = .ok (.istore 6, 2) := dk_54 6 (dk_at dksX2_waves_5 11 rfl rfl)
theorem dX2_waves_131 : decode cX2_waves 131 = .ok (.aload_n 2, 1) := dk_44 (dk_at dksX2_waves_5 13 rfl rfl)
theorem dX2_waves_132 : decode cX2_waves 132 = .ok (.iload 6, 2) := dk_21 6 (dk_at dksX2_waves_5 14 rfl rfl)
theorem dX2_waves_134 : decode cX2_waves 134 = .ok (.iload 4, 2) := dk_21 4 (dk_at dksX2_waves_5 16 rfl rfl)
theorem dX2_waves_136 : decode cX2_waves 136 = .ok (.iastore, 1) := dk_79 (dk_at dksX2_waves_5 18 rfl rfl)
theorem dX2_waves_137 : decode cX2_waves 137 = .ok (.goto (-31), 3) := dk_167 255 225 (dk_at dksX2_waves_5 19 rfl rfl)
theorem dX2_waves_140 : decode cX2_waves 140 = .ok (.iinc 4 1, 3) := dk_132 4 1 (dk_at dksX2_waves_6 0 rfl rfl)
theorem dX2_waves_143 : decode cX2_waves 143 = .ok (.goto (-109), 3) := dk_167 255 147 (dk_at dksX2_waves_6 3 rfl rfl)
theorem dX2_waves_146 : decode cX2_waves 146 = .ok (.aload_n 2, 1) := dk_44 (dk_at dksX2_waves_6 6 rfl rfl)
theorem dX2_waves_147 : decode cX2_waves 147 = .ok (.areturn, 1) := dk_176 (dk_at dksX2_waves_6 7 rfl rfl)
abbrev cX2_lacks : ByteArray := prog_16_method_11_code
def yX2_lacks : MethodName := ⟨RX2, "lacks", "(I[I)Z"⟩
def dkwX2_lacks_3 : List UInt8 := [54, 4, 132, 5, 1, 167, 255, 213, 21, 4, 154, 0, 5, 4, 172, 132, 3, 1, 167, 255, 168, 3, 172]
abbrev dktX2_lacks_3 : List UInt8 := dkwX2_lacks_3 ++ []
def dkwX2_lacks_2 : List UInt8 := [42, 21, 5, 27, 29, 182, 0, 100, 153, 0, 15, 44, 21, 5, 46, 2, 160, 0, 7, 4, 167, 0, 4, 3]
abbrev dktX2_lacks_2 : List UInt8 := dkwX2_lacks_2 ++ dktX2_lacks_3
def dkwX2_lacks_1 : List UInt8 := [4, 167, 0, 4, 3, 54, 4, 3, 54, 5, 21, 5, 42, 180, 0, 47, 162, 0, 40, 21, 4, 154, 0, 35]
abbrev dktX2_lacks_1 : List UInt8 := dkwX2_lacks_1 ++ dktX2_lacks_2
def dkwX2_lacks_0 : List UInt8 := [3, 62, 29, 16, 8, 162, 0, 88, 42, 180, 0, 17, 27, 50, 180, 0, 150, 29, 184, 0, 90, 154, 0, 7]
abbrev dktX2_lacks_0 : List UInt8 := dkwX2_lacks_0 ++ dktX2_lacks_1
theorem dksX2_lacks_0 : cX2_lacks.data.toList.drop 0 = dktX2_lacks_0 := by decide +kernel
theorem dksX2_lacks_1 : cX2_lacks.data.toList.drop 24 = dktX2_lacks_1 := dk_seg dksX2_lacks_0 24 rfl rfl
theorem dksX2_lacks_2 : cX2_lacks.data.toList.drop 48 = dktX2_lacks_2 := dk_seg dksX2_lacks_1 24 rfl rfl
theorem dksX2_lacks_3 : cX2_lacks.data.toList.drop 72 = dktX2_lacks_3 := dk_seg dksX2_lacks_2 24 rfl rfl
theorem dX2_lacks_0 : decode cX2_lacks 0 = .ok (.iconst 0, 1) := dk_3 (dk_at dksX2_lacks_0 0 rfl rfl)
theorem dX2_lacks_1 : decode cX2_lacks 1 = .ok (.istore_n 3, 1) := dk_62 (dk_at dksX2_lacks_0 1 rfl rfl)
theorem dX2_lacks_2 : decode cX2_lacks 2 = .ok (.iload_n 3, 1) := dk_29 (dk_at dksX2_lacks_0 2 rfl rfl)
theorem dX2_lacks_3 : decode cX2_lacks 3 = .ok (.bipush 8, 2) := dk_16 8 (dk_at dksX2_lacks_0 3 rfl rfl)
theorem dX2_lacks_5 : decode cX2_lacks 5 = .ok (.if_icmp .ge 88, 3) := dk_162 0 88 (dk_at dksX2_lacks_0 5 rfl rfl)
theorem dX2_lacks_8 : decode cX2_lacks 8 = .ok (.aload_n 0, 1) := dk_42 (dk_at dksX2_lacks_0 8 rfl rfl)
theorem dX2_lacks_9 : decode cX2_lacks 9 = .ok (.getfield 17, 3) := dk_180 0 17 (dk_at dksX2_lacks_0 9 rfl rfl)
theorem dX2_lacks_12 : decode cX2_lacks 12 = .ok (.iload_n 1, 1) := dk_27 (dk_at dksX2_lacks_0 12 rfl rfl)
theorem dX2_lacks_13 : decode cX2_lacks 13 = .ok (.aaload, 1) := dk_50 (dk_at dksX2_lacks_0 13 rfl rfl)
theorem dX2_lacks_14 : decode cX2_lacks 14 = .ok (.getfield 150, 3) := dk_180 0 150 (dk_at dksX2_lacks_0 14 rfl rfl)
theorem dX2_lacks_17 : decode cX2_lacks 17 = .ok (.iload_n 3, 1) := dk_29 (dk_at dksX2_lacks_0 17 rfl rfl)
theorem dX2_lacks_18 : decode cX2_lacks 18 = .ok (.invokestatic 90, 3) := dk_184 0 90 (dk_at dksX2_lacks_0 18 rfl rfl)
theorem dX2_lacks_21 : decode cX2_lacks 21 = .ok (.ifCond .ne 7, 3) := dk_154 0 7 (dk_at dksX2_lacks_0 21 rfl rfl)
theorem dX2_lacks_24 : decode cX2_lacks 24 = .ok (.iconst 1, 1) := dk_4 (dk_at dksX2_lacks_1 0 rfl rfl)
theorem dX2_lacks_25 : decode cX2_lacks 25 = .ok (.goto 4, 3) := dk_167 0 4 (dk_at dksX2_lacks_1 1 rfl rfl)
theorem dX2_lacks_28 : decode cX2_lacks 28 = .ok (.iconst 0, 1) := dk_3 (dk_at dksX2_lacks_1 4 rfl rfl)
theorem dX2_lacks_29 : decode cX2_lacks 29 = .ok (.istore 4, 2) := dk_54 4 (dk_at dksX2_lacks_1 5 rfl rfl)
theorem dX2_lacks_31 : decode cX2_lacks 31 = .ok (.iconst 0, 1) := dk_3 (dk_at dksX2_lacks_1 7 rfl rfl)
theorem dX2_lacks_32 : decode cX2_lacks 32 = .ok (.istore 5, 2) := dk_54 5 (dk_at dksX2_lacks_1 8 rfl rfl)
theorem dX2_lacks_34 : decode cX2_lacks 34 = .ok (.iload 5, 2) := dk_21 5 (dk_at dksX2_lacks_1 10 rfl rfl)
theorem dX2_lacks_36 : decode cX2_lacks 36 = .ok (.aload_n 0, 1) := dk_42 (dk_at dksX2_lacks_1 12 rfl rfl)
theorem dX2_lacks_37 : decode cX2_lacks 37 = .ok (.getfield 47, 3) := dk_180 0 47 (dk_at dksX2_lacks_1 13 rfl rfl)
theorem dX2_lacks_40 : decode cX2_lacks 40 = .ok (.if_icmp .ge 40, 3) := dk_162 0 40 (dk_at dksX2_lacks_1 16 rfl rfl)
theorem dX2_lacks_43 : decode cX2_lacks 43 = .ok (.iload 4, 2) := dk_21 4 (dk_at dksX2_lacks_1 19 rfl rfl)
theorem dX2_lacks_45 : decode cX2_lacks 45 = .ok (.ifCond .ne 35, 3) := dk_154 0 35 (dk_at dksX2_lacks_1 21 rfl rfl)
theorem dX2_lacks_48 : decode cX2_lacks 48 = .ok (.aload_n 0, 1) := dk_42 (dk_at dksX2_lacks_2 0 rfl rfl)
theorem dX2_lacks_49 : decode cX2_lacks 49 = .ok (.iload 5, 2) := dk_21 5 (dk_at dksX2_lacks_2 1 rfl rfl)
theorem dX2_lacks_51 : decode cX2_lacks 51 = .ok (.iload_n 1, 1) := dk_27 (dk_at dksX2_lacks_2 3 rfl rfl)
theorem dX2_lacks_52 : decode cX2_lacks 52 = .ok (.iload_n 3, 1) := dk_29 (dk_at dksX2_lacks_2 4 rfl rfl)
theorem dX2_lacks_53 : decode cX2_lacks 53 = .ok (.invokevirtual 100, 3) := dk_182 0 100 (dk_at dksX2_lacks_2 5 rfl rfl)
theorem dX2_lacks_56 : decode cX2_lacks 56 = .ok (.ifCond .eq 15, 3) := dk_153 0 15 (dk_at dksX2_lacks_2 8 rfl rfl)
theorem dX2_lacks_59 : decode cX2_lacks 59 = .ok (.aload_n 2, 1) := dk_44 (dk_at dksX2_lacks_2 11 rfl rfl)
theorem dX2_lacks_60 : decode cX2_lacks 60 = .ok (.iload 5, 2) := dk_21 5 (dk_at dksX2_lacks_2 12 rfl rfl)
theorem dX2_lacks_62 : decode cX2_lacks 62 = .ok (.iaload, 1) := dk_46 (dk_at dksX2_lacks_2 14 rfl rfl)
theorem dX2_lacks_63 : decode cX2_lacks 63 = .ok (.iconst (-1), 1) := dk_2 (dk_at dksX2_lacks_2 15 rfl rfl)
theorem dX2_lacks_64 : decode cX2_lacks 64 = .ok (.if_icmp .ne 7, 3) := dk_160 0 7 (dk_at dksX2_lacks_2 16 rfl rfl)
theorem dX2_lacks_67 : decode cX2_lacks 67 = .ok (.iconst 1, 1) := dk_4 (dk_at dksX2_lacks_2 19 rfl rfl)
theorem dX2_lacks_68 : decode cX2_lacks 68 = .ok (.goto 4, 3) := dk_167 0 4 (dk_at dksX2_lacks_2 20 rfl rfl)
theorem dX2_lacks_71 : decode cX2_lacks 71 = .ok (.iconst 0, 1) := dk_3 (dk_at dksX2_lacks_2 23 rfl rfl)
theorem dX2_lacks_72 : decode cX2_lacks 72 = .ok (.istore 4, 2) := dk_54 4 (dk_at dksX2_lacks_3 0 rfl rfl)
theorem dX2_lacks_74 : decode cX2_lacks 74 = .ok (.iinc 5 1, 3) := dk_132 5 1 (dk_at dksX2_lacks_3 2 rfl rfl)
theorem dX2_lacks_77 : decode cX2_lacks 77 = .ok (.goto (-43), 3) := dk_167 255 213 (dk_at dksX2_lacks_3 5 rfl rfl)
theorem dX2_lacks_80 : decode cX2_lacks 80 = .ok (.iload 4, 2) := dk_21 4 (dk_at dksX2_lacks_3 8 rfl rfl)
theorem dX2_lacks_82 : decode cX2_lacks 82 = .ok (.ifCond .ne 5, 3) := dk_154 0 5 (dk_at dksX2_lacks_3 10 rfl rfl)
theorem dX2_lacks_85 : decode cX2_lacks 85 = .ok (.iconst 1, 1) := dk_4 (dk_at dksX2_lacks_3 13 rfl rfl)
theorem dX2_lacks_86 : decode cX2_lacks 86 = .ok (.ireturn, 1) := dk_172 (dk_at dksX2_lacks_3 14 rfl rfl)
theorem dX2_lacks_87 : decode cX2_lacks 87 = .ok (.iinc 3 1, 3) := dk_132 3 1 (dk_at dksX2_lacks_3 15 rfl rfl)
theorem dX2_lacks_90 : decode cX2_lacks 90 = .ok (.goto (-88), 3) := dk_167 255 168 (dk_at dksX2_lacks_3 18 rfl rfl)
theorem dX2_lacks_93 : decode cX2_lacks 93 = .ok (.iconst 0, 1) := dk_3 (dk_at dksX2_lacks_3 21 rfl rfl)
theorem dX2_lacks_94 : decode cX2_lacks 94 = .ok (.ireturn, 1) := dk_172 (dk_at dksX2_lacks_3 22 rfl rfl)
abbrev cX2_draw : ByteArray := prog_16_method_13_code
def yX2_draw : MethodName := ⟨RX2, "draw", "(I)I"⟩
def dkwX2_draw_1 : List UInt8 := [172]
abbrev dktX2_draw_1 : List UInt8 := dkwX2_draw_1 ++ []
def dkwX2_draw_0 : List UInt8 := [42, 42, 180, 0, 9, 18, 184, 104, 17, 48, 57, 96, 181, 0, 9, 42, 180, 0, 9, 16, 16, 124, 27, 112]
abbrev dktX2_draw_0 : List UInt8 := dkwX2_draw_0 ++ dktX2_draw_1
theorem dksX2_draw_0 : cX2_draw.data.toList.drop 0 = dktX2_draw_0 := by decide +kernel
theorem dksX2_draw_1 : cX2_draw.data.toList.drop 24 = dktX2_draw_1 := dk_seg dksX2_draw_0 24 rfl rfl
theorem dX2_draw_0 : decode cX2_draw 0 = .ok (.aload_n 0, 1) := dk_42 (dk_at dksX2_draw_0 0 rfl rfl)
theorem dX2_draw_1 : decode cX2_draw 1 = .ok (.aload_n 0, 1) := dk_42 (dk_at dksX2_draw_0 1 rfl rfl)
theorem dX2_draw_2 : decode cX2_draw 2 = .ok (.getfield 9, 3) := dk_180 0 9 (dk_at dksX2_draw_0 2 rfl rfl)
theorem dX2_draw_5 : decode cX2_draw 5 = .ok (.ldc 184, 2) := dk_18 184 (dk_at dksX2_draw_0 5 rfl rfl)
theorem dX2_draw_7 : decode cX2_draw 7 = .ok (.imul, 1) := dk_104 (dk_at dksX2_draw_0 7 rfl rfl)
theorem dX2_draw_8 : decode cX2_draw 8 = .ok (.sipush 12345, 3) := dk_17 48 57 (dk_at dksX2_draw_0 8 rfl rfl)
theorem dX2_draw_11 : decode cX2_draw 11 = .ok (.iadd, 1) := dk_96 (dk_at dksX2_draw_0 11 rfl rfl)
theorem dX2_draw_12 : decode cX2_draw 12 = .ok (.putfield 9, 3) := dk_181 0 9 (dk_at dksX2_draw_0 12 rfl rfl)
theorem dX2_draw_15 : decode cX2_draw 15 = .ok (.aload_n 0, 1) := dk_42 (dk_at dksX2_draw_0 15 rfl rfl)
theorem dX2_draw_16 : decode cX2_draw 16 = .ok (.getfield 9, 3) := dk_180 0 9 (dk_at dksX2_draw_0 16 rfl rfl)
theorem dX2_draw_19 : decode cX2_draw 19 = .ok (.bipush 16, 2) := dk_16 16 (dk_at dksX2_draw_0 19 rfl rfl)
theorem dX2_draw_21 : decode cX2_draw 21 = .ok (.iushr, 1) := dk_124 (dk_at dksX2_draw_0 21 rfl rfl)
theorem dX2_draw_22 : decode cX2_draw 22 = .ok (.iload_n 1, 1) := dk_27 (dk_at dksX2_draw_0 22 rfl rfl)
theorem dX2_draw_23 : decode cX2_draw 23 = .ok (.irem, 1) := dk_112 (dk_at dksX2_draw_0 23 rfl rfl)
theorem dX2_draw_24 : decode cX2_draw 24 = .ok (.ireturn, 1) := dk_172 (dk_at dksX2_draw_1 0 rfl rfl)
theorem q83 : (Jvm.Cond.initialized "PluginChains$Host") ∈ lw_all := lw_g (lw_at lw_m1 3 rfl) rfl
theorem q202 : (Jvm.Cond.instantiable "PluginChains$Host" (11 : Nat)) ∈ lw_all := lw_g (lw_at lw_m1 122 rfl) rfl
theorem q204 : (Jvm.Cond.instanceMethod ({ cls := "PluginChains$Host", name := "<init>", desc := "()V" } : Jvm.MethodName)) ∈ lw_all := lw_g (lw_at lw_m1 124 rfl) rfl
theorem q205 : (Jvm.Cond.code ({ cls := "PluginChains$Host", name := "<init>", desc := "()V" } : Jvm.MethodName) prog_16_method_1_code (1 : Nat) (Option.none : Option Jvm.ClassFile.FieldType)) ∈ lw_all := lw_g (lw_at lw_m1 125 rfl) rfl
theorem q206 : (Jvm.Cond.methodLink "PluginChains$Host" (3 : Nat) ({ cls := "java/lang/Object", name := "<init>", desc := "()V" } : Jvm.MethodName)) ∈ lw_all := lw_g (lw_at lw_m1 126 rfl) rfl
theorem q207 : (Jvm.Cond.classLink "PluginChains$Host" (15 : Nat) "PluginChains$Plain") ∈ lw_all := lw_g (lw_at lw_m1 127 rfl) rfl
theorem q209 : (Jvm.Cond.classLink "PluginChains$Host" (34 : Nat) "PluginChains$Hook") ∈ lw_all := lw_g (lw_at lw_m1 129 rfl) rfl
theorem q211 : (Jvm.Cond.classLink "PluginChains$Host" (40 : Nat) "java/util/TreeMap") ∈ lw_all := lw_g (lw_at lw_m1 131 rfl) rfl
theorem q213 : (Jvm.Cond.methodLink "PluginChains$Host" (42 : Nat) ({ cls := "java/util/TreeMap", name := "<init>", desc := "()V" } : Jvm.MethodName)) ∈ lw_all := lw_g (lw_at lw_m1 133 rfl) rfl
theorem q251 : (Jvm.Cond.fieldLink "PluginChains$Host" (47 : Nat) "PluginChains$Host" "many" "I") ∈ lw_all := lw_g (lw_at lw_m1 171 rfl) rfl
theorem q255 : (Jvm.Cond.fieldLink "PluginChains$Host" (50 : Nat) "PluginChains$Host" "hooksMany" "I") ∈ lw_all := lw_g (lw_at lw_m1 175 rfl) rfl
theorem q257 : (Jvm.Cond.fieldLink "PluginChains$Host" (53 : Nat) "PluginChains$Host" "clock" "I") ∈ lw_all := lw_g (lw_at lw_m1 177 rfl) rfl
theorem q260 : (Jvm.Cond.fieldLink "PluginChains$Host" (9 : Nat) "PluginChains$Host" "seed" "I") ∈ lw_all := lw_g (lw_at lw_m1 180 rfl) rfl
theorem q262 : (Jvm.Cond.fieldLink "PluginChains$Host" (17 : Nat) "PluginChains$Host" "plugs" "[LPluginChains$Plain;") ∈ lw_all := lw_g (lw_at lw_m1 182 rfl) rfl
theorem q265 : (Jvm.Cond.fieldLink "PluginChains$Host" (21 : Nat) "PluginChains$Host" "state" "[I") ∈ lw_all := lw_g (lw_at lw_m1 185 rfl) rfl
theorem q268 : (Jvm.Cond.fieldLink "PluginChains$Host" (25 : Nat) "PluginChains$Host" "faults" "[I") ∈ lw_all := lw_g (lw_at lw_m1 188 rfl) rfl
theorem q271 : (Jvm.Cond.fieldLink "PluginChains$Host" (28 : Nat) "PluginChains$Host" "tally" "[I") ∈ lw_all := lw_g (lw_at lw_m1 191 rfl) rfl
theorem q275 : (Jvm.Cond.fieldLink "PluginChains$Host" (31 : Nat) "PluginChains$Host" "age" "[I") ∈ lw_all := lw_g (lw_at lw_m1 195 rfl) rfl
theorem q280 : (Jvm.Cond.fieldLink "PluginChains$Host" (36 : Nat) "PluginChains$Host" "hooks" "[LPluginChains$Hook;") ∈ lw_all := lw_g (lw_at lw_m1 200 rfl) rfl
theorem q282 : (Jvm.Cond.fieldLink "PluginChains$Host" (43 : Nat) "PluginChains$Host" "names" "Ljava/util/TreeMap;") ∈ lw_all := lw_g (lw_at lw_m1 202 rfl) rfl
theorem q285 : (Jvm.Cond.lays "PluginChains$Host" "PluginChains$Host" "many" "I") ∈ lw_all := lw_g (lw_at lw_m1 205 rfl) rfl
theorem q286 : (Jvm.Cond.soleField "PluginChains$Host" "many") ∈ lw_all := lw_g (lw_at lw_m1 206 rfl) rfl
theorem q287 : (Jvm.Cond.lays "PluginChains$Host" "PluginChains$Host" "hooksMany" "I") ∈ lw_all := lw_g (lw_at lw_m1 207 rfl) rfl
theorem q288 : (Jvm.Cond.soleField "PluginChains$Host" "hooksMany") ∈ lw_all := lw_g (lw_at lw_m1 208 rfl) rfl
theorem q289 : (Jvm.Cond.lays "PluginChains$Host" "PluginChains$Host" "clock" "I") ∈ lw_all := lw_g (lw_at lw_m1 209 rfl) rfl
theorem q290 : (Jvm.Cond.soleField "PluginChains$Host" "clock") ∈ lw_all := lw_g (lw_at lw_m1 210 rfl) rfl
theorem q291 : (Jvm.Cond.lays "PluginChains$Host" "PluginChains$Host" "seed" "I") ∈ lw_all := lw_g (lw_at lw_m1 211 rfl) rfl
theorem q292 : (Jvm.Cond.soleField "PluginChains$Host" "seed") ∈ lw_all := lw_g (lw_at lw_m1 212 rfl) rfl
theorem q293 : (Jvm.Cond.laysFinal "PluginChains$Host" "PluginChains$Host" "plugs" "[LPluginChains$Plain;") ∈ lw_all := lw_g (lw_at lw_m1 213 rfl) rfl
theorem q294 : (Jvm.Cond.soleField "PluginChains$Host" "plugs") ∈ lw_all := lw_g (lw_at lw_m1 214 rfl) rfl
theorem q295 : (Jvm.Cond.laysFinal "PluginChains$Host" "PluginChains$Host" "state" "[I") ∈ lw_all := lw_g (lw_at lw_m1 215 rfl) rfl
theorem q296 : (Jvm.Cond.soleField "PluginChains$Host" "state") ∈ lw_all := lw_g (lw_at lw_m1 216 rfl) rfl
theorem q297 : (Jvm.Cond.laysFinal "PluginChains$Host" "PluginChains$Host" "faults" "[I") ∈ lw_all := lw_g (lw_at lw_m1 217 rfl) rfl
theorem q298 : (Jvm.Cond.soleField "PluginChains$Host" "faults") ∈ lw_all := lw_g (lw_at lw_m1 218 rfl) rfl
theorem q299 : (Jvm.Cond.laysFinal "PluginChains$Host" "PluginChains$Host" "tally" "[I") ∈ lw_all := lw_g (lw_at lw_m1 219 rfl) rfl
theorem q300 : (Jvm.Cond.soleField "PluginChains$Host" "tally") ∈ lw_all := lw_g (lw_at lw_m1 220 rfl) rfl
theorem q301 : (Jvm.Cond.laysFinal "PluginChains$Host" "PluginChains$Host" "age" "[I") ∈ lw_all := lw_g (lw_at lw_m1 221 rfl) rfl
theorem q302 : (Jvm.Cond.soleField "PluginChains$Host" "age") ∈ lw_all := lw_g (lw_at lw_m1 222 rfl) rfl
theorem q303 : (Jvm.Cond.laysFinal "PluginChains$Host" "PluginChains$Host" "hooks" "[LPluginChains$Hook;") ∈ lw_all := lw_g (lw_at lw_m1 223 rfl) rfl
theorem q304 : (Jvm.Cond.soleField "PluginChains$Host" "hooks") ∈ lw_all := lw_g (lw_at lw_m1 224 rfl) rfl
theorem q305 : (Jvm.Cond.laysFinal "PluginChains$Host" "PluginChains$Host" "names" "Ljava/util/TreeMap;") ∈ lw_all := lw_g (lw_at lw_m1 225 rfl) rfl
theorem q306 : (Jvm.Cond.soleField "PluginChains$Host" "names") ∈ lw_all := lw_g (lw_at lw_m1 226 rfl) rfl
theorem q307 : (Jvm.Cond.superclass "PluginChains$Host" "java/lang/Object") ∈ lw_all := lw_g (lw_at lw_m1 227 rfl) rfl
theorem q709 : (Jvm.Cond.instanceMethod ({ cls := "PluginChains$Host", name := "isPlug", desc := "(I)Z" } : Jvm.MethodName)) ∈ lw_all := lw_g (lw_at lw_m3 149 rfl) rfl
theorem q710 : (Jvm.Cond.selects "PluginChains$Host" ({ cls := "PluginChains$Host", name := "isPlug", desc := "(I)Z" } : Jvm.MethodName) ({ cls := "PluginChains$Host", name := "isPlug", desc := "(I)Z" } : Jvm.MethodName)) ∈ lw_all := lw_g (lw_at lw_m3 150 rfl) rfl
theorem q711 : (Jvm.Cond.code ({ cls := "PluginChains$Host", name := "isPlug", desc := "(I)Z" } : Jvm.MethodName) prog_16_method_3_code (2 : Nat) (Option.some Jvm.ClassFile.FieldType.boolean)) ∈ lw_all := lw_g (lw_at lw_m3 151 rfl) rfl
theorem q1314 : (Jvm.Cond.selects "PluginChains$Host" ({ cls := "java/lang/Object", name := "getClass", desc := "()Ljava/lang/Class;" } : Jvm.MethodName) ({ cls := "java/lang/Object", name := "getClass", desc := "()Ljava/lang/Class;" } : Jvm.MethodName)) ∈ lw_all := lw_g (lw_at lw_m6 34 rfl) rfl
theorem q1402 : (Jvm.Cond.instanceMethod ({ cls := "PluginChains$Host", name := "add", desc := "(ILjava/lang/String;IIII)I" } : Jvm.MethodName)) ∈ lw_all := lw_g (lw_at lw_m6 122 rfl) rfl
theorem q1403 : (Jvm.Cond.selects "PluginChains$Host" ({ cls := "PluginChains$Host", name := "add", desc := "(ILjava/lang/String;IIII)I" } : Jvm.MethodName) ({ cls := "PluginChains$Host", name := "add", desc := "(ILjava/lang/String;IIII)I" } : Jvm.MethodName)) ∈ lw_all := lw_g (lw_at lw_m6 123 rfl) rfl
theorem q1404 : (Jvm.Cond.code ({ cls := "PluginChains$Host", name := "add", desc := "(ILjava/lang/String;IIII)I" } : Jvm.MethodName) prog_16_method_5_code (7 : Nat) (Option.some Jvm.ClassFile.FieldType.int)) ∈ lw_all := lw_g (lw_at lw_m6 124 rfl) rfl
theorem q1405 : (Jvm.Cond.methodLink "PluginChains$Host" (79 : Nat) ({ cls := "PluginChains", name := "ofKind", desc := "(IILjava/lang/String;III)LPluginChains$Plain;" } : Jvm.MethodName)) ∈ lw_all := lw_g (lw_at lw_m6 125 rfl) rfl
theorem q1418 : (Jvm.Cond.fieldLink "PluginChains$Host" (144 : Nat) "PluginChains$Plain" "index" "I") ∈ lw_all := lw_g (lw_at lw_m6 138 rfl) rfl
theorem q1421 : (Jvm.Cond.fieldLink "PluginChains$Host" (65 : Nat) "PluginChains$Plain" "name" "Ljava/lang/String;") ∈ lw_all := lw_g (lw_at lw_m6 141 rfl) rfl
theorem q1428 : (Jvm.Cond.fieldLink "PluginChains$Host" (150 : Nat) "PluginChains$Plain" "needs" "I") ∈ lw_all := lw_g (lw_at lw_m6 148 rfl) rfl
theorem q1433 : (Jvm.Cond.fieldLink "PluginChains$Host" (87 : Nat) "PluginChains$Plain" "offers" "I") ∈ lw_all := lw_g (lw_at lw_m6 153 rfl) rfl
theorem q1486 : (Jvm.Cond.methodLink "PluginChains$Host" (69 : Nat) ({ cls := "java/lang/Integer", name := "valueOf", desc := "(I)Ljava/lang/Integer;" } : Jvm.MethodName)) ∈ lw_all := lw_g (lw_at lw_m6 206 rfl) rfl
theorem q1505 : (Jvm.Cond.methodLink "PluginChains$Host" (75 : Nat) ({ cls := "java/util/TreeMap", name := "put", desc := "(Ljava/lang/Object;Ljava/lang/Object;)Ljava/lang/Object;" } : Jvm.MethodName)) ∈ lw_all := lw_g (lw_at lw_m6 225 rfl) rfl
theorem q1597 : (Jvm.Cond.instanceMethod ({ cls := "PluginChains$Host", name := "take", desc := "(LPluginChains$Host;)LPluginChains$Host;" } : Jvm.MethodName)) ∈ lw_all := lw_g (lw_at lw_m7 77 rfl) rfl
theorem q1598 : (Jvm.Cond.selects "PluginChains$Host" ({ cls := "PluginChains$Host", name := "take", desc := "(LPluginChains$Host;)LPluginChains$Host;" } : Jvm.MethodName) ({ cls := "PluginChains$Host", name := "take", desc := "(LPluginChains$Host;)LPluginChains$Host;" } : Jvm.MethodName)) ∈ lw_all := lw_g (lw_at lw_m7 78 rfl) rfl
theorem q1599 : (Jvm.Cond.code ({ cls := "PluginChains$Host", name := "take", desc := "(LPluginChains$Host;)LPluginChains$Host;" } : Jvm.MethodName) prog_16_method_2_code (3 : Nat) (Option.some (Jvm.ClassFile.FieldType.object "PluginChains$Host"))) ∈ lw_all := lw_g (lw_at lw_m7 79 rfl) rfl
theorem q1600 : (Jvm.Cond.methodLink "PluginChains$Host" (56 : Nat) ({ cls := "java/lang/System", name := "arraycopy", desc := "(Ljava/lang/Object;ILjava/lang/Object;II)V" } : Jvm.MethodName)) ∈ lw_all := lw_g (lw_at lw_m7 80 rfl) rfl
theorem q1601 : (Jvm.Cond.methodLink "PluginChains$Host" (62 : Nat) ({ cls := "java/util/TreeMap", name := "clear", desc := "()V" } : Jvm.MethodName)) ∈ lw_all := lw_g (lw_at lw_m7 81 rfl) rfl
theorem q1765 : (Jvm.Cond.instanceMethod ({ cls := "PluginChains$Host", name := "runs", desc := "(I)Z" } : Jvm.MethodName)) ∈ lw_all := lw_g (lw_at lw_m8 5 rfl) rfl
theorem q1766 : (Jvm.Cond.selects "PluginChains$Host" ({ cls := "PluginChains$Host", name := "runs", desc := "(I)Z" } : Jvm.MethodName) ({ cls := "PluginChains$Host", name := "runs", desc := "(I)Z" } : Jvm.MethodName)) ∈ lw_all := lw_g (lw_at lw_m8 6 rfl) rfl
theorem q1767 : (Jvm.Cond.code ({ cls := "PluginChains$Host", name := "runs", desc := "(I)Z" } : Jvm.MethodName) prog_16_method_4_code (2 : Nat) (Option.some Jvm.ClassFile.FieldType.boolean)) ∈ lw_all := lw_g (lw_at lw_m8 7 rfl) rfl
theorem q1784 : (Jvm.Cond.instanceMethod ({ cls := "PluginChains$Host", name := "provider", desc := "(II)I" } : Jvm.MethodName)) ∈ lw_all := lw_g (lw_at lw_m8 24 rfl) rfl
theorem q1785 : (Jvm.Cond.selects "PluginChains$Host" ({ cls := "PluginChains$Host", name := "provider", desc := "(II)I" } : Jvm.MethodName) ({ cls := "PluginChains$Host", name := "provider", desc := "(II)I" } : Jvm.MethodName)) ∈ lw_all := lw_g (lw_at lw_m8 25 rfl) rfl
theorem q1786 : (Jvm.Cond.code ({ cls := "PluginChains$Host", name := "provider", desc := "(II)I" } : Jvm.MethodName) prog_16_method_8_code (5 : Nat) (Option.some Jvm.ClassFile.FieldType.int)) ∈ lw_all := lw_g (lw_at lw_m8 26 rfl) rfl
theorem q1787 : (Jvm.Cond.classLink "PluginChains$Host" (97 : Nat) "PluginChains$Best") ∈ lw_all := lw_g (lw_at lw_m8 27 rfl) rfl
theorem q1789 : (Jvm.Cond.methodLink "PluginChains$Host" (99 : Nat) ({ cls := "PluginChains$Best", name := "<init>", desc := "()V" } : Jvm.MethodName)) ∈ lw_all := lw_g (lw_at lw_m8 29 rfl) rfl
theorem q1797 : (Jvm.Cond.methodLink "PluginChains$Host" (100 : Nat) ({ cls := "PluginChains$Host", name := "serves", desc := "(III)Z" } : Jvm.MethodName)) ∈ lw_all := lw_g (lw_at lw_m8 37 rfl) rfl
theorem q1798 : (Jvm.Cond.privateMethod ({ cls := "PluginChains$Host", name := "serves", desc := "(III)Z" } : Jvm.MethodName)) ∈ lw_tbl := lw_at lw_m8 38 rfl
theorem q1799 : (Jvm.Cond.instanceMethod ({ cls := "PluginChains$Host", name := "serves", desc := "(III)Z" } : Jvm.MethodName)) ∈ lw_all := lw_g (lw_at lw_m8 39 rfl) rfl
theorem q1800 : (Jvm.Cond.code ({ cls := "PluginChains$Host", name := "serves", desc := "(III)Z" } : Jvm.MethodName) prog_16_method_7_code (4 : Nat) (Option.some Jvm.ClassFile.FieldType.boolean)) ∈ lw_all := lw_g (lw_at lw_m8 40 rfl) rfl
theorem q1801 : (Jvm.Cond.methodLink "PluginChains$Host" (83 : Nat) ({ cls := "PluginChains$Host", name := "runs", desc := "(I)Z" } : Jvm.MethodName)) ∈ lw_all := lw_g (lw_at lw_m8 41 rfl) rfl
theorem q1802 : (Jvm.Cond.methodLink "PluginChains$Host" (90 : Nat) ({ cls := "PluginChains", name := "has", desc := "(II)Z" } : Jvm.MethodName)) ∈ lw_all := lw_g (lw_at lw_m8 42 rfl) rfl
theorem q1803 : (Jvm.Cond.methodLink "PluginChains$Host" (94 : Nat) ({ cls := "PluginChains$Host", name := "isOlder", desc := "(II)Z" } : Jvm.MethodName)) ∈ lw_all := lw_g (lw_at lw_m8 43 rfl) rfl
theorem q1804 : (Jvm.Cond.instanceMethod ({ cls := "PluginChains$Host", name := "isOlder", desc := "(II)Z" } : Jvm.MethodName)) ∈ lw_all := lw_g (lw_at lw_m8 44 rfl) rfl
theorem q1805 : (Jvm.Cond.selects "PluginChains$Host" ({ cls := "PluginChains$Host", name := "isOlder", desc := "(II)Z" } : Jvm.MethodName) ({ cls := "PluginChains$Host", name := "isOlder", desc := "(II)Z" } : Jvm.MethodName)) ∈ lw_all := lw_g (lw_at lw_m8 45 rfl) rfl
theorem q1806 : (Jvm.Cond.code ({ cls := "PluginChains$Host", name := "isOlder", desc := "(II)Z" } : Jvm.MethodName) prog_16_method_6_code (3 : Nat) (Option.some Jvm.ClassFile.FieldType.boolean)) ∈ lw_all := lw_g (lw_at lw_m8 46 rfl) rfl
theorem q1807 : (Jvm.Cond.classLink "PluginChains$Host" (104 : Nat) "PluginChains$Runner") ∈ lw_all := lw_g (lw_at lw_m8 47 rfl) rfl
theorem q1809 : (Jvm.Cond.methodLink "PluginChains$Host" (106 : Nat) ({ cls := "PluginChains$Plain", name := "strength", desc := "()I" } : Jvm.MethodName)) ∈ lw_all := lw_g (lw_at lw_m8 49 rfl) rfl
theorem q1810 : (Jvm.Cond.methodLink "PluginChains$Host" (110 : Nat) ({ cls := "PluginChains$Runner", name := "<init>", desc := "(III)V" } : Jvm.MethodName)) ∈ lw_all := lw_g (lw_at lw_m8 50 rfl) rfl
theorem q1815 : (Jvm.Cond.fieldLink "PluginChains$Host" (121 : Nat) "PluginChains$Runner" "index" "I") ∈ lw_all := lw_g (lw_at lw_m8 55 rfl) rfl
theorem q1825 : (Jvm.Cond.methodLink "PluginChains$Host" (113 : Nat) ({ cls := "PluginChains$Best", name := "offer", desc := "(LPluginChains$Strong;)V" } : Jvm.MethodName)) ∈ lw_all := lw_g (lw_at lw_m8 65 rfl) rfl
theorem q1856 : (Jvm.Cond.methodLink "PluginChains$Host" (117 : Nat) ({ cls := "PluginChains$Best", name := "best", desc := "()LPluginChains$Strong;" } : Jvm.MethodName)) ∈ lw_all := lw_g (lw_at lw_m8 96 rfl) rfl
theorem q1931 : (Jvm.Cond.instanceMethod ({ cls := "PluginChains$Host", name := "candidate", desc := "(II)I" } : Jvm.MethodName)) ∈ lw_all := lw_g (lw_at lw_m8 171 rfl) rfl
theorem q1932 : (Jvm.Cond.selects "PluginChains$Host" ({ cls := "PluginChains$Host", name := "candidate", desc := "(II)I" } : Jvm.MethodName) ({ cls := "PluginChains$Host", name := "candidate", desc := "(II)I" } : Jvm.MethodName)) ∈ lw_all := lw_g (lw_at lw_m8 172 rfl) rfl
theorem q1933 : (Jvm.Cond.code ({ cls := "PluginChains$Host", name := "candidate", desc := "(II)I" } : Jvm.MethodName) prog_16_method_9_code (5 : Nat) (Option.some Jvm.ClassFile.FieldType.int)) ∈ lw_all := lw_g (lw_at lw_m8 173 rfl) rfl
theorem q1934 : (Jvm.Cond.classLink "PluginChains$Host" (124 : Nat) "java/util/PriorityQueue") ∈ lw_all := lw_g (lw_at lw_m8 174 rfl) rfl
theorem q1936 : (Jvm.Cond.classLink "PluginChains$Host" (126 : Nat) "PluginChains$ByStrength") ∈ lw_all := lw_g (lw_at lw_m8 176 rfl) rfl
theorem q1938 : (Jvm.Cond.methodLink "PluginChains$Host" (128 : Nat) ({ cls := "PluginChains$ByStrength", name := "<init>", desc := "()V" } : Jvm.MethodName)) ∈ lw_all := lw_g (lw_at lw_m8 178 rfl) rfl
theorem q1943 : (Jvm.Cond.methodLink "PluginChains$Host" (129 : Nat) ({ cls := "java/util/PriorityQueue", name := "<init>", desc := "(Ljava/util/Comparator;)V" } : Jvm.MethodName)) ∈ lw_all := lw_g (lw_at lw_m8 183 rfl) rfl
theorem q1974 : (Jvm.Cond.methodLink "PluginChains$Host" (132 : Nat) ({ cls := "java/util/PriorityQueue", name := "add", desc := "(Ljava/lang/Object;)Z" } : Jvm.MethodName)) ∈ lw_all := lw_g (lw_at lw_m8 214 rfl) rfl
theorem q2011 : (Jvm.Cond.methodLink "PluginChains$Host" (136 : Nat) ({ cls := "java/util/PriorityQueue", name := "isEmpty", desc := "()Z" } : Jvm.MethodName)) ∈ lw_all := lw_g (lw_at lw_m9 11 rfl) rfl
theorem q2426 : (Jvm.Cond.methodLink "PluginChains$Host" (140 : Nat) ({ cls := "java/util/PriorityQueue", name := "poll", desc := "()Ljava/lang/Object;" } : Jvm.MethodName)) ∈ lw_all := lw_g (lw_at lw_m10 186 rfl) rfl
theorem q2441 : (Jvm.Cond.instanceMethod ({ cls := "PluginChains$Host", name := "stop", desc := "(ILPluginChains$Log;)V" } : Jvm.MethodName)) ∈ lw_all := lw_g (lw_at lw_m10 201 rfl) rfl
theorem q2442 : (Jvm.Cond.selects "PluginChains$Host" ({ cls := "PluginChains$Host", name := "stop", desc := "(ILPluginChains$Log;)V" } : Jvm.MethodName) ({ cls := "PluginChains$Host", name := "stop", desc := "(ILPluginChains$Log;)V" } : Jvm.MethodName)) ∈ lw_all := lw_g (lw_at lw_m10 202 rfl) rfl
theorem q2443 : (Jvm.Cond.code ({ cls := "PluginChains$Host", name := "stop", desc := "(ILPluginChains$Log;)V" } : Jvm.MethodName) prog_16_method_10_code (3 : Nat) (Option.none : Option Jvm.ClassFile.FieldType)) ∈ lw_all := lw_g (lw_at lw_m10 203 rfl) rfl
theorem q2444 : (Jvm.Cond.methodLink "PluginChains$Host" (145 : Nat) ({ cls := "PluginChains$Log", name := "add", desc := "(I)V" } : Jvm.MethodName)) ∈ lw_all := lw_g (lw_at lw_m10 204 rfl) rfl
theorem q2471 : (Jvm.Cond.instanceMethod ({ cls := "PluginChains$Host", name := "waves", desc := "(I)[I" } : Jvm.MethodName)) ∈ lw_all := lw_g (lw_at lw_m10 231 rfl) rfl
theorem q2472 : (Jvm.Cond.selects "PluginChains$Host" ({ cls := "PluginChains$Host", name := "waves", desc := "(I)[I" } : Jvm.MethodName) ({ cls := "PluginChains$Host", name := "waves", desc := "(I)[I" } : Jvm.MethodName)) ∈ lw_all := lw_g (lw_at lw_m10 232 rfl) rfl
theorem q2473 : (Jvm.Cond.code ({ cls := "PluginChains$Host", name := "waves", desc := "(I)[I" } : Jvm.MethodName) prog_16_method_12_code (7 : Nat) (Option.some (Jvm.ClassFile.FieldType.array Jvm.ClassFile.FieldType.int))) ∈ lw_all := lw_g (lw_at lw_m10 233 rfl) rfl
theorem q2474 : (Jvm.Cond.methodLink "PluginChains$Host" (153 : Nat) ({ cls := "java/util/Arrays", name := "fill", desc := "([II)V" } : Jvm.MethodName)) ∈ lw_all := lw_g (lw_at lw_m10 234 rfl) rfl
theorem q2477 : (Jvm.Cond.classLink "PluginChains$Host" (159 : Nat) "java/util/TreeSet") ∈ lw_all := lw_g (lw_at lw_m10 237 rfl) rfl
theorem q2479 : (Jvm.Cond.methodLink "PluginChains$Host" (161 : Nat) ({ cls := "java/util/TreeSet", name := "<init>", desc := "()V" } : Jvm.MethodName)) ∈ lw_all := lw_g (lw_at lw_m10 239 rfl) rfl
theorem q2492 : (Jvm.Cond.methodLink "PluginChains$Host" (162 : Nat) ({ cls := "java/util/TreeSet", name := "add", desc := "(Ljava/lang/Object;)Z" } : Jvm.MethodName)) ∈ lw_all := lw_g (lw_at lw_m11 12 rfl) rfl
theorem q2518 : (Jvm.Cond.methodLink "PluginChains$Host" (163 : Nat) ({ cls := "java/util/TreeSet", name := "isEmpty", desc := "()Z" } : Jvm.MethodName)) ∈ lw_all := lw_g (lw_at lw_m11 38 rfl) rfl
theorem q2573 : (Jvm.Cond.methodLink "PluginChains$Host" (164 : Nat) ({ cls := "java/util/TreeSet", name := "clear", desc := "()V" } : Jvm.MethodName)) ∈ lw_all := lw_g (lw_at lw_m11 93 rfl) rfl
theorem q2947 : (Jvm.Cond.methodLink "PluginChains$Host" (165 : Nat) ({ cls := "PluginChains$Host", name := "lacks", desc := "(I[I)Z" } : Jvm.MethodName)) ∈ lw_all := lw_g (lw_at lw_m12 227 rfl) rfl
theorem q2948 : (Jvm.Cond.privateMethod ({ cls := "PluginChains$Host", name := "lacks", desc := "(I[I)Z" } : Jvm.MethodName)) ∈ lw_tbl := lw_at lw_m12 228 rfl
theorem q2949 : (Jvm.Cond.instanceMethod ({ cls := "PluginChains$Host", name := "lacks", desc := "(I[I)Z" } : Jvm.MethodName)) ∈ lw_all := lw_g (lw_at lw_m12 229 rfl) rfl
theorem q2950 : (Jvm.Cond.code ({ cls := "PluginChains$Host", name := "lacks", desc := "(I[I)Z" } : Jvm.MethodName) prog_16_method_11_code (6 : Nat) (Option.some Jvm.ClassFile.FieldType.boolean)) ∈ lw_all := lw_g (lw_at lw_m12 230 rfl) rfl
theorem q2951 : (Jvm.Cond.methodLink "PluginChains$Host" (169 : Nat) ({ cls := "java/util/TreeSet", name := "iterator", desc := "()Ljava/util/Iterator;" } : Jvm.MethodName)) ∈ lw_all := lw_g (lw_at lw_m12 231 rfl) rfl
theorem q2952 : (Jvm.Cond.interfaceEntry "PluginChains$Host" (173 : Nat)) ∈ lw_tbl := lw_at lw_m12 232 rfl
theorem q2953 : (Jvm.Cond.methodLink "PluginChains$Host" (173 : Nat) ({ cls := "java/util/Iterator", name := "hasNext", desc := "()Z" } : Jvm.MethodName)) ∈ lw_all := lw_g (lw_at lw_m12 233 rfl) rfl
theorem q2954 : (Jvm.Cond.interfaceEntry "PluginChains$Host" (178 : Nat)) ∈ lw_tbl := lw_at lw_m12 234 rfl
theorem q2955 : (Jvm.Cond.methodLink "PluginChains$Host" (178 : Nat) ({ cls := "java/util/Iterator", name := "next", desc := "()Ljava/lang/Object;" } : Jvm.MethodName)) ∈ lw_all := lw_g (lw_at lw_m12 235 rfl) rfl
theorem q2956 : (Jvm.Cond.classLink "PluginChains$Host" (70 : Nat) "java/lang/Integer") ∈ lw_all := lw_g (lw_at lw_m12 236 rfl) rfl
theorem q2957 : (Jvm.Cond.methodLink "PluginChains$Host" (181 : Nat) ({ cls := "java/lang/Integer", name := "intValue", desc := "()I" } : Jvm.MethodName)) ∈ lw_all := lw_g (lw_at lw_m12 237 rfl) rfl
theorem q3480 : (Jvm.Cond.instanceMethod ({ cls := "PluginChains$Host", name := "draw", desc := "(I)I" } : Jvm.MethodName)) ∈ lw_all := lw_g (lw_at lw_m15 40 rfl) rfl
theorem q3481 : (Jvm.Cond.selects "PluginChains$Host" ({ cls := "PluginChains$Host", name := "draw", desc := "(I)I" } : Jvm.MethodName) ({ cls := "PluginChains$Host", name := "draw", desc := "(I)I" } : Jvm.MethodName)) ∈ lw_all := lw_g (lw_at lw_m15 41 rfl) rfl
theorem q3482 : (Jvm.Cond.code ({ cls := "PluginChains$Host", name := "draw", desc := "(I)I" } : Jvm.MethodName) prog_16_method_13_code (2 : Nat) (Option.some Jvm.ClassFile.FieldType.int)) ∈ lw_all := lw_g (lw_at lw_m15 42 rfl) rfl
theorem q3483 : (Jvm.Cond.constant "PluginChains$Host" (184 : Nat) (1103515245 : Int32)) ∈ lw_all := lw_g (lw_at lw_m15 43 rfl) rfl
theorem q4050 : (Jvm.Cond.castable "PluginChains$Host" "java/lang/Object") ∈ lw_tbl := lw_at lw_m17 130 rfl
theorem in_X2 : ∀ w ∈ wsX20, w ∈ lw_all := lw_in wsX20 [285, 287, 289, 291, 293, 295, 297, 299, 301, 303, 305] (by decide +kernel) (by decide +kernel)

/-! PluginChains$Shelf -/
set_option maxRecDepth 100000
def RX3 : String := "PluginChains$Shelf"
def TX3 : u_T := fun k => match k with
  | _ => ("PluginChains$Shelf", "held", "Ljava/lang/Object;", false)
def tyX3 : Nat → FieldType := fun k => match k with
  | _ => .object "java/lang/Object"
abbrev wsX30 : List Cond := u_ws RX3 TX3 1
theorem nmX3 : ∀ a, a < 1 → ∀ b, b < 1 → a ≠ b → (TX3 a).2.1 ≠ (TX3 b).2.1 := by decide +kernel
theorem tyX3_ok : ∀ k, k < 1 → parseFieldDescriptor (TX3 k).2.2.1 = some (tyX3 k) := by decide +kernel
abbrev cX3_init : ByteArray := prog_29_method_1_code
def yX3_init : MethodName := ⟨RX3, "<init>", "()V"⟩
theorem dX3_init_0 : decode cX3_init 0 = .ok (.aload_n 0, 1) := by decide +kernel
theorem dX3_init_1 : decode cX3_init 1 = .ok (.invokespecial 3, 3) := by decide +kernel
theorem dX3_init_4 : decode cX3_init 4 = .ok (.return_, 1) := by decide +kernel
abbrev cX3_row : ByteArray := prog_29_method_2_code
def yX3_row : MethodName := ⟨RX3, "row", "()LPluginChains$Row;"⟩
def dkwX3_row_1 : List UInt8 := [76, 187, 0, 23, 89, 16, 254, 183, 0, 25, 191]
abbrev dktX3_row_1 : List UInt8 := dkwX3_row_1 ++ []
def dkwX3_row_0 : List UInt8 := [42, 180, 0, 9, 192, 0, 15, 76, 43, 198, 0, 7, 4, 167, 0, 4, 3, 16, 253, 184, 0, 17, 43, 176]
abbrev dktX3_row_0 : List UInt8 := dkwX3_row_0 ++ dktX3_row_1
theorem dksX3_row_0 : cX3_row.data.toList.drop 0 = dktX3_row_0 := by decide +kernel
theorem dksX3_row_1 : cX3_row.data.toList.drop 24 = dktX3_row_1 := dk_seg dksX3_row_0 24 rfl rfl
theorem dX3_row_0 : decode cX3_row 0 = .ok (.aload_n 0, 1) := dk_42 (dk_at dksX3_row_0 0 rfl rfl)
theorem dX3_row_1 : decode cX3_row 1 = .ok (.getfield 9, 3) := dk_180 0 9 (dk_at dksX3_row_0 1 rfl rfl)
theorem dX3_row_4 : decode cX3_row 4 = .ok (.checkcast 15, 3) := dk_192 0 15 (dk_at dksX3_row_0 4 rfl rfl)
theorem dX3_row_7 : decode cX3_row 7 = .ok (.astore_n 1, 1) := dk_76 (dk_at dksX3_row_0 7 rfl rfl)
theorem dX3_row_8 : decode cX3_row 8 = .ok (.aload_n 1, 1) := dk_43 (dk_at dksX3_row_0 8 rfl rfl)
theorem dX3_row_9 : decode cX3_row 9 = .ok (.ifnull 7, 3) := dk_198 0 7 (dk_at dksX3_row_0 9 rfl rfl)
theorem dX3_row_12 : decode cX3_row 12 = .ok (.iconst 1, 1) := dk_4 (dk_at dksX3_row_0 12 rfl rfl)
theorem dX3_row_13 : decode cX3_row 13 = .ok (.goto 4, 3) := dk_167 0 4 (dk_at dksX3_row_0 13 rfl rfl)
theorem dX3_row_16 : decode cX3_row 16 = .ok (.iconst 0, 1) := dk_3 (dk_at dksX3_row_0 16 rfl rfl)
theorem dX3_row_17 : decode cX3_row 17 = .ok (.bipush (-3), 2) := dk_16 253 (dk_at dksX3_row_0 17 rfl rfl)
theorem dX3_row_19 : decode cX3_row 19 = .ok (.invokestatic 17, 3) := dk_184 0 17 (dk_at dksX3_row_0 19 rfl rfl)
theorem dX3_row_22 : decode cX3_row 22 = .ok (.aload_n 1, 1) := dk_43 (dk_at dksX3_row_0 22 rfl rfl)
theorem dX3_row_23 : decode cX3_row 23 = .ok (.areturn, 1) := dk_176 (dk_at dksX3_row_0 23 rfl rfl)
theorem dX3_row_24 : decode cX3_row 24 = .ok (.astore_n 1, 1) := dk_76 (dk_at dksX3_row_1 0 rfl rfl)
theorem dX3_row_25 : decode cX3_row 25 = .ok (.new 23, 3) := dk_187 0 23 (dk_at dksX3_row_1 1 rfl rfl)
theorem dX3_row_28 : decode cX3_row 28 = .ok (.dup, 1) := dk_89 (dk_at dksX3_row_1 4 rfl rfl)
theorem dX3_row_29 : decode cX3_row 29 = .ok (.bipush (-2), 2) := dk_16 254 (dk_at dksX3_row_1 5 rfl rfl)
theorem dX3_row_31 : decode cX3_row 31 = .ok (.invokespecial 25, 3) := dk_183 0 25 (dk_at dksX3_row_1 7 rfl rfl)
theorem dX3_row_34 : decode cX3_row 34 = .ok (.athrow, 1) := dk_191 (dk_at dksX3_row_1 10 rfl rfl)
abbrev cX3_holdsPlug : ByteArray := prog_29_method_3_code
def yX3_holdsPlug : MethodName := ⟨RX3, "holdsPlug", "()Z"⟩
def dkwX3_holdsPlug_0 : List UInt8 := [42, 180, 0, 9, 193, 0, 28, 172]
abbrev dktX3_holdsPlug_0 : List UInt8 := dkwX3_holdsPlug_0 ++ []
theorem dksX3_holdsPlug_0 : cX3_holdsPlug.data.toList.drop 0 = dktX3_holdsPlug_0 := by decide +kernel
theorem dX3_holdsPlug_0 : decode cX3_holdsPlug 0 = .ok (.aload_n 0, 1) := dk_42 (dk_at dksX3_holdsPlug_0 0 rfl rfl)
theorem dX3_holdsPlug_1 : decode cX3_holdsPlug 1 = .ok (.getfield 9, 3) := dk_180 0 9 (dk_at dksX3_holdsPlug_0 1 rfl rfl)
theorem dX3_holdsPlug_4 : decode cX3_holdsPlug 4 = .ok (.instanceof 28, 3) := dk_193 0 28 (dk_at dksX3_holdsPlug_0 4 rfl rfl)
theorem dX3_holdsPlug_7 : decode cX3_holdsPlug 7 = .ok (.ireturn, 1) := dk_172 (dk_at dksX3_holdsPlug_0 7 rfl rfl)
abbrev cX3_says : ByteArray := prog_29_method_4_code
def yX3_says : MethodName := ⟨RX3, "says", "(I)I"⟩
def dkwX3_says_8 : List UInt8 := [184, 0, 17, 28, 172, 77, 187, 0, 23, 89, 16, 254, 183, 0, 25, 191]
abbrev dktX3_says_8 : List UInt8 := dkwX3_says_8 ++ []
def dkwX3_says_7 : List UInt8 := [180, 0, 9, 192, 0, 28, 180, 0, 47, 61, 42, 180, 0, 9, 198, 0, 7, 4, 167, 0, 4, 3, 16, 253]
abbrev dktX3_says_7 : List UInt8 := dkwX3_says_7 ++ dktX3_says_8
def dkwX3_says_6 : List UInt8 := [192, 0, 44, 182, 0, 46, 61, 167, 0, 25, 42, 180, 0, 9, 199, 0, 7, 2, 167, 0, 13, 42]
abbrev dktX3_says_6 : List UInt8 := dkwX3_says_6 ++ dktX3_says_7
def dkwX3_says_5 : List UInt8 := [182, 0, 43, 61, 167, 0, 50, 42, 180, 0, 9, 199, 0, 7, 2, 167, 0, 13, 42, 180, 0, 9]
abbrev dktX3_says_5 : List UInt8 := dkwX3_says_5 ++ dktX3_says_6
def dkwX3_says_4 : List UInt8 := [61, 167, 0, 75, 42, 180, 0, 9, 199, 0, 7, 2, 167, 0, 13, 42, 180, 0, 9, 192, 0, 41]
abbrev dktX3_says_4 : List UInt8 := dkwX3_says_4 ++ dktX3_says_5
def dkwX3_says_3 : List UInt8 := [167, 0, 100, 42, 180, 0, 9, 199, 0, 7, 2, 167, 0, 13, 42, 180, 0, 9, 192, 0, 36, 182, 0, 38]
abbrev dktX3_says_3 : List UInt8 := dkwX3_says_3 ++ dktX3_says_4
def dkwX3_says_2 : List UInt8 := [42, 180, 0, 9, 199, 0, 7, 2, 167, 0, 13, 42, 180, 0, 9, 192, 0, 30, 182, 0, 32, 61]
abbrev dktX3_says_2 : List UInt8 := dkwX3_says_2 ++ dktX3_says_3
def dkwX3_says_1 : List UInt8 := [170, 0, 0, 0, 0, 0, 131, 0, 0, 0, 1, 0, 0, 0, 4, 0, 0, 0, 31, 0, 0, 0, 56, 0, 0, 0, 81, 0, 0, 0, 106]
abbrev dktX3_says_1 : List UInt8 := dkwX3_says_1 ++ dktX3_says_2
def dkwX3_says_0 : List UInt8 := [27]
abbrev dktX3_says_0 : List UInt8 := dkwX3_says_0 ++ dktX3_says_1
theorem dksX3_says_0 : cX3_says.data.toList.drop 0 = dktX3_says_0 := by decide +kernel
theorem dksX3_says_1 : cX3_says.data.toList.drop 1 = dktX3_says_1 := dk_seg dksX3_says_0 1 rfl rfl
theorem dksX3_says_2 : cX3_says.data.toList.drop 32 = dktX3_says_2 := dk_seg dksX3_says_1 31 rfl rfl
theorem dksX3_says_3 : cX3_says.data.toList.drop 54 = dktX3_says_3 := dk_seg dksX3_says_2 22 rfl rfl
theorem dksX3_says_4 : cX3_says.data.toList.drop 78 = dktX3_says_4 := dk_seg dksX3_says_3 24 rfl rfl
theorem dksX3_says_5 : cX3_says.data.toList.drop 100 = dktX3_says_5 := dk_seg dksX3_says_4 22 rfl rfl
theorem dksX3_says_6 : cX3_says.data.toList.drop 122 = dktX3_says_6 := dk_seg dksX3_says_5 22 rfl rfl
theorem dksX3_says_7 : cX3_says.data.toList.drop 144 = dktX3_says_7 := dk_seg dksX3_says_6 22 rfl rfl
theorem dksX3_says_8 : cX3_says.data.toList.drop 168 = dktX3_says_8 := dk_seg dksX3_says_7 24 rfl rfl
theorem dX3_says_0 : decode cX3_says 0 = .ok (.iload_n 1, 1) := dk_27 (dk_at dksX3_says_0 0 rfl rfl)
theorem dX3_says_1 : decode cX3_says 1 = .ok (.tableswitch 131 1 4 #[31, 56, 81, 106], 31) := by decide +kernel
theorem dX3_says_32 : decode cX3_says 32 = .ok (.aload_n 0, 1) := dk_42 (dk_at dksX3_says_2 0 rfl rfl)
theorem dX3_says_33 : decode cX3_says 33 = .ok (.getfield 9, 3) := dk_180 0 9 (dk_at dksX3_says_2 1 rfl rfl)
theorem dX3_says_36 : decode cX3_says 36 = .ok (.ifnonnull 7, 3) := dk_199 0 7 (dk_at dksX3_says_2 4 rfl rfl)
theorem dX3_says_39 : decode cX3_says 39 = .ok (.iconst (-1), 1) := dk_2 (dk_at dksX3_says_2 7 rfl rfl)
theorem dX3_says_40 : decode cX3_says 40 = .ok (.goto 13, 3) := dk_167 0 13 (dk_at dksX3_says_2 8 rfl rfl)
theorem dX3_says_43 : decode cX3_says 43 = .ok (.aload_n 0, 1) := dk_42 (dk_at dksX3_says_2 11 rfl rfl)
theorem dX3_says_44 : decode cX3_says 44 = .ok (.getfield 9, 3) := dk_180 0 9 (dk_at dksX3_says_2 12 rfl rfl)
theorem dX3_says_47 : decode cX3_says 47 = .ok (.checkcast 30, 3) := dk_192 0 30 (dk_at dksX3_says_2 15 rfl rfl)
theorem dX3_says_50 : decode cX3_says 50 = .ok (.invokevirtual 32, 3) := dk_182 0 32 (dk_at dksX3_says_2 18 rfl rfl)
theorem dX3_says_53 : decode cX3_says 53 = .ok (.istore_n 2, 1) := dk_61 (dk_at dksX3_says_2 21 rfl rfl)
theorem dX3_says_54 : decode cX3_says 54 = .ok (.goto 100, 3) := dk_167 0 100 (dk_at dksX3_says_3 0 rfl rfl)
theorem dX3_says_57 : decode cX3_says 57 = .ok (.aload_n 0, 1) := dk_42 (dk_at dksX3_says_3 3 rfl rfl)
theorem dX3_says_58 : decode cX3_says 58 = .ok (.getfield 9, 3) := dk_180 0 9 (dk_at dksX3_says_3 4 rfl rfl)
theorem dX3_says_61 : decode cX3_says 61 = .ok (.ifnonnull 7, 3) := dk_199 0 7 (dk_at dksX3_says_3 7 rfl rfl)
theorem dX3_says_64 : decode cX3_says 64 = .ok (.iconst (-1), 1) := dk_2 (dk_at dksX3_says_3 10 rfl rfl)
theorem dX3_says_65 : decode cX3_says 65 = .ok (.goto 13, 3) := dk_167 0 13 (dk_at dksX3_says_3 11 rfl rfl)
theorem dX3_says_68 : decode cX3_says 68 = .ok (.aload_n 0, 1) := dk_42 (dk_at dksX3_says_3 14 rfl rfl)
theorem dX3_says_69 : decode cX3_says 69 = .ok (.getfield 9, 3) := dk_180 0 9 (dk_at dksX3_says_3 15 rfl rfl)
theorem dX3_says_72 : decode cX3_says 72 = .ok (.checkcast 36, 3) := dk_192 0 36 (dk_at dksX3_says_3 18 rfl rfl)
theorem dX3_says_75 : decode cX3_says 75 = .ok (.invokevirtual 38, 3) := dk_182 0 38 (dk_at dksX3_says_3 21 rfl rfl)
theorem dX3_says_78 : decode cX3_says 78 = .ok (.istore_n 2, 1) := dk_61 (dk_at dksX3_says_4 0 rfl rfl)
theorem dX3_says_79 : decode cX3_says 79 = .ok (.goto 75, 3) := dk_167 0 75 (dk_at dksX3_says_4 1 rfl rfl)
theorem dX3_says_82 : decode cX3_says 82 = .ok (.aload_n 0, 1) := dk_42 (dk_at dksX3_says_4 4 rfl rfl)
theorem dX3_says_83 : decode cX3_says 83 = .ok (.getfield 9, 3) := dk_180 0 9 (dk_at dksX3_says_4 5 rfl rfl)
theorem dX3_says_86 : decode cX3_says 86 = .ok (.ifnonnull 7, 3) := dk_199 0 7 (dk_at dksX3_says_4 8 rfl rfl)
theorem dX3_says_89 : decode cX3_says 89 = .ok (.iconst (-1), 1) := dk_2 (dk_at dksX3_says_4 11 rfl rfl)
theorem dX3_says_90 : decode cX3_says 90 = .ok (.goto 13, 3) := dk_167 0 13 (dk_at dksX3_says_4 12 rfl rfl)
theorem dX3_says_93 : decode cX3_says 93 = .ok (.aload_n 0, 1) := dk_42 (dk_at dksX3_says_4 15 rfl rfl)
theorem dX3_says_94 : decode cX3_says 94 = .ok (.getfield 9, 3) := dk_180 0 9 (dk_at dksX3_says_4 16 rfl rfl)
theorem dX3_says_97 : decode cX3_says 97 = .ok (.checkcast 41, 3) := dk_192 0 41 (dk_at dksX3_says_4 19 rfl rfl)
theorem dX3_says_100 : decode cX3_says 100 = .ok (.invokevirtual 43, 3) := dk_182 0 43 (dk_at dksX3_says_5 0 rfl rfl)
theorem dX3_says_103 : decode cX3_says 103 = .ok (.istore_n 2, 1) := dk_61 (dk_at dksX3_says_5 3 rfl rfl)
theorem dX3_says_104 : decode cX3_says 104 = .ok (.goto 50, 3) := dk_167 0 50 (dk_at dksX3_says_5 4 rfl rfl)
theorem dX3_says_107 : decode cX3_says 107 = .ok (.aload_n 0, 1) := dk_42 (dk_at dksX3_says_5 7 rfl rfl)
theorem dX3_says_108 : decode cX3_says 108 = .ok (.getfield 9, 3) := dk_180 0 9 (dk_at dksX3_says_5 8 rfl rfl)
theorem dX3_says_111 : decode cX3_says 111 = .ok (.ifnonnull 7, 3) := dk_199 0 7 (dk_at dksX3_says_5 11 rfl rfl)
theorem dX3_says_114 : decode cX3_says 114 = .ok (.iconst (-1), 1) := dk_2 (dk_at dksX3_says_5 14 rfl rfl)
theorem dX3_says_115 : decode cX3_says 115 = .ok (.goto 13, 3) := dk_167 0 13 (dk_at dksX3_says_5 15 rfl rfl)
theorem dX3_says_118 : decode cX3_says 118 = .ok (.aload_n 0, 1) := dk_42 (dk_at dksX3_says_5 18 rfl rfl)
theorem dX3_says_119 : decode cX3_says 119 = .ok (.getfield 9, 3) := dk_180 0 9 (dk_at dksX3_says_5 19 rfl rfl)
theorem dX3_says_122 : decode cX3_says 122 = .ok (.checkcast 44, 3) := dk_192 0 44 (dk_at dksX3_says_6 0 rfl rfl)
theorem dX3_says_125 : decode cX3_says 125 = .ok (.invokevirtual 46, 3) := dk_182 0 46 (dk_at dksX3_says_6 3 rfl rfl)
theorem dX3_says_128 : decode cX3_says 128 = .ok (.istore_n 2, 1) := dk_61 (dk_at dksX3_says_6 6 rfl rfl)
theorem dX3_says_129 : decode cX3_says 129 = .ok (.goto 25, 3) := dk_167 0 25 (dk_at dksX3_says_6 7 rfl rfl)
theorem dX3_says_132 : decode cX3_says 132 = .ok (.aload_n 0, 1) := dk_42 (dk_at dksX3_says_6 10 rfl rfl)
theorem dX3_says_133 : decode cX3_says 133 = .ok (.getfield 9, 3) := dk_180 0 9 (dk_at dksX3_says_6 11 rfl rfl)
theorem dX3_says_136 : decode cX3_says 136 = .ok (.ifnonnull 7, 3) := dk_199 0 7 (dk_at dksX3_says_6 14 rfl rfl)
theorem dX3_says_139 : decode cX3_says 139 = .ok (.iconst (-1), 1) := dk_2 (dk_at dksX3_says_6 17 rfl rfl)
theorem dX3_says_140 : decode cX3_says 140 = .ok (.goto 13, 3) := dk_167 0 13 (dk_at dksX3_says_6 18 rfl rfl)
theorem dX3_says_143 : decode cX3_says 143 = .ok (.aload_n 0, 1) := dk_42 (dk_at dksX3_says_6 21 rfl rfl)
theorem dX3_says_144 : decode cX3_says 144 = .ok (.getfield 9, 3) := dk_180 0 9 (dk_at dksX3_says_7 0 rfl rfl)
theorem dX3_says_147 : decode cX3_says 147 = .ok (.checkcast 28, 3) := dk_192 0 28 (dk_at dksX3_says_7 3 rfl rfl)
theorem dX3_says_150 : decode cX3_says 150 = .ok (.getfield 47, 3) := dk_180 0 47 (dk_at dksX3_says_7 6 rfl rfl)
theorem dX3_says_153 : decode cX3_says 153 = .ok (.istore_n 2, 1) := dk_61 (dk_at dksX3_says_7 9 rfl rfl)
theorem dX3_says_154 : decode cX3_says 154 = .ok (.aload_n 0, 1) := dk_42 (dk_at dksX3_says_7 10 rfl rfl)
theorem dX3_says_155 : decode cX3_says 155 = .ok (.getfield 9, 3) := dk_180 0 9 (dk_at dksX3_says_7 11 rfl rfl)
theorem dX3_says_158 : decode cX3_says 158 = .ok (.ifnull 7, 3) := dk_198 0 7 (dk_at dksX3_says_7 14 rfl rfl)
theorem dX3_says_161 : decode cX3_says 161 = .ok (.iconst 1, 1) := dk_4 (dk_at dksX3_says_7 17 rfl rfl)
theorem dX3_says_162 : decode cX3_says 162 = .ok (.goto 4, 3) := dk_167 0 4 (dk_at dksX3_says_7 18 rfl rfl)
theorem dX3_says_165 : decode cX3_says 165 = .ok (.iconst 0, 1) := dk_3 (dk_at dksX3_says_7 21 rfl rfl)
theorem dX3_says_166 : decode cX3_says 166 = .ok (.bipush (-3), 2) := dk_16 253 (dk_at dksX3_says_7 22 rfl rfl)
theorem dX3_says_168 : decode cX3_says 168 = .ok (.invokestatic 17, 3) := dk_184 0 17 (dk_at dksX3_says_8 0 rfl rfl)
theorem dX3_says_171 : decode cX3_says 171 = .ok (.iload_n 2, 1) := dk_28 (dk_at dksX3_says_8 3 rfl rfl)
theorem dX3_says_172 : decode cX3_says 172 = .ok (.ireturn, 1) := dk_172 (dk_at dksX3_says_8 4 rfl rfl)
theorem dX3_says_173 : decode cX3_says 173 = .ok (.astore_n 2, 1) := dk_77 (dk_at dksX3_says_8 5 rfl rfl)
theorem dX3_says_174 : decode cX3_says 174 = .ok (.new 23, 3) := dk_187 0 23 (dk_at dksX3_says_8 6 rfl rfl)
theorem dX3_says_177 : decode cX3_says 177 = .ok (.dup, 1) := dk_89 (dk_at dksX3_says_8 9 rfl rfl)
theorem dX3_says_178 : decode cX3_says 178 = .ok (.bipush (-2), 2) := dk_16 254 (dk_at dksX3_says_8 10 rfl rfl)
theorem dX3_says_180 : decode cX3_says 180 = .ok (.invokespecial 25, 3) := dk_183 0 25 (dk_at dksX3_says_8 12 rfl rfl)
theorem dX3_says_183 : decode cX3_says 183 = .ok (.athrow, 1) := dk_191 (dk_at dksX3_says_8 15 rfl rfl)
theorem q86 : (Jvm.Cond.initialized "PluginChains$Shelf") ∈ lw_all := lw_g (lw_at lw_m1 6 rfl) rfl
theorem q308 : (Jvm.Cond.instantiable "PluginChains$Shelf" (1 : Nat)) ∈ lw_all := lw_g (lw_at lw_m1 228 rfl) rfl
theorem q310 : (Jvm.Cond.instanceMethod ({ cls := "PluginChains$Shelf", name := "<init>", desc := "()V" } : Jvm.MethodName)) ∈ lw_all := lw_g (lw_at lw_m1 230 rfl) rfl
theorem q311 : (Jvm.Cond.code ({ cls := "PluginChains$Shelf", name := "<init>", desc := "()V" } : Jvm.MethodName) prog_29_method_1_code (1 : Nat) (Option.none : Option Jvm.ClassFile.FieldType)) ∈ lw_all := lw_g (lw_at lw_m1 231 rfl) rfl
theorem q312 : (Jvm.Cond.methodLink "PluginChains$Shelf" (3 : Nat) ({ cls := "java/lang/Object", name := "<init>", desc := "()V" } : Jvm.MethodName)) ∈ lw_all := lw_g (lw_at lw_m1 232 rfl) rfl
theorem q313 : (Jvm.Cond.fieldLink "PluginChains$Shelf" (9 : Nat) "PluginChains$Shelf" "held" "Ljava/lang/Object;") ∈ lw_all := lw_g (lw_at lw_m1 233 rfl) rfl
theorem q315 : (Jvm.Cond.lays "PluginChains$Shelf" "PluginChains$Shelf" "held" "Ljava/lang/Object;") ∈ lw_all := lw_g (lw_at lw_m1 235 rfl) rfl
theorem q316 : (Jvm.Cond.soleField "PluginChains$Shelf" "held") ∈ lw_all := lw_g (lw_at lw_m1 236 rfl) rfl
theorem q317 : (Jvm.Cond.superclass "PluginChains$Shelf" "java/lang/Object") ∈ lw_all := lw_g (lw_at lw_m1 237 rfl) rfl
theorem q602 : (Jvm.Cond.instanceMethod ({ cls := "PluginChains$Shelf", name := "row", desc := "()LPluginChains$Row;" } : Jvm.MethodName)) ∈ lw_all := lw_g (lw_at lw_m3 42 rfl) rfl
theorem q603 : (Jvm.Cond.selects "PluginChains$Shelf" ({ cls := "PluginChains$Shelf", name := "row", desc := "()LPluginChains$Row;" } : Jvm.MethodName) ({ cls := "PluginChains$Shelf", name := "row", desc := "()LPluginChains$Row;" } : Jvm.MethodName)) ∈ lw_all := lw_g (lw_at lw_m3 43 rfl) rfl
theorem q604 : (Jvm.Cond.codeWith ({ cls := "PluginChains$Shelf", name := "row", desc := "()LPluginChains$Row;" } : Jvm.MethodName) prog_29_method_2_code (2 : Nat) (Option.some (Jvm.ClassFile.FieldType.object "PluginChains$Row")) [((0 : Nat), (23 : Nat), (24 : Nat), (21 : Nat))]) ∈ lw_all := lw_g (lw_at lw_m3 44 rfl) rfl
theorem q605 : (Jvm.Cond.classLink "PluginChains$Shelf" (21 : Nat) "java/lang/ClassCastException") ∈ lw_all := lw_g (lw_at lw_m3 45 rfl) rfl
theorem q619 : (Jvm.Cond.classLink "PluginChains$Shelf" (15 : Nat) "PluginChains$Row") ∈ lw_all := lw_g (lw_at lw_m3 59 rfl) rfl
theorem q620 : (Jvm.Cond.methodLink "PluginChains$Shelf" (17 : Nat) ({ cls := "PluginChains", name := "need", desc := "(ZI)V" } : Jvm.MethodName)) ∈ lw_all := lw_g (lw_at lw_m3 60 rfl) rfl
theorem q621 : (Jvm.Cond.classLink "PluginChains$Shelf" (23 : Nat) "PluginChains$Refused") ∈ lw_all := lw_g (lw_at lw_m3 61 rfl) rfl
theorem q622 : (Jvm.Cond.methodLink "PluginChains$Shelf" (25 : Nat) ({ cls := "PluginChains$Refused", name := "<init>", desc := "(I)V" } : Jvm.MethodName)) ∈ lw_all := lw_g (lw_at lw_m3 62 rfl) rfl
theorem q644 : (Jvm.Cond.instanceMethod ({ cls := "PluginChains$Shelf", name := "holdsPlug", desc := "()Z" } : Jvm.MethodName)) ∈ lw_all := lw_g (lw_at lw_m3 84 rfl) rfl
theorem q645 : (Jvm.Cond.selects "PluginChains$Shelf" ({ cls := "PluginChains$Shelf", name := "holdsPlug", desc := "()Z" } : Jvm.MethodName) ({ cls := "PluginChains$Shelf", name := "holdsPlug", desc := "()Z" } : Jvm.MethodName)) ∈ lw_all := lw_g (lw_at lw_m3 85 rfl) rfl
theorem q646 : (Jvm.Cond.code ({ cls := "PluginChains$Shelf", name := "holdsPlug", desc := "()Z" } : Jvm.MethodName) prog_29_method_3_code (1 : Nat) (Option.some Jvm.ClassFile.FieldType.boolean)) ∈ lw_all := lw_g (lw_at lw_m3 86 rfl) rfl
theorem q647 : (Jvm.Cond.classLink "PluginChains$Shelf" (28 : Nat) "PluginChains$Plain") ∈ lw_all := lw_g (lw_at lw_m3 87 rfl) rfl
theorem q724 : (Jvm.Cond.instanceMethod ({ cls := "PluginChains$Shelf", name := "says", desc := "(I)I" } : Jvm.MethodName)) ∈ lw_all := lw_g (lw_at lw_m3 164 rfl) rfl
theorem q725 : (Jvm.Cond.selects "PluginChains$Shelf" ({ cls := "PluginChains$Shelf", name := "says", desc := "(I)I" } : Jvm.MethodName) ({ cls := "PluginChains$Shelf", name := "says", desc := "(I)I" } : Jvm.MethodName)) ∈ lw_all := lw_g (lw_at lw_m3 165 rfl) rfl
theorem q726 : (Jvm.Cond.codeWith ({ cls := "PluginChains$Shelf", name := "says", desc := "(I)I" } : Jvm.MethodName) prog_29_method_4_code (3 : Nat) (Option.some Jvm.ClassFile.FieldType.int) [((0 : Nat), (172 : Nat), (173 : Nat), (21 : Nat))]) ∈ lw_all := lw_g (lw_at lw_m3 166 rfl) rfl
theorem q727 : (Jvm.Cond.classLink "PluginChains$Shelf" (30 : Nat) "PluginChains$Eager") ∈ lw_all := lw_g (lw_at lw_m3 167 rfl) rfl
theorem q728 : (Jvm.Cond.methodLink "PluginChains$Shelf" (32 : Nat) ({ cls := "PluginChains$Eager", name := "many", desc := "()I" } : Jvm.MethodName)) ∈ lw_all := lw_g (lw_at lw_m3 168 rfl) rfl
theorem q740 : (Jvm.Cond.classLink "PluginChains$Shelf" (36 : Nat) "PluginChains$Steady") ∈ lw_all := lw_g (lw_at lw_m3 180 rfl) rfl
theorem q741 : (Jvm.Cond.methodLink "PluginChains$Shelf" (38 : Nat) ({ cls := "PluginChains$Steady", name := "strength", desc := "()I" } : Jvm.MethodName)) ∈ lw_all := lw_g (lw_at lw_m3 181 rfl) rfl
theorem q758 : (Jvm.Cond.classLink "PluginChains$Shelf" (41 : Nat) "PluginChains$Keen") ∈ lw_all := lw_g (lw_at lw_m3 198 rfl) rfl
theorem q759 : (Jvm.Cond.methodLink "PluginChains$Shelf" (43 : Nat) ({ cls := "PluginChains$Keen", name := "many", desc := "()I" } : Jvm.MethodName)) ∈ lw_all := lw_g (lw_at lw_m3 199 rfl) rfl
theorem q763 : (Jvm.Cond.classLink "PluginChains$Shelf" (44 : Nat) "PluginChains$Sound") ∈ lw_all := lw_g (lw_at lw_m3 203 rfl) rfl
theorem q764 : (Jvm.Cond.methodLink "PluginChains$Shelf" (46 : Nat) ({ cls := "PluginChains$Sound", name := "strength", desc := "()I" } : Jvm.MethodName)) ∈ lw_all := lw_g (lw_at lw_m3 204 rfl) rfl
theorem q1324 : (Jvm.Cond.selects "PluginChains$Shelf" ({ cls := "java/lang/Object", name := "getClass", desc := "()Ljava/lang/Class;" } : Jvm.MethodName) ({ cls := "java/lang/Object", name := "getClass", desc := "()Ljava/lang/Class;" } : Jvm.MethodName)) ∈ lw_all := lw_g (lw_at lw_m6 44 rfl) rfl
theorem q1424 : (Jvm.Cond.fieldLink "PluginChains$Shelf" (47 : Nat) "PluginChains$Plain" "rank" "I") ∈ lw_all := lw_g (lw_at lw_m6 144 rfl) rfl
theorem q4043 : (Jvm.Cond.castable "PluginChains$Shelf" "java/lang/Object") ∈ lw_tbl := lw_at lw_m17 123 rfl
theorem in_X3 : ∀ w ∈ wsX30, w ∈ lw_all := lw_in wsX30 [315] (by decide +kernel) (by decide +kernel)

/-! PluginChains$Doing -/
set_option maxRecDepth 100000
def RX4 : String := "PluginChains$Doing"
def TX4 : u_T := fun k => match k with
  | _ => ("PluginChains$Doing", "act", "LPluginChains$Act;", true)
def tyX4 : Nat → FieldType := fun k => match k with
  | _ => .object "PluginChains$Act"
abbrev wsX40 : List Cond := u_ws RX4 TX4 1
theorem nmX4 : ∀ a, a < 1 → ∀ b, b < 1 → a ≠ b → (TX4 a).2.1 ≠ (TX4 b).2.1 := by decide +kernel
theorem tyX4_ok : ∀ k, k < 1 → parseFieldDescriptor (TX4 k).2.2.1 = some (tyX4 k) := by decide +kernel
abbrev cX4_init : ByteArray := prog_9_method_1_code
def yX4_init : MethodName := ⟨RX4, "<init>", "(LPluginChains$Act;)V"⟩
def dkwX4_init_0 : List UInt8 := [42, 183, 0, 1, 42, 43, 181, 0, 7, 177]
abbrev dktX4_init_0 : List UInt8 := dkwX4_init_0 ++ []
theorem dksX4_init_0 : cX4_init.data.toList.drop 0 = dktX4_init_0 := by decide +kernel
theorem dX4_init_0 : decode cX4_init 0 = .ok (.aload_n 0, 1) := dk_42 (dk_at dksX4_init_0 0 rfl rfl)
theorem dX4_init_1 : decode cX4_init 1 = .ok (.invokespecial 1, 3) := dk_183 0 1 (dk_at dksX4_init_0 1 rfl rfl)
theorem dX4_init_4 : decode cX4_init 4 = .ok (.aload_n 0, 1) := dk_42 (dk_at dksX4_init_0 4 rfl rfl)
theorem dX4_init_5 : decode cX4_init 5 = .ok (.aload_n 1, 1) := dk_43 (dk_at dksX4_init_0 5 rfl rfl)
theorem dX4_init_6 : decode cX4_init 6 = .ok (.putfield 7, 3) := dk_181 0 7 (dk_at dksX4_init_0 6 rfl rfl)
theorem dX4_init_9 : decode cX4_init 9 = .ok (.return_, 1) := dk_177 (dk_at dksX4_init_0 9 rfl rfl)
theorem q87 : (Jvm.Cond.initialized "PluginChains$Doing") ∈ lw_all := lw_g (lw_at lw_m1 7 rfl) rfl
theorem q318 : (Jvm.Cond.instantiable "PluginChains$Doing" (1 : Nat)) ∈ lw_all := lw_g (lw_at lw_m1 238 rfl) rfl
theorem q326 : (Jvm.Cond.instanceMethod ({ cls := "PluginChains$Doing", name := "<init>", desc := "(LPluginChains$Act;)V" } : Jvm.MethodName)) ∈ lw_all := lw_g (lw_at lw_m2 6 rfl) rfl
theorem q327 : (Jvm.Cond.code ({ cls := "PluginChains$Doing", name := "<init>", desc := "(LPluginChains$Act;)V" } : Jvm.MethodName) prog_9_method_1_code (2 : Nat) (Option.none : Option Jvm.ClassFile.FieldType)) ∈ lw_all := lw_g (lw_at lw_m2 7 rfl) rfl
theorem q328 : (Jvm.Cond.methodLink "PluginChains$Doing" (1 : Nat) ({ cls := "java/lang/Object", name := "<init>", desc := "()V" } : Jvm.MethodName)) ∈ lw_all := lw_g (lw_at lw_m2 8 rfl) rfl
theorem q329 : (Jvm.Cond.fieldLink "PluginChains$Doing" (7 : Nat) "PluginChains$Doing" "act" "LPluginChains$Act;") ∈ lw_all := lw_g (lw_at lw_m2 9 rfl) rfl
theorem q331 : (Jvm.Cond.laysFinal "PluginChains$Doing" "PluginChains$Doing" "act" "LPluginChains$Act;") ∈ lw_all := lw_g (lw_at lw_m2 11 rfl) rfl
theorem q332 : (Jvm.Cond.soleField "PluginChains$Doing" "act") ∈ lw_all := lw_g (lw_at lw_m2 12 rfl) rfl
theorem q333 : (Jvm.Cond.superclass "PluginChains$Doing" "java/lang/Object") ∈ lw_all := lw_g (lw_at lw_m2 13 rfl) rfl
theorem q1307 : (Jvm.Cond.selects "PluginChains$Doing" ({ cls := "java/lang/Object", name := "getClass", desc := "()Ljava/lang/Class;" } : Jvm.MethodName) ({ cls := "java/lang/Object", name := "getClass", desc := "()Ljava/lang/Class;" } : Jvm.MethodName)) ∈ lw_all := lw_g (lw_at lw_m6 27 rfl) rfl
theorem q4044 : (Jvm.Cond.castable "PluginChains$Doing" "java/lang/Object") ∈ lw_tbl := lw_at lw_m17 124 rfl
theorem in_X4 : ∀ w ∈ wsX40, w ∈ lw_all := lw_in wsX40 [331] (by decide +kernel) (by decide +kernel)

/-! PluginChains$Refused -/
set_option maxRecDepth 100000
def RX6 : String := "PluginChains$Refused"
def TX6 : u_T := fun k => match k with
  | 0 => ("java/lang/Throwable", "cause", "Ljava/lang/Throwable;", false)
  | 1 => ("java/lang/Throwable", "stackTrace", "[Ljava/lang/StackTraceElement;", false)
  | 2 => ("java/lang/Throwable", "suppressedExceptions", "Ljava/util/List;", false)
  | 3 => ("java/lang/Throwable", "detailMessage", "Ljava/lang/String;", false)
  | 4 => ("java/lang/Throwable", "backtrace", "Ljava/lang/Object;", false)
  | 5 => ("java/lang/Throwable", "depth", "I", false)
  | _ => ("PluginChains$Refused", "why", "I", true)
def tyX6 : Nat → FieldType := fun k => match k with
  | 0 => .object "java/lang/Throwable"
  | 1 => .array (.object "java/lang/StackTraceElement")
  | 2 => .object "java/util/List"
  | 3 => .object "java/lang/String"
  | 4 => .object "java/lang/Object"
  | 5 => .int
  | _ => .int
abbrev wsX60 : List Cond := u_ws RX6 TX6 7
theorem nmX6 : ∀ a, a < 7 → ∀ b, b < 7 → a ≠ b → (TX6 a).2.1 ≠ (TX6 b).2.1 := by decide +kernel
theorem tyX6_ok : ∀ k, k < 7 → parseFieldDescriptor (TX6 k).2.2.1 = some (tyX6 k) := by decide +kernel
abbrev cX6_init : ByteArray := prog_25_method_1_code
def yX6_init : MethodName := ⟨RX6, "<init>", "(I)V"⟩
def dkwX6_init_0 : List UInt8 := [42, 1, 1, 3, 3, 183, 0, 1, 42, 27, 181, 0, 7, 177]
abbrev dktX6_init_0 : List UInt8 := dkwX6_init_0 ++ []
theorem dksX6_init_0 : cX6_init.data.toList.drop 0 = dktX6_init_0 := by decide +kernel
theorem dX6_init_0 : decode cX6_init 0 = .ok (.aload_n 0, 1) := dk_42 (dk_at dksX6_init_0 0 rfl rfl)
theorem dX6_init_1 : decode cX6_init 1 = .ok (.aconst_null, 1) := dk_1 (dk_at dksX6_init_0 1 rfl rfl)
theorem dX6_init_2 : decode cX6_init 2 = .ok (.aconst_null, 1) := dk_1 (dk_at dksX6_init_0 2 rfl rfl)
theorem dX6_init_3 : decode cX6_init 3 = .ok (.iconst 0, 1) := dk_3 (dk_at dksX6_init_0 3 rfl rfl)
theorem dX6_init_4 : decode cX6_init 4 = .ok (.iconst 0, 1) := dk_3 (dk_at dksX6_init_0 4 rfl rfl)
theorem dX6_init_5 : decode cX6_init 5 = .ok (.invokespecial 1, 3) := dk_183 0 1 (dk_at dksX6_init_0 5 rfl rfl)
theorem dX6_init_8 : decode cX6_init 8 = .ok (.aload_n 0, 1) := dk_42 (dk_at dksX6_init_0 8 rfl rfl)
theorem dX6_init_9 : decode cX6_init 9 = .ok (.iload_n 1, 1) := dk_27 (dk_at dksX6_init_0 9 rfl rfl)
theorem dX6_init_10 : decode cX6_init 10 = .ok (.putfield 7, 3) := dk_181 0 7 (dk_at dksX6_init_0 10 rfl rfl)
theorem dX6_init_13 : decode cX6_init 13 = .ok (.return_, 1) := dk_177 (dk_at dksX6_init_0 13 rfl rfl)
theorem q96 : (Jvm.Cond.initialized "PluginChains$Refused") ∈ lw_all := lw_g (lw_at lw_m1 16 rfl) rfl
theorem q446 : (Jvm.Cond.selects "PluginChains$Refused" ({ cls := "java/lang/Throwable", name := "fillInStackTrace", desc := "()Ljava/lang/Throwable;" } : Jvm.MethodName) ({ cls := "java/lang/Throwable", name := "fillInStackTrace", desc := "()Ljava/lang/Throwable;" } : Jvm.MethodName)) ∈ lw_all := lw_g (lw_at lw_m2 126 rfl) rfl
theorem q501 : (Jvm.Cond.instantiable "PluginChains$Refused" (7 : Nat)) ∈ lw_all := lw_g (lw_at lw_m2 181 rfl) rfl
theorem q502 : (Jvm.Cond.castable "PluginChains$Refused" "PluginChains$Refused") ∈ lw_tbl := lw_at lw_m2 182 rfl
theorem q503 : (Jvm.Cond.selects "PluginChains$Refused" ({ cls := "java/lang/Throwable", name := "fillInStackTrace", desc := "(I)Ljava/lang/Throwable;" } : Jvm.MethodName) ({ cls := "java/lang/Throwable", name := "fillInStackTrace", desc := "(I)Ljava/lang/Throwable;" } : Jvm.MethodName)) ∈ lw_all := lw_g (lw_at lw_m2 183 rfl) rfl
theorem q504 : (Jvm.Cond.lays "PluginChains$Refused" "java/lang/Throwable" "cause" "Ljava/lang/Throwable;") ∈ lw_all := lw_g (lw_at lw_m2 184 rfl) rfl
theorem q505 : (Jvm.Cond.lays "PluginChains$Refused" "java/lang/Throwable" "stackTrace" "[Ljava/lang/StackTraceElement;") ∈ lw_all := lw_g (lw_at lw_m2 185 rfl) rfl
theorem q506 : (Jvm.Cond.lays "PluginChains$Refused" "java/lang/Throwable" "suppressedExceptions" "Ljava/util/List;") ∈ lw_all := lw_g (lw_at lw_m2 186 rfl) rfl
theorem q507 : (Jvm.Cond.lays "PluginChains$Refused" "java/lang/Throwable" "detailMessage" "Ljava/lang/String;") ∈ lw_all := lw_g (lw_at lw_m2 187 rfl) rfl
theorem q508 : (Jvm.Cond.lays "PluginChains$Refused" "java/lang/Throwable" "backtrace" "Ljava/lang/Object;") ∈ lw_all := lw_g (lw_at lw_m2 188 rfl) rfl
theorem q510 : (Jvm.Cond.instanceMethod ({ cls := "PluginChains$Refused", name := "<init>", desc := "(I)V" } : Jvm.MethodName)) ∈ lw_all := lw_g (lw_at lw_m2 190 rfl) rfl
theorem q511 : (Jvm.Cond.code ({ cls := "PluginChains$Refused", name := "<init>", desc := "(I)V" } : Jvm.MethodName) prog_25_method_1_code (2 : Nat) (Option.none : Option Jvm.ClassFile.FieldType)) ∈ lw_all := lw_g (lw_at lw_m2 191 rfl) rfl
theorem q512 : (Jvm.Cond.methodLink "PluginChains$Refused" (1 : Nat) ({ cls := "java/lang/Exception", name := "<init>", desc := "(Ljava/lang/String;Ljava/lang/Throwable;ZZ)V" } : Jvm.MethodName)) ∈ lw_all := lw_g (lw_at lw_m2 192 rfl) rfl
theorem q518 : (Jvm.Cond.fieldLink "PluginChains$Refused" (7 : Nat) "PluginChains$Refused" "why" "I") ∈ lw_all := lw_g (lw_at lw_m2 198 rfl) rfl
theorem q520 : (Jvm.Cond.laysFinal "PluginChains$Refused" "PluginChains$Refused" "why" "I") ∈ lw_all := lw_g (lw_at lw_m2 200 rfl) rfl
theorem q521 : (Jvm.Cond.soleField "PluginChains$Refused" "why") ∈ lw_all := lw_g (lw_at lw_m2 201 rfl) rfl
theorem q522 : (Jvm.Cond.lays "PluginChains$Refused" "java/lang/Throwable" "depth" "I") ∈ lw_all := lw_g (lw_at lw_m2 202 rfl) rfl
theorem q523 : (Jvm.Cond.superclass "PluginChains$Refused" "java/lang/Exception") ∈ lw_all := lw_g (lw_at lw_m2 203 rfl) rfl
theorem q1322 : (Jvm.Cond.selects "PluginChains$Refused" ({ cls := "java/lang/Object", name := "getClass", desc := "()Ljava/lang/Class;" } : Jvm.MethodName) ({ cls := "java/lang/Object", name := "getClass", desc := "()Ljava/lang/Class;" } : Jvm.MethodName)) ∈ lw_all := lw_g (lw_at lw_m6 42 rfl) rfl
theorem q4054 : (Jvm.Cond.castable "PluginChains$Refused" "java/lang/Object") ∈ lw_tbl := lw_at lw_m17 134 rfl
theorem in_X6 : ∀ w ∈ wsX60, w ∈ lw_all := lw_in wsX60 [504, 505, 506, 507, 508, 522, 520] (by decide +kernel) (by decide +kernel)

/-! PluginChains$Row -/
set_option maxRecDepth 100000
def RX7 : String := "PluginChains$Row"
abbrev cX7_init : ByteArray := prog_27_method_1_code
def yX7_init : MethodName := ⟨RX7, "<init>", "()V"⟩
theorem dX7_init_0 : decode cX7_init 0 = .ok (.aload_n 0, 1) := by decide +kernel
theorem dX7_init_1 : decode cX7_init 1 = .ok (.invokespecial 1, 3) := by decide +kernel
theorem dX7_init_4 : decode cX7_init 4 = .ok (.return_, 1) := by decide +kernel
abbrev cX7_asInt : ByteArray := prog_27_method_9_code
def yX7_asInt : MethodName := ⟨RX7, "asInt", "(I)I"⟩
def dkwX7_asInt_0 : List UInt8 := [42, 27, 182, 0, 7, 136, 172]
abbrev dktX7_asInt_0 : List UInt8 := dkwX7_asInt_0 ++ []
theorem dksX7_asInt_0 : cX7_asInt.data.toList.drop 0 = dktX7_asInt_0 := by decide +kernel
theorem dX7_asInt_0 : decode cX7_asInt 0 = .ok (.aload_n 0, 1) := dk_42 (dk_at dksX7_asInt_0 0 rfl rfl)
theorem dX7_asInt_1 : decode cX7_asInt 1 = .ok (.iload_n 1, 1) := dk_27 (dk_at dksX7_asInt_0 1 rfl rfl)
theorem dX7_asInt_2 : decode cX7_asInt 2 = .ok (.invokevirtual 7, 3) := dk_182 0 7 (dk_at dksX7_asInt_0 2 rfl rfl)
theorem dX7_asInt_5 : decode cX7_asInt 5 = .ok (.l2i, 1) := dk_136 (dk_at dksX7_asInt_0 5 rfl rfl)
theorem dX7_asInt_6 : decode cX7_asInt 6 = .ok (.ireturn, 1) := dk_172 (dk_at dksX7_asInt_0 6 rfl rfl)
theorem q98 : (Jvm.Cond.initialized "PluginChains$Row") ∈ lw_all := lw_g (lw_at lw_m1 18 rfl) rfl
theorem q554 : (Jvm.Cond.instanceMethod ({ cls := "PluginChains$Row", name := "<init>", desc := "()V" } : Jvm.MethodName)) ∈ lw_all := lw_g (lw_at lw_m2 234 rfl) rfl
theorem q555 : (Jvm.Cond.code ({ cls := "PluginChains$Row", name := "<init>", desc := "()V" } : Jvm.MethodName) prog_27_method_1_code (1 : Nat) (Option.none : Option Jvm.ClassFile.FieldType)) ∈ lw_all := lw_g (lw_at lw_m2 235 rfl) rfl
theorem q556 : (Jvm.Cond.methodLink "PluginChains$Row" (1 : Nat) ({ cls := "java/lang/Object", name := "<init>", desc := "()V" } : Jvm.MethodName)) ∈ lw_all := lw_g (lw_at lw_m2 236 rfl) rfl
theorem q624 : (Jvm.Cond.declares ({ cls := "PluginChains$Row", name := "put", desc := "(IJ)V" } : Jvm.MethodName)) ∈ lw_tbl := lw_at lw_m3 64 rfl
theorem q625 : (Jvm.Cond.sameMethod "PluginChains$Row" "PluginChains$Row" "put" "(IJ)V") ∈ lw_all := lw_g (lw_at lw_m3 65 rfl) rfl
theorem q649 : (Jvm.Cond.declares ({ cls := "PluginChains$Row", name := "sort", desc := "()I" } : Jvm.MethodName)) ∈ lw_tbl := lw_at lw_m3 89 rfl
theorem q650 : (Jvm.Cond.sameMethod "PluginChains$Row" "PluginChains$Row" "sort" "()I") ∈ lw_all := lw_g (lw_at lw_m3 90 rfl) rfl
theorem q664 : (Jvm.Cond.declares ({ cls := "PluginChains$Row", name := "held", desc := "()Ljava/lang/Object;" } : Jvm.MethodName)) ∈ lw_tbl := lw_at lw_m3 104 rfl
theorem q665 : (Jvm.Cond.sameMethod "PluginChains$Row" "PluginChains$Row" "held" "()Ljava/lang/Object;") ∈ lw_all := lw_g (lw_at lw_m3 105 rfl) rfl
theorem q686 : (Jvm.Cond.declares ({ cls := "PluginChains$Row", name := "get", desc := "(I)J" } : Jvm.MethodName)) ∈ lw_tbl := lw_at lw_m3 126 rfl
theorem q687 : (Jvm.Cond.sameMethod "PluginChains$Row" "PluginChains$Row" "get" "(I)J") ∈ lw_all := lw_g (lw_at lw_m3 127 rfl) rfl
theorem q1663 : (Jvm.Cond.declares ({ cls := "PluginChains$Row", name := "length", desc := "()I" } : Jvm.MethodName)) ∈ lw_tbl := lw_at lw_m7 143 rfl
theorem q1664 : (Jvm.Cond.sameMethod "PluginChains$Row" "PluginChains$Row" "length" "()I") ∈ lw_all := lw_g (lw_at lw_m7 144 rfl) rfl
theorem q1678 : (Jvm.Cond.instanceMethod ({ cls := "PluginChains$Row", name := "asInt", desc := "(I)I" } : Jvm.MethodName)) ∈ lw_all := lw_g (lw_at lw_m7 158 rfl) rfl
theorem q1679 : (Jvm.Cond.sameMethod "PluginChains$Row" "PluginChains$Row" "asInt" "(I)I") ∈ lw_all := lw_g (lw_at lw_m7 159 rfl) rfl
theorem q1684 : (Jvm.Cond.code ({ cls := "PluginChains$Row", name := "asInt", desc := "(I)I" } : Jvm.MethodName) prog_27_method_9_code (2 : Nat) (Option.some Jvm.ClassFile.FieldType.int)) ∈ lw_all := lw_g (lw_at lw_m7 164 rfl) rfl
theorem q1685 : (Jvm.Cond.methodLink "PluginChains$Row" (7 : Nat) ({ cls := "PluginChains$Row", name := "get", desc := "(I)J" } : Jvm.MethodName)) ∈ lw_all := lw_g (lw_at lw_m7 165 rfl) rfl

/-! PluginChains$Bytes -/
set_option maxRecDepth 100000
def RX8 : String := "PluginChains$Bytes"
def TX8 : u_T := fun k => match k with
  | _ => ("PluginChains$Bytes", "e", "[B", true)
def tyX8 : Nat → FieldType := fun k => match k with
  | _ => .array .byte
abbrev wsX80 : List Cond := u_ws RX8 TX8 1
theorem nmX8 : ∀ a, a < 1 → ∀ b, b < 1 → a ≠ b → (TX8 a).2.1 ≠ (TX8 b).2.1 := by decide +kernel
theorem tyX8_ok : ∀ k, k < 1 → parseFieldDescriptor (TX8 k).2.2.1 = some (tyX8 k) := by decide +kernel
abbrev cX8_init : ByteArray := prog_8_method_1_code
def yX8_init : MethodName := ⟨RX8, "<init>", "(I)V"⟩
def dkwX8_init_0 : List UInt8 := [42, 183, 0, 1, 42, 27, 188, 8, 181, 0, 7, 177]
abbrev dktX8_init_0 : List UInt8 := dkwX8_init_0 ++ []
theorem dksX8_init_0 : cX8_init.data.toList.drop 0 = dktX8_init_0 := by decide +kernel
theorem dX8_init_0 : decode cX8_init 0 = .ok (.aload_n 0, 1) := dk_42 (dk_at dksX8_init_0 0 rfl rfl)
theorem dX8_init_1 : decode cX8_init 1 = .ok (.invokespecial 1, 3) := dk_183 0 1 (dk_at dksX8_init_0 1 rfl rfl)
theorem dX8_init_4 : decode cX8_init 4 = .ok (.aload_n 0, 1) := dk_42 (dk_at dksX8_init_0 4 rfl rfl)
theorem dX8_init_5 : decode cX8_init 5 = .ok (.iload_n 1, 1) := dk_27 (dk_at dksX8_init_0 5 rfl rfl)
theorem dX8_init_6 : decode cX8_init 6 = .ok (.newarray .byte, 2) := dk_188_8 (dk_at dksX8_init_0 6 rfl rfl)
theorem dX8_init_8 : decode cX8_init 8 = .ok (.putfield 7, 3) := dk_181 0 7 (dk_at dksX8_init_0 8 rfl rfl)
theorem dX8_init_11 : decode cX8_init 11 = .ok (.return_, 1) := dk_177 (dk_at dksX8_init_0 11 rfl rfl)
abbrev cX8_put : ByteArray := prog_8_method_4_code
def yX8_put : MethodName := ⟨RX8, "put", "(IJ)V"⟩
def dkwX8_put_0 : List UInt8 := [42, 180, 0, 7, 27, 32, 136, 145, 84, 177]
abbrev dktX8_put_0 : List UInt8 := dkwX8_put_0 ++ []
theorem dksX8_put_0 : cX8_put.data.toList.drop 0 = dktX8_put_0 := by decide +kernel
theorem dX8_put_0 : decode cX8_put 0 = .ok (.aload_n 0, 1) := dk_42 (dk_at dksX8_put_0 0 rfl rfl)
theorem dX8_put_1 : decode cX8_put 1 = .ok (.getfield 7, 3) := dk_180 0 7 (dk_at dksX8_put_0 1 rfl rfl)
theorem dX8_put_4 : decode cX8_put 4 = .ok (.iload_n 1, 1) := dk_27 (dk_at dksX8_put_0 4 rfl rfl)
theorem dX8_put_5 : decode cX8_put 5 = .ok (.lload_n 2, 1) := dk_32 (dk_at dksX8_put_0 5 rfl rfl)
theorem dX8_put_6 : decode cX8_put 6 = .ok (.l2i, 1) := dk_136 (dk_at dksX8_put_0 6 rfl rfl)
theorem dX8_put_7 : decode cX8_put 7 = .ok (.i2b, 1) := dk_145 (dk_at dksX8_put_0 7 rfl rfl)
theorem dX8_put_8 : decode cX8_put 8 = .ok (.bastore, 1) := dk_84 (dk_at dksX8_put_0 8 rfl rfl)
theorem dX8_put_9 : decode cX8_put 9 = .ok (.return_, 1) := dk_177 (dk_at dksX8_put_0 9 rfl rfl)
abbrev cX8_sort : ByteArray := prog_8_method_2_code
def yX8_sort : MethodName := ⟨RX8, "sort", "()I"⟩
theorem dX8_sort_0 : decode cX8_sort 0 = .ok (.iconst 0, 1) := by decide +kernel
theorem dX8_sort_1 : decode cX8_sort 1 = .ok (.ireturn, 1) := by decide +kernel
abbrev cX8_held : ByteArray := prog_8_method_8_code
def yX8_held : MethodName := ⟨RX8, "held", "()Ljava/lang/Object;"⟩
theorem dX8_held_0 : decode cX8_held 0 = .ok (.aload_n 0, 1) := by decide +kernel
theorem dX8_held_1 : decode cX8_held 1 = .ok (.getfield 7, 3) := by decide +kernel
theorem dX8_held_4 : decode cX8_held 4 = .ok (.areturn, 1) := by decide +kernel
abbrev cX8_get : ByteArray := prog_8_method_5_code
def yX8_get : MethodName := ⟨RX8, "get", "(I)J"⟩
def dkwX8_get_0 : List UInt8 := [42, 180, 0, 7, 27, 51, 133, 173]
abbrev dktX8_get_0 : List UInt8 := dkwX8_get_0 ++ []
theorem dksX8_get_0 : cX8_get.data.toList.drop 0 = dktX8_get_0 := by decide +kernel
theorem dX8_get_0 : decode cX8_get 0 = .ok (.aload_n 0, 1) := dk_42 (dk_at dksX8_get_0 0 rfl rfl)
theorem dX8_get_1 : decode cX8_get 1 = .ok (.getfield 7, 3) := dk_180 0 7 (dk_at dksX8_get_0 1 rfl rfl)
theorem dX8_get_4 : decode cX8_get 4 = .ok (.iload_n 1, 1) := dk_27 (dk_at dksX8_get_0 4 rfl rfl)
theorem dX8_get_5 : decode cX8_get 5 = .ok (.baload, 1) := dk_51 (dk_at dksX8_get_0 5 rfl rfl)
theorem dX8_get_6 : decode cX8_get 6 = .ok (.i2l, 1) := dk_133 (dk_at dksX8_get_0 6 rfl rfl)
theorem dX8_get_7 : decode cX8_get 7 = .ok (.lreturn, 1) := dk_173 (dk_at dksX8_get_0 7 rfl rfl)
abbrev cX8_length : ByteArray := prog_8_method_3_code
def yX8_length : MethodName := ⟨RX8, "length", "()I"⟩
def dkwX8_length_0 : List UInt8 := [42, 180, 0, 7, 190, 172]
abbrev dktX8_length_0 : List UInt8 := dkwX8_length_0 ++ []
theorem dksX8_length_0 : cX8_length.data.toList.drop 0 = dktX8_length_0 := by decide +kernel
theorem dX8_length_0 : decode cX8_length 0 = .ok (.aload_n 0, 1) := dk_42 (dk_at dksX8_length_0 0 rfl rfl)
theorem dX8_length_1 : decode cX8_length 1 = .ok (.getfield 7, 3) := dk_180 0 7 (dk_at dksX8_length_0 1 rfl rfl)
theorem dX8_length_4 : decode cX8_length 4 = .ok (.arraylength, 1) := dk_190 (dk_at dksX8_length_0 4 rfl rfl)
theorem dX8_length_5 : decode cX8_length 5 = .ok (.ireturn, 1) := dk_172 (dk_at dksX8_length_0 5 rfl rfl)
theorem q99 : (Jvm.Cond.initialized "PluginChains$Bytes") ∈ lw_all := lw_g (lw_at lw_m1 19 rfl) rfl
theorem q549 : (Jvm.Cond.instantiable "PluginChains$Bytes" (1 : Nat)) ∈ lw_all := lw_g (lw_at lw_m2 229 rfl) rfl
theorem q551 : (Jvm.Cond.instanceMethod ({ cls := "PluginChains$Bytes", name := "<init>", desc := "(I)V" } : Jvm.MethodName)) ∈ lw_all := lw_g (lw_at lw_m2 231 rfl) rfl
theorem q552 : (Jvm.Cond.code ({ cls := "PluginChains$Bytes", name := "<init>", desc := "(I)V" } : Jvm.MethodName) prog_8_method_1_code (2 : Nat) (Option.none : Option Jvm.ClassFile.FieldType)) ∈ lw_all := lw_g (lw_at lw_m2 232 rfl) rfl
theorem q553 : (Jvm.Cond.methodLink "PluginChains$Bytes" (1 : Nat) ({ cls := "PluginChains$Row", name := "<init>", desc := "()V" } : Jvm.MethodName)) ∈ lw_all := lw_g (lw_at lw_m2 233 rfl) rfl
theorem q557 : (Jvm.Cond.fieldLink "PluginChains$Bytes" (7 : Nat) "PluginChains$Bytes" "e" "[B") ∈ lw_all := lw_g (lw_at lw_m2 237 rfl) rfl
theorem q558 : (Jvm.Cond.laysFinal "PluginChains$Bytes" "PluginChains$Bytes" "e" "[B") ∈ lw_all := lw_g (lw_at lw_m2 238 rfl) rfl
theorem q559 : (Jvm.Cond.soleField "PluginChains$Bytes" "e") ∈ lw_all := lw_g (lw_at lw_m2 239 rfl) rfl
theorem q560 : (Jvm.Cond.superclass "PluginChains$Bytes" "PluginChains$Row") ∈ lw_all := lw_g (lw_at lw_m3 0 rfl) rfl
theorem q626 : (Jvm.Cond.selects "PluginChains$Bytes" ({ cls := "PluginChains$Row", name := "put", desc := "(IJ)V" } : Jvm.MethodName) ({ cls := "PluginChains$Bytes", name := "put", desc := "(IJ)V" } : Jvm.MethodName)) ∈ lw_all := lw_g (lw_at lw_m3 66 rfl) rfl
theorem q627 : (Jvm.Cond.instanceMethod ({ cls := "PluginChains$Bytes", name := "put", desc := "(IJ)V" } : Jvm.MethodName)) ∈ lw_all := lw_g (lw_at lw_m3 67 rfl) rfl
theorem q628 : (Jvm.Cond.code ({ cls := "PluginChains$Bytes", name := "put", desc := "(IJ)V" } : Jvm.MethodName) prog_8_method_4_code (4 : Nat) (Option.none : Option Jvm.ClassFile.FieldType)) ∈ lw_all := lw_g (lw_at lw_m3 68 rfl) rfl
theorem q651 : (Jvm.Cond.selects "PluginChains$Bytes" ({ cls := "PluginChains$Row", name := "sort", desc := "()I" } : Jvm.MethodName) ({ cls := "PluginChains$Bytes", name := "sort", desc := "()I" } : Jvm.MethodName)) ∈ lw_all := lw_g (lw_at lw_m3 91 rfl) rfl
theorem q652 : (Jvm.Cond.instanceMethod ({ cls := "PluginChains$Bytes", name := "sort", desc := "()I" } : Jvm.MethodName)) ∈ lw_all := lw_g (lw_at lw_m3 92 rfl) rfl
theorem q653 : (Jvm.Cond.code ({ cls := "PluginChains$Bytes", name := "sort", desc := "()I" } : Jvm.MethodName) prog_8_method_2_code (1 : Nat) (Option.some Jvm.ClassFile.FieldType.int)) ∈ lw_all := lw_g (lw_at lw_m3 93 rfl) rfl
theorem q666 : (Jvm.Cond.selects "PluginChains$Bytes" ({ cls := "PluginChains$Row", name := "held", desc := "()Ljava/lang/Object;" } : Jvm.MethodName) ({ cls := "PluginChains$Bytes", name := "held", desc := "()Ljava/lang/Object;" } : Jvm.MethodName)) ∈ lw_all := lw_g (lw_at lw_m3 106 rfl) rfl
theorem q667 : (Jvm.Cond.instanceMethod ({ cls := "PluginChains$Bytes", name := "held", desc := "()Ljava/lang/Object;" } : Jvm.MethodName)) ∈ lw_all := lw_g (lw_at lw_m3 107 rfl) rfl
theorem q668 : (Jvm.Cond.code ({ cls := "PluginChains$Bytes", name := "held", desc := "()Ljava/lang/Object;" } : Jvm.MethodName) prog_8_method_8_code (1 : Nat) (Option.some (Jvm.ClassFile.FieldType.object "java/lang/Object"))) ∈ lw_all := lw_g (lw_at lw_m3 108 rfl) rfl
theorem q688 : (Jvm.Cond.selects "PluginChains$Bytes" ({ cls := "PluginChains$Row", name := "get", desc := "(I)J" } : Jvm.MethodName) ({ cls := "PluginChains$Bytes", name := "get", desc := "(I)J" } : Jvm.MethodName)) ∈ lw_all := lw_g (lw_at lw_m3 128 rfl) rfl
theorem q689 : (Jvm.Cond.instanceMethod ({ cls := "PluginChains$Bytes", name := "get", desc := "(I)J" } : Jvm.MethodName)) ∈ lw_all := lw_g (lw_at lw_m3 129 rfl) rfl
theorem q690 : (Jvm.Cond.code ({ cls := "PluginChains$Bytes", name := "get", desc := "(I)J" } : Jvm.MethodName) prog_8_method_5_code (2 : Nat) (Option.some Jvm.ClassFile.FieldType.long)) ∈ lw_all := lw_g (lw_at lw_m3 130 rfl) rfl
theorem q1306 : (Jvm.Cond.selects "PluginChains$Bytes" ({ cls := "java/lang/Object", name := "getClass", desc := "()Ljava/lang/Class;" } : Jvm.MethodName) ({ cls := "java/lang/Object", name := "getClass", desc := "()Ljava/lang/Class;" } : Jvm.MethodName)) ∈ lw_all := lw_g (lw_at lw_m6 26 rfl) rfl
theorem q1665 : (Jvm.Cond.selects "PluginChains$Bytes" ({ cls := "PluginChains$Row", name := "length", desc := "()I" } : Jvm.MethodName) ({ cls := "PluginChains$Bytes", name := "length", desc := "()I" } : Jvm.MethodName)) ∈ lw_all := lw_g (lw_at lw_m7 145 rfl) rfl
theorem q1666 : (Jvm.Cond.instanceMethod ({ cls := "PluginChains$Bytes", name := "length", desc := "()I" } : Jvm.MethodName)) ∈ lw_all := lw_g (lw_at lw_m7 146 rfl) rfl
theorem q1667 : (Jvm.Cond.code ({ cls := "PluginChains$Bytes", name := "length", desc := "()I" } : Jvm.MethodName) prog_8_method_3_code (1 : Nat) (Option.some Jvm.ClassFile.FieldType.int)) ∈ lw_all := lw_g (lw_at lw_m7 147 rfl) rfl
theorem q1680 : (Jvm.Cond.selects "PluginChains$Bytes" ({ cls := "PluginChains$Row", name := "asInt", desc := "(I)I" } : Jvm.MethodName) ({ cls := "PluginChains$Row", name := "asInt", desc := "(I)I" } : Jvm.MethodName)) ∈ lw_all := lw_g (lw_at lw_m7 160 rfl) rfl
theorem q4031 : (Jvm.Cond.castable "PluginChains$Bytes" "PluginChains$Row") ∈ lw_tbl := lw_at lw_m17 111 rfl
theorem q4056 : (Jvm.Cond.castable "PluginChains$Bytes" "java/lang/Object") ∈ lw_tbl := lw_at lw_m17 136 rfl
theorem in_X8 : ∀ w ∈ wsX80, w ∈ lw_all := lw_in wsX80 [558] (by decide +kernel) (by decide +kernel)

/-! PluginChains$Shorts -/
set_option maxRecDepth 100000
def RX9 : String := "PluginChains$Shorts"
def TX9 : u_T := fun k => match k with
  | _ => ("PluginChains$Shorts", "e", "[S", true)
def tyX9 : Nat → FieldType := fun k => match k with
  | _ => .array .short
abbrev wsX90 : List Cond := u_ws RX9 TX9 1
theorem nmX9 : ∀ a, a < 1 → ∀ b, b < 1 → a ≠ b → (TX9 a).2.1 ≠ (TX9 b).2.1 := by decide +kernel
theorem tyX9_ok : ∀ k, k < 1 → parseFieldDescriptor (TX9 k).2.2.1 = some (tyX9 k) := by decide +kernel
abbrev cX9_init : ByteArray := prog_30_method_1_code
def yX9_init : MethodName := ⟨RX9, "<init>", "(I)V"⟩
def dkwX9_init_0 : List UInt8 := [42, 183, 0, 1, 42, 27, 188, 9, 181, 0, 7, 177]
abbrev dktX9_init_0 : List UInt8 := dkwX9_init_0 ++ []
theorem dksX9_init_0 : cX9_init.data.toList.drop 0 = dktX9_init_0 := by decide +kernel
theorem dX9_init_0 : decode cX9_init 0 = .ok (.aload_n 0, 1) := dk_42 (dk_at dksX9_init_0 0 rfl rfl)
theorem dX9_init_1 : decode cX9_init 1 = .ok (.invokespecial 1, 3) := dk_183 0 1 (dk_at dksX9_init_0 1 rfl rfl)
theorem dX9_init_4 : decode cX9_init 4 = .ok (.aload_n 0, 1) := dk_42 (dk_at dksX9_init_0 4 rfl rfl)
theorem dX9_init_5 : decode cX9_init 5 = .ok (.iload_n 1, 1) := dk_27 (dk_at dksX9_init_0 5 rfl rfl)
theorem dX9_init_6 : decode cX9_init 6 = .ok (.newarray .short, 2) := dk_188_9 (dk_at dksX9_init_0 6 rfl rfl)
theorem dX9_init_8 : decode cX9_init 8 = .ok (.putfield 7, 3) := dk_181 0 7 (dk_at dksX9_init_0 8 rfl rfl)
theorem dX9_init_11 : decode cX9_init 11 = .ok (.return_, 1) := dk_177 (dk_at dksX9_init_0 11 rfl rfl)
abbrev cX9_put : ByteArray := prog_30_method_4_code
def yX9_put : MethodName := ⟨RX9, "put", "(IJ)V"⟩
def dkwX9_put_0 : List UInt8 := [42, 180, 0, 7, 27, 32, 136, 147, 86, 177]
abbrev dktX9_put_0 : List UInt8 := dkwX9_put_0 ++ []
theorem dksX9_put_0 : cX9_put.data.toList.drop 0 = dktX9_put_0 := by decide +kernel
theorem dX9_put_0 : decode cX9_put 0 = .ok (.aload_n 0, 1) := dk_42 (dk_at dksX9_put_0 0 rfl rfl)
theorem dX9_put_1 : decode cX9_put 1 = .ok (.getfield 7, 3) := dk_180 0 7 (dk_at dksX9_put_0 1 rfl rfl)
theorem dX9_put_4 : decode cX9_put 4 = .ok (.iload_n 1, 1) := dk_27 (dk_at dksX9_put_0 4 rfl rfl)
theorem dX9_put_5 : decode cX9_put 5 = .ok (.lload_n 2, 1) := dk_32 (dk_at dksX9_put_0 5 rfl rfl)
theorem dX9_put_6 : decode cX9_put 6 = .ok (.l2i, 1) := dk_136 (dk_at dksX9_put_0 6 rfl rfl)
theorem dX9_put_7 : decode cX9_put 7 = .ok (.i2s, 1) := dk_147 (dk_at dksX9_put_0 7 rfl rfl)
theorem dX9_put_8 : decode cX9_put 8 = .ok (.sastore, 1) := dk_86 (dk_at dksX9_put_0 8 rfl rfl)
theorem dX9_put_9 : decode cX9_put 9 = .ok (.return_, 1) := dk_177 (dk_at dksX9_put_0 9 rfl rfl)
abbrev cX9_sort : ByteArray := prog_30_method_2_code
def yX9_sort : MethodName := ⟨RX9, "sort", "()I"⟩
theorem dX9_sort_0 : decode cX9_sort 0 = .ok (.iconst 1, 1) := by decide +kernel
theorem dX9_sort_1 : decode cX9_sort 1 = .ok (.ireturn, 1) := by decide +kernel
abbrev cX9_held : ByteArray := prog_30_method_8_code
def yX9_held : MethodName := ⟨RX9, "held", "()Ljava/lang/Object;"⟩
theorem dX9_held_0 : decode cX9_held 0 = .ok (.aload_n 0, 1) := by decide +kernel
theorem dX9_held_1 : decode cX9_held 1 = .ok (.getfield 7, 3) := by decide +kernel
theorem dX9_held_4 : decode cX9_held 4 = .ok (.areturn, 1) := by decide +kernel
abbrev cX9_get : ByteArray := prog_30_method_5_code
def yX9_get : MethodName := ⟨RX9, "get", "(I)J"⟩
def dkwX9_get_0 : List UInt8 := [42, 180, 0, 7, 27, 53, 133, 173]
abbrev dktX9_get_0 : List UInt8 := dkwX9_get_0 ++ []
theorem dksX9_get_0 : cX9_get.data.toList.drop 0 = dktX9_get_0 := by decide +kernel
theorem dX9_get_0 : decode cX9_get 0 = .ok (.aload_n 0, 1) := dk_42 (dk_at dksX9_get_0 0 rfl rfl)
theorem dX9_get_1 : decode cX9_get 1 = .ok (.getfield 7, 3) := dk_180 0 7 (dk_at dksX9_get_0 1 rfl rfl)
theorem dX9_get_4 : decode cX9_get 4 = .ok (.iload_n 1, 1) := dk_27 (dk_at dksX9_get_0 4 rfl rfl)
theorem dX9_get_5 : decode cX9_get 5 = .ok (.saload, 1) := dk_53 (dk_at dksX9_get_0 5 rfl rfl)
theorem dX9_get_6 : decode cX9_get 6 = .ok (.i2l, 1) := dk_133 (dk_at dksX9_get_0 6 rfl rfl)
theorem dX9_get_7 : decode cX9_get 7 = .ok (.lreturn, 1) := dk_173 (dk_at dksX9_get_0 7 rfl rfl)
abbrev cX9_length : ByteArray := prog_30_method_3_code
def yX9_length : MethodName := ⟨RX9, "length", "()I"⟩
def dkwX9_length_0 : List UInt8 := [42, 180, 0, 7, 190, 172]
abbrev dktX9_length_0 : List UInt8 := dkwX9_length_0 ++ []
theorem dksX9_length_0 : cX9_length.data.toList.drop 0 = dktX9_length_0 := by decide +kernel
theorem dX9_length_0 : decode cX9_length 0 = .ok (.aload_n 0, 1) := dk_42 (dk_at dksX9_length_0 0 rfl rfl)
theorem dX9_length_1 : decode cX9_length 1 = .ok (.getfield 7, 3) := dk_180 0 7 (dk_at dksX9_length_0 1 rfl rfl)
theorem dX9_length_4 : decode cX9_length 4 = .ok (.arraylength, 1) := dk_190 (dk_at dksX9_length_0 4 rfl rfl)
theorem dX9_length_5 : decode cX9_length 5 = .ok (.ireturn, 1) := dk_172 (dk_at dksX9_length_0 5 rfl rfl)
theorem q100 : (Jvm.Cond.initialized "PluginChains$Shorts") ∈ lw_all := lw_g (lw_at lw_m1 20 rfl) rfl
theorem q562 : (Jvm.Cond.instantiable "PluginChains$Shorts" (1 : Nat)) ∈ lw_all := lw_g (lw_at lw_m3 2 rfl) rfl
theorem q564 : (Jvm.Cond.instanceMethod ({ cls := "PluginChains$Shorts", name := "<init>", desc := "(I)V" } : Jvm.MethodName)) ∈ lw_all := lw_g (lw_at lw_m3 4 rfl) rfl
theorem q565 : (Jvm.Cond.code ({ cls := "PluginChains$Shorts", name := "<init>", desc := "(I)V" } : Jvm.MethodName) prog_30_method_1_code (2 : Nat) (Option.none : Option Jvm.ClassFile.FieldType)) ∈ lw_all := lw_g (lw_at lw_m3 5 rfl) rfl
theorem q566 : (Jvm.Cond.methodLink "PluginChains$Shorts" (1 : Nat) ({ cls := "PluginChains$Row", name := "<init>", desc := "()V" } : Jvm.MethodName)) ∈ lw_all := lw_g (lw_at lw_m3 6 rfl) rfl
theorem q567 : (Jvm.Cond.fieldLink "PluginChains$Shorts" (7 : Nat) "PluginChains$Shorts" "e" "[S") ∈ lw_all := lw_g (lw_at lw_m3 7 rfl) rfl
theorem q568 : (Jvm.Cond.laysFinal "PluginChains$Shorts" "PluginChains$Shorts" "e" "[S") ∈ lw_all := lw_g (lw_at lw_m3 8 rfl) rfl
theorem q569 : (Jvm.Cond.soleField "PluginChains$Shorts" "e") ∈ lw_all := lw_g (lw_at lw_m3 9 rfl) rfl
theorem q570 : (Jvm.Cond.superclass "PluginChains$Shorts" "PluginChains$Row") ∈ lw_all := lw_g (lw_at lw_m3 10 rfl) rfl
theorem q635 : (Jvm.Cond.selects "PluginChains$Shorts" ({ cls := "PluginChains$Row", name := "put", desc := "(IJ)V" } : Jvm.MethodName) ({ cls := "PluginChains$Shorts", name := "put", desc := "(IJ)V" } : Jvm.MethodName)) ∈ lw_all := lw_g (lw_at lw_m3 75 rfl) rfl
theorem q636 : (Jvm.Cond.instanceMethod ({ cls := "PluginChains$Shorts", name := "put", desc := "(IJ)V" } : Jvm.MethodName)) ∈ lw_all := lw_g (lw_at lw_m3 76 rfl) rfl
theorem q637 : (Jvm.Cond.code ({ cls := "PluginChains$Shorts", name := "put", desc := "(IJ)V" } : Jvm.MethodName) prog_30_method_4_code (4 : Nat) (Option.none : Option Jvm.ClassFile.FieldType)) ∈ lw_all := lw_g (lw_at lw_m3 77 rfl) rfl
theorem q660 : (Jvm.Cond.selects "PluginChains$Shorts" ({ cls := "PluginChains$Row", name := "sort", desc := "()I" } : Jvm.MethodName) ({ cls := "PluginChains$Shorts", name := "sort", desc := "()I" } : Jvm.MethodName)) ∈ lw_all := lw_g (lw_at lw_m3 100 rfl) rfl
theorem q661 : (Jvm.Cond.instanceMethod ({ cls := "PluginChains$Shorts", name := "sort", desc := "()I" } : Jvm.MethodName)) ∈ lw_all := lw_g (lw_at lw_m3 101 rfl) rfl
theorem q662 : (Jvm.Cond.code ({ cls := "PluginChains$Shorts", name := "sort", desc := "()I" } : Jvm.MethodName) prog_30_method_2_code (1 : Nat) (Option.some Jvm.ClassFile.FieldType.int)) ∈ lw_all := lw_g (lw_at lw_m3 102 rfl) rfl
theorem q675 : (Jvm.Cond.selects "PluginChains$Shorts" ({ cls := "PluginChains$Row", name := "held", desc := "()Ljava/lang/Object;" } : Jvm.MethodName) ({ cls := "PluginChains$Shorts", name := "held", desc := "()Ljava/lang/Object;" } : Jvm.MethodName)) ∈ lw_all := lw_g (lw_at lw_m3 115 rfl) rfl
theorem q676 : (Jvm.Cond.instanceMethod ({ cls := "PluginChains$Shorts", name := "held", desc := "()Ljava/lang/Object;" } : Jvm.MethodName)) ∈ lw_all := lw_g (lw_at lw_m3 116 rfl) rfl
theorem q677 : (Jvm.Cond.code ({ cls := "PluginChains$Shorts", name := "held", desc := "()Ljava/lang/Object;" } : Jvm.MethodName) prog_30_method_8_code (1 : Nat) (Option.some (Jvm.ClassFile.FieldType.object "java/lang/Object"))) ∈ lw_all := lw_g (lw_at lw_m3 117 rfl) rfl
theorem q697 : (Jvm.Cond.selects "PluginChains$Shorts" ({ cls := "PluginChains$Row", name := "get", desc := "(I)J" } : Jvm.MethodName) ({ cls := "PluginChains$Shorts", name := "get", desc := "(I)J" } : Jvm.MethodName)) ∈ lw_all := lw_g (lw_at lw_m3 137 rfl) rfl
theorem q698 : (Jvm.Cond.instanceMethod ({ cls := "PluginChains$Shorts", name := "get", desc := "(I)J" } : Jvm.MethodName)) ∈ lw_all := lw_g (lw_at lw_m3 138 rfl) rfl
theorem q699 : (Jvm.Cond.code ({ cls := "PluginChains$Shorts", name := "get", desc := "(I)J" } : Jvm.MethodName) prog_30_method_5_code (2 : Nat) (Option.some Jvm.ClassFile.FieldType.long)) ∈ lw_all := lw_g (lw_at lw_m3 139 rfl) rfl
theorem q1325 : (Jvm.Cond.selects "PluginChains$Shorts" ({ cls := "java/lang/Object", name := "getClass", desc := "()Ljava/lang/Class;" } : Jvm.MethodName) ({ cls := "java/lang/Object", name := "getClass", desc := "()Ljava/lang/Class;" } : Jvm.MethodName)) ∈ lw_all := lw_g (lw_at lw_m6 45 rfl) rfl
theorem q1674 : (Jvm.Cond.selects "PluginChains$Shorts" ({ cls := "PluginChains$Row", name := "length", desc := "()I" } : Jvm.MethodName) ({ cls := "PluginChains$Shorts", name := "length", desc := "()I" } : Jvm.MethodName)) ∈ lw_all := lw_g (lw_at lw_m7 154 rfl) rfl
theorem q1675 : (Jvm.Cond.instanceMethod ({ cls := "PluginChains$Shorts", name := "length", desc := "()I" } : Jvm.MethodName)) ∈ lw_all := lw_g (lw_at lw_m7 155 rfl) rfl
theorem q1676 : (Jvm.Cond.code ({ cls := "PluginChains$Shorts", name := "length", desc := "()I" } : Jvm.MethodName) prog_30_method_3_code (1 : Nat) (Option.some Jvm.ClassFile.FieldType.int)) ∈ lw_all := lw_g (lw_at lw_m7 156 rfl) rfl
theorem q1683 : (Jvm.Cond.selects "PluginChains$Shorts" ({ cls := "PluginChains$Row", name := "asInt", desc := "(I)I" } : Jvm.MethodName) ({ cls := "PluginChains$Row", name := "asInt", desc := "(I)I" } : Jvm.MethodName)) ∈ lw_all := lw_g (lw_at lw_m7 163 rfl) rfl
theorem q4034 : (Jvm.Cond.castable "PluginChains$Shorts" "PluginChains$Row") ∈ lw_tbl := lw_at lw_m17 114 rfl
theorem q4057 : (Jvm.Cond.castable "PluginChains$Shorts" "java/lang/Object") ∈ lw_tbl := lw_at lw_m17 137 rfl
theorem in_X9 : ∀ w ∈ wsX90, w ∈ lw_all := lw_in wsX90 [568] (by decide +kernel) (by decide +kernel)

/-! PluginChains$Ints -/
set_option maxRecDepth 100000
def RX10 : String := "PluginChains$Ints"
def TX10 : u_T := fun k => match k with
  | _ => ("PluginChains$Ints", "e", "[I", true)
def tyX10 : Nat → FieldType := fun k => match k with
  | _ => .array .int
abbrev wsX100 : List Cond := u_ws RX10 TX10 1
theorem nmX10 : ∀ a, a < 1 → ∀ b, b < 1 → a ≠ b → (TX10 a).2.1 ≠ (TX10 b).2.1 := by decide +kernel
theorem tyX10_ok : ∀ k, k < 1 → parseFieldDescriptor (TX10 k).2.2.1 = some (tyX10 k) := by decide +kernel
abbrev cX10_init : ByteArray := prog_17_method_1_code
def yX10_init : MethodName := ⟨RX10, "<init>", "(I)V"⟩
def dkwX10_init_0 : List UInt8 := [42, 183, 0, 1, 42, 27, 188, 10, 181, 0, 7, 177]
abbrev dktX10_init_0 : List UInt8 := dkwX10_init_0 ++ []
theorem dksX10_init_0 : cX10_init.data.toList.drop 0 = dktX10_init_0 := by decide +kernel
theorem dX10_init_0 : decode cX10_init 0 = .ok (.aload_n 0, 1) := dk_42 (dk_at dksX10_init_0 0 rfl rfl)
theorem dX10_init_1 : decode cX10_init 1 = .ok (.invokespecial 1, 3) := dk_183 0 1 (dk_at dksX10_init_0 1 rfl rfl)
theorem dX10_init_4 : decode cX10_init 4 = .ok (.aload_n 0, 1) := dk_42 (dk_at dksX10_init_0 4 rfl rfl)
theorem dX10_init_5 : decode cX10_init 5 = .ok (.iload_n 1, 1) := dk_27 (dk_at dksX10_init_0 5 rfl rfl)
theorem dX10_init_6 : decode cX10_init 6 = .ok (.newarray .int, 2) := dk_188_10 (dk_at dksX10_init_0 6 rfl rfl)
theorem dX10_init_8 : decode cX10_init 8 = .ok (.putfield 7, 3) := dk_181 0 7 (dk_at dksX10_init_0 8 rfl rfl)
theorem dX10_init_11 : decode cX10_init 11 = .ok (.return_, 1) := dk_177 (dk_at dksX10_init_0 11 rfl rfl)
abbrev cX10_put : ByteArray := prog_17_method_4_code
def yX10_put : MethodName := ⟨RX10, "put", "(IJ)V"⟩
def dkwX10_put_0 : List UInt8 := [42, 180, 0, 7, 27, 32, 136, 79, 177]
abbrev dktX10_put_0 : List UInt8 := dkwX10_put_0 ++ []
theorem dksX10_put_0 : cX10_put.data.toList.drop 0 = dktX10_put_0 := by decide +kernel
theorem dX10_put_0 : decode cX10_put 0 = .ok (.aload_n 0, 1) := dk_42 (dk_at dksX10_put_0 0 rfl rfl)
theorem dX10_put_1 : decode cX10_put 1 = .ok (.getfield 7, 3) := dk_180 0 7 (dk_at dksX10_put_0 1 rfl rfl)
theorem dX10_put_4 : decode cX10_put 4 = .ok (.iload_n 1, 1) := dk_27 (dk_at dksX10_put_0 4 rfl rfl)
theorem dX10_put_5 : decode cX10_put 5 = .ok (.lload_n 2, 1) := dk_32 (dk_at dksX10_put_0 5 rfl rfl)
theorem dX10_put_6 : decode cX10_put 6 = .ok (.l2i, 1) := dk_136 (dk_at dksX10_put_0 6 rfl rfl)
theorem dX10_put_7 : decode cX10_put 7 = .ok (.iastore, 1) := dk_79 (dk_at dksX10_put_0 7 rfl rfl)
theorem dX10_put_8 : decode cX10_put 8 = .ok (.return_, 1) := dk_177 (dk_at dksX10_put_0 8 rfl rfl)
abbrev cX10_sort : ByteArray := prog_17_method_2_code
def yX10_sort : MethodName := ⟨RX10, "sort", "()I"⟩
theorem dX10_sort_0 : decode cX10_sort 0 = .ok (.iconst 2, 1) := by decide +kernel
theorem dX10_sort_1 : decode cX10_sort 1 = .ok (.ireturn, 1) := by decide +kernel
abbrev cX10_held : ByteArray := prog_17_method_8_code
def yX10_held : MethodName := ⟨RX10, "held", "()Ljava/lang/Object;"⟩
theorem dX10_held_0 : decode cX10_held 0 = .ok (.aload_n 0, 1) := by decide +kernel
theorem dX10_held_1 : decode cX10_held 1 = .ok (.getfield 7, 3) := by decide +kernel
theorem dX10_held_4 : decode cX10_held 4 = .ok (.areturn, 1) := by decide +kernel
abbrev cX10_get : ByteArray := prog_17_method_5_code
def yX10_get : MethodName := ⟨RX10, "get", "(I)J"⟩
def dkwX10_get_0 : List UInt8 := [42, 180, 0, 7, 27, 46, 133, 173]
abbrev dktX10_get_0 : List UInt8 := dkwX10_get_0 ++ []
theorem dksX10_get_0 : cX10_get.data.toList.drop 0 = dktX10_get_0 := by decide +kernel
theorem dX10_get_0 : decode cX10_get 0 = .ok (.aload_n 0, 1) := dk_42 (dk_at dksX10_get_0 0 rfl rfl)
theorem dX10_get_1 : decode cX10_get 1 = .ok (.getfield 7, 3) := dk_180 0 7 (dk_at dksX10_get_0 1 rfl rfl)
theorem dX10_get_4 : decode cX10_get 4 = .ok (.iload_n 1, 1) := dk_27 (dk_at dksX10_get_0 4 rfl rfl)
theorem dX10_get_5 : decode cX10_get 5 = .ok (.iaload, 1) := dk_46 (dk_at dksX10_get_0 5 rfl rfl)
theorem dX10_get_6 : decode cX10_get 6 = .ok (.i2l, 1) := dk_133 (dk_at dksX10_get_0 6 rfl rfl)
theorem dX10_get_7 : decode cX10_get 7 = .ok (.lreturn, 1) := dk_173 (dk_at dksX10_get_0 7 rfl rfl)
abbrev cX10_length : ByteArray := prog_17_method_3_code
def yX10_length : MethodName := ⟨RX10, "length", "()I"⟩
def dkwX10_length_0 : List UInt8 := [42, 180, 0, 7, 190, 172]
abbrev dktX10_length_0 : List UInt8 := dkwX10_length_0 ++ []
theorem dksX10_length_0 : cX10_length.data.toList.drop 0 = dktX10_length_0 := by decide +kernel
theorem dX10_length_0 : decode cX10_length 0 = .ok (.aload_n 0, 1) := dk_42 (dk_at dksX10_length_0 0 rfl rfl)
theorem dX10_length_1 : decode cX10_length 1 = .ok (.getfield 7, 3) := dk_180 0 7 (dk_at dksX10_length_0 1 rfl rfl)
theorem dX10_length_4 : decode cX10_length 4 = .ok (.arraylength, 1) := dk_190 (dk_at dksX10_length_0 4 rfl rfl)
theorem dX10_length_5 : decode cX10_length 5 = .ok (.ireturn, 1) := dk_172 (dk_at dksX10_length_0 5 rfl rfl)
theorem q101 : (Jvm.Cond.initialized "PluginChains$Ints") ∈ lw_all := lw_g (lw_at lw_m1 21 rfl) rfl
theorem q573 : (Jvm.Cond.instantiable "PluginChains$Ints" (1 : Nat)) ∈ lw_all := lw_g (lw_at lw_m3 13 rfl) rfl
theorem q575 : (Jvm.Cond.instanceMethod ({ cls := "PluginChains$Ints", name := "<init>", desc := "(I)V" } : Jvm.MethodName)) ∈ lw_all := lw_g (lw_at lw_m3 15 rfl) rfl
theorem q576 : (Jvm.Cond.code ({ cls := "PluginChains$Ints", name := "<init>", desc := "(I)V" } : Jvm.MethodName) prog_17_method_1_code (2 : Nat) (Option.none : Option Jvm.ClassFile.FieldType)) ∈ lw_all := lw_g (lw_at lw_m3 16 rfl) rfl
theorem q577 : (Jvm.Cond.methodLink "PluginChains$Ints" (1 : Nat) ({ cls := "PluginChains$Row", name := "<init>", desc := "()V" } : Jvm.MethodName)) ∈ lw_all := lw_g (lw_at lw_m3 17 rfl) rfl
theorem q578 : (Jvm.Cond.fieldLink "PluginChains$Ints" (7 : Nat) "PluginChains$Ints" "e" "[I") ∈ lw_all := lw_g (lw_at lw_m3 18 rfl) rfl
theorem q579 : (Jvm.Cond.laysFinal "PluginChains$Ints" "PluginChains$Ints" "e" "[I") ∈ lw_all := lw_g (lw_at lw_m3 19 rfl) rfl
theorem q580 : (Jvm.Cond.soleField "PluginChains$Ints" "e") ∈ lw_all := lw_g (lw_at lw_m3 20 rfl) rfl
theorem q581 : (Jvm.Cond.superclass "PluginChains$Ints" "PluginChains$Row") ∈ lw_all := lw_g (lw_at lw_m3 21 rfl) rfl
theorem q629 : (Jvm.Cond.selects "PluginChains$Ints" ({ cls := "PluginChains$Row", name := "put", desc := "(IJ)V" } : Jvm.MethodName) ({ cls := "PluginChains$Ints", name := "put", desc := "(IJ)V" } : Jvm.MethodName)) ∈ lw_all := lw_g (lw_at lw_m3 69 rfl) rfl
theorem q630 : (Jvm.Cond.instanceMethod ({ cls := "PluginChains$Ints", name := "put", desc := "(IJ)V" } : Jvm.MethodName)) ∈ lw_all := lw_g (lw_at lw_m3 70 rfl) rfl
theorem q631 : (Jvm.Cond.code ({ cls := "PluginChains$Ints", name := "put", desc := "(IJ)V" } : Jvm.MethodName) prog_17_method_4_code (4 : Nat) (Option.none : Option Jvm.ClassFile.FieldType)) ∈ lw_all := lw_g (lw_at lw_m3 71 rfl) rfl
theorem q654 : (Jvm.Cond.selects "PluginChains$Ints" ({ cls := "PluginChains$Row", name := "sort", desc := "()I" } : Jvm.MethodName) ({ cls := "PluginChains$Ints", name := "sort", desc := "()I" } : Jvm.MethodName)) ∈ lw_all := lw_g (lw_at lw_m3 94 rfl) rfl
theorem q655 : (Jvm.Cond.instanceMethod ({ cls := "PluginChains$Ints", name := "sort", desc := "()I" } : Jvm.MethodName)) ∈ lw_all := lw_g (lw_at lw_m3 95 rfl) rfl
theorem q656 : (Jvm.Cond.code ({ cls := "PluginChains$Ints", name := "sort", desc := "()I" } : Jvm.MethodName) prog_17_method_2_code (1 : Nat) (Option.some Jvm.ClassFile.FieldType.int)) ∈ lw_all := lw_g (lw_at lw_m3 96 rfl) rfl
theorem q669 : (Jvm.Cond.selects "PluginChains$Ints" ({ cls := "PluginChains$Row", name := "held", desc := "()Ljava/lang/Object;" } : Jvm.MethodName) ({ cls := "PluginChains$Ints", name := "held", desc := "()Ljava/lang/Object;" } : Jvm.MethodName)) ∈ lw_all := lw_g (lw_at lw_m3 109 rfl) rfl
theorem q670 : (Jvm.Cond.instanceMethod ({ cls := "PluginChains$Ints", name := "held", desc := "()Ljava/lang/Object;" } : Jvm.MethodName)) ∈ lw_all := lw_g (lw_at lw_m3 110 rfl) rfl
theorem q671 : (Jvm.Cond.code ({ cls := "PluginChains$Ints", name := "held", desc := "()Ljava/lang/Object;" } : Jvm.MethodName) prog_17_method_8_code (1 : Nat) (Option.some (Jvm.ClassFile.FieldType.object "java/lang/Object"))) ∈ lw_all := lw_g (lw_at lw_m3 111 rfl) rfl
theorem q691 : (Jvm.Cond.selects "PluginChains$Ints" ({ cls := "PluginChains$Row", name := "get", desc := "(I)J" } : Jvm.MethodName) ({ cls := "PluginChains$Ints", name := "get", desc := "(I)J" } : Jvm.MethodName)) ∈ lw_all := lw_g (lw_at lw_m3 131 rfl) rfl
theorem q692 : (Jvm.Cond.instanceMethod ({ cls := "PluginChains$Ints", name := "get", desc := "(I)J" } : Jvm.MethodName)) ∈ lw_all := lw_g (lw_at lw_m3 132 rfl) rfl
theorem q693 : (Jvm.Cond.code ({ cls := "PluginChains$Ints", name := "get", desc := "(I)J" } : Jvm.MethodName) prog_17_method_5_code (2 : Nat) (Option.some Jvm.ClassFile.FieldType.long)) ∈ lw_all := lw_g (lw_at lw_m3 133 rfl) rfl
theorem q1315 : (Jvm.Cond.selects "PluginChains$Ints" ({ cls := "java/lang/Object", name := "getClass", desc := "()Ljava/lang/Class;" } : Jvm.MethodName) ({ cls := "java/lang/Object", name := "getClass", desc := "()Ljava/lang/Class;" } : Jvm.MethodName)) ∈ lw_all := lw_g (lw_at lw_m6 35 rfl) rfl
theorem q1668 : (Jvm.Cond.selects "PluginChains$Ints" ({ cls := "PluginChains$Row", name := "length", desc := "()I" } : Jvm.MethodName) ({ cls := "PluginChains$Ints", name := "length", desc := "()I" } : Jvm.MethodName)) ∈ lw_all := lw_g (lw_at lw_m7 148 rfl) rfl
theorem q1669 : (Jvm.Cond.instanceMethod ({ cls := "PluginChains$Ints", name := "length", desc := "()I" } : Jvm.MethodName)) ∈ lw_all := lw_g (lw_at lw_m7 149 rfl) rfl
theorem q1670 : (Jvm.Cond.code ({ cls := "PluginChains$Ints", name := "length", desc := "()I" } : Jvm.MethodName) prog_17_method_3_code (1 : Nat) (Option.some Jvm.ClassFile.FieldType.int)) ∈ lw_all := lw_g (lw_at lw_m7 150 rfl) rfl
theorem q1681 : (Jvm.Cond.selects "PluginChains$Ints" ({ cls := "PluginChains$Row", name := "asInt", desc := "(I)I" } : Jvm.MethodName) ({ cls := "PluginChains$Row", name := "asInt", desc := "(I)I" } : Jvm.MethodName)) ∈ lw_all := lw_g (lw_at lw_m7 161 rfl) rfl
theorem q4032 : (Jvm.Cond.castable "PluginChains$Ints" "PluginChains$Row") ∈ lw_tbl := lw_at lw_m17 112 rfl
theorem q4058 : (Jvm.Cond.castable "PluginChains$Ints" "java/lang/Object") ∈ lw_tbl := lw_at lw_m17 138 rfl
theorem in_X10 : ∀ w ∈ wsX100, w ∈ lw_all := lw_in wsX100 [579] (by decide +kernel) (by decide +kernel)

/-! PluginChains$Longs -/
set_option maxRecDepth 100000
def RX11 : String := "PluginChains$Longs"
def TX11 : u_T := fun k => match k with
  | _ => ("PluginChains$Longs", "e", "[J", true)
def tyX11 : Nat → FieldType := fun k => match k with
  | _ => .array .long
abbrev wsX110 : List Cond := u_ws RX11 TX11 1
theorem nmX11 : ∀ a, a < 1 → ∀ b, b < 1 → a ≠ b → (TX11 a).2.1 ≠ (TX11 b).2.1 := by decide +kernel
theorem tyX11_ok : ∀ k, k < 1 → parseFieldDescriptor (TX11 k).2.2.1 = some (tyX11 k) := by decide +kernel
abbrev cX11_init : ByteArray := prog_20_method_1_code
def yX11_init : MethodName := ⟨RX11, "<init>", "(I)V"⟩
def dkwX11_init_0 : List UInt8 := [42, 183, 0, 1, 42, 27, 188, 11, 181, 0, 7, 177]
abbrev dktX11_init_0 : List UInt8 := dkwX11_init_0 ++ []
theorem dksX11_init_0 : cX11_init.data.toList.drop 0 = dktX11_init_0 := by decide +kernel
theorem dX11_init_0 : decode cX11_init 0 = .ok (.aload_n 0, 1) := dk_42 (dk_at dksX11_init_0 0 rfl rfl)
theorem dX11_init_1 : decode cX11_init 1 = .ok (.invokespecial 1, 3) := dk_183 0 1 (dk_at dksX11_init_0 1 rfl rfl)
theorem dX11_init_4 : decode cX11_init 4 = .ok (.aload_n 0, 1) := dk_42 (dk_at dksX11_init_0 4 rfl rfl)
theorem dX11_init_5 : decode cX11_init 5 = .ok (.iload_n 1, 1) := dk_27 (dk_at dksX11_init_0 5 rfl rfl)
theorem dX11_init_6 : decode cX11_init 6 = .ok (.newarray .long, 2) := dk_188_11 (dk_at dksX11_init_0 6 rfl rfl)
theorem dX11_init_8 : decode cX11_init 8 = .ok (.putfield 7, 3) := dk_181 0 7 (dk_at dksX11_init_0 8 rfl rfl)
theorem dX11_init_11 : decode cX11_init 11 = .ok (.return_, 1) := dk_177 (dk_at dksX11_init_0 11 rfl rfl)
abbrev cX11_put : ByteArray := prog_20_method_4_code
def yX11_put : MethodName := ⟨RX11, "put", "(IJ)V"⟩
def dkwX11_put_0 : List UInt8 := [42, 180, 0, 7, 27, 32, 80, 177]
abbrev dktX11_put_0 : List UInt8 := dkwX11_put_0 ++ []
theorem dksX11_put_0 : cX11_put.data.toList.drop 0 = dktX11_put_0 := by decide +kernel
theorem dX11_put_0 : decode cX11_put 0 = .ok (.aload_n 0, 1) := dk_42 (dk_at dksX11_put_0 0 rfl rfl)
theorem dX11_put_1 : decode cX11_put 1 = .ok (.getfield 7, 3) := dk_180 0 7 (dk_at dksX11_put_0 1 rfl rfl)
theorem dX11_put_4 : decode cX11_put 4 = .ok (.iload_n 1, 1) := dk_27 (dk_at dksX11_put_0 4 rfl rfl)
theorem dX11_put_5 : decode cX11_put 5 = .ok (.lload_n 2, 1) := dk_32 (dk_at dksX11_put_0 5 rfl rfl)
theorem dX11_put_6 : decode cX11_put 6 = .ok (.lastore, 1) := dk_80 (dk_at dksX11_put_0 6 rfl rfl)
theorem dX11_put_7 : decode cX11_put 7 = .ok (.return_, 1) := dk_177 (dk_at dksX11_put_0 7 rfl rfl)
abbrev cX11_sort : ByteArray := prog_20_method_2_code
def yX11_sort : MethodName := ⟨RX11, "sort", "()I"⟩
theorem dX11_sort_0 : decode cX11_sort 0 = .ok (.iconst 3, 1) := by decide +kernel
theorem dX11_sort_1 : decode cX11_sort 1 = .ok (.ireturn, 1) := by decide +kernel
abbrev cX11_held : ByteArray := prog_20_method_8_code
def yX11_held : MethodName := ⟨RX11, "held", "()Ljava/lang/Object;"⟩
theorem dX11_held_0 : decode cX11_held 0 = .ok (.aload_n 0, 1) := by decide +kernel
theorem dX11_held_1 : decode cX11_held 1 = .ok (.getfield 7, 3) := by decide +kernel
theorem dX11_held_4 : decode cX11_held 4 = .ok (.areturn, 1) := by decide +kernel
abbrev cX11_get : ByteArray := prog_20_method_5_code
def yX11_get : MethodName := ⟨RX11, "get", "(I)J"⟩
def dkwX11_get_0 : List UInt8 := [42, 180, 0, 7, 27, 47, 173]
abbrev dktX11_get_0 : List UInt8 := dkwX11_get_0 ++ []
theorem dksX11_get_0 : cX11_get.data.toList.drop 0 = dktX11_get_0 := by decide +kernel
theorem dX11_get_0 : decode cX11_get 0 = .ok (.aload_n 0, 1) := dk_42 (dk_at dksX11_get_0 0 rfl rfl)
theorem dX11_get_1 : decode cX11_get 1 = .ok (.getfield 7, 3) := dk_180 0 7 (dk_at dksX11_get_0 1 rfl rfl)
theorem dX11_get_4 : decode cX11_get 4 = .ok (.iload_n 1, 1) := dk_27 (dk_at dksX11_get_0 4 rfl rfl)
theorem dX11_get_5 : decode cX11_get 5 = .ok (.laload, 1) := dk_47 (dk_at dksX11_get_0 5 rfl rfl)
theorem dX11_get_6 : decode cX11_get 6 = .ok (.lreturn, 1) := dk_173 (dk_at dksX11_get_0 6 rfl rfl)
abbrev cX11_length : ByteArray := prog_20_method_3_code
def yX11_length : MethodName := ⟨RX11, "length", "()I"⟩
def dkwX11_length_0 : List UInt8 := [42, 180, 0, 7, 190, 172]
abbrev dktX11_length_0 : List UInt8 := dkwX11_length_0 ++ []
theorem dksX11_length_0 : cX11_length.data.toList.drop 0 = dktX11_length_0 := by decide +kernel
theorem dX11_length_0 : decode cX11_length 0 = .ok (.aload_n 0, 1) := dk_42 (dk_at dksX11_length_0 0 rfl rfl)
theorem dX11_length_1 : decode cX11_length 1 = .ok (.getfield 7, 3) := dk_180 0 7 (dk_at dksX11_length_0 1 rfl rfl)
theorem dX11_length_4 : decode cX11_length 4 = .ok (.arraylength, 1) := dk_190 (dk_at dksX11_length_0 4 rfl rfl)
theorem dX11_length_5 : decode cX11_length 5 = .ok (.ireturn, 1) := dk_172 (dk_at dksX11_length_0 5 rfl rfl)
theorem q102 : (Jvm.Cond.initialized "PluginChains$Longs") ∈ lw_all := lw_g (lw_at lw_m1 22 rfl) rfl
theorem q583 : (Jvm.Cond.instantiable "PluginChains$Longs" (1 : Nat)) ∈ lw_all := lw_g (lw_at lw_m3 23 rfl) rfl
theorem q585 : (Jvm.Cond.instanceMethod ({ cls := "PluginChains$Longs", name := "<init>", desc := "(I)V" } : Jvm.MethodName)) ∈ lw_all := lw_g (lw_at lw_m3 25 rfl) rfl
theorem q586 : (Jvm.Cond.code ({ cls := "PluginChains$Longs", name := "<init>", desc := "(I)V" } : Jvm.MethodName) prog_20_method_1_code (2 : Nat) (Option.none : Option Jvm.ClassFile.FieldType)) ∈ lw_all := lw_g (lw_at lw_m3 26 rfl) rfl
theorem q587 : (Jvm.Cond.methodLink "PluginChains$Longs" (1 : Nat) ({ cls := "PluginChains$Row", name := "<init>", desc := "()V" } : Jvm.MethodName)) ∈ lw_all := lw_g (lw_at lw_m3 27 rfl) rfl
theorem q588 : (Jvm.Cond.fieldLink "PluginChains$Longs" (7 : Nat) "PluginChains$Longs" "e" "[J") ∈ lw_all := lw_g (lw_at lw_m3 28 rfl) rfl
theorem q589 : (Jvm.Cond.laysFinal "PluginChains$Longs" "PluginChains$Longs" "e" "[J") ∈ lw_all := lw_g (lw_at lw_m3 29 rfl) rfl
theorem q590 : (Jvm.Cond.soleField "PluginChains$Longs" "e") ∈ lw_all := lw_g (lw_at lw_m3 30 rfl) rfl
theorem q591 : (Jvm.Cond.superclass "PluginChains$Longs" "PluginChains$Row") ∈ lw_all := lw_g (lw_at lw_m3 31 rfl) rfl
theorem q632 : (Jvm.Cond.selects "PluginChains$Longs" ({ cls := "PluginChains$Row", name := "put", desc := "(IJ)V" } : Jvm.MethodName) ({ cls := "PluginChains$Longs", name := "put", desc := "(IJ)V" } : Jvm.MethodName)) ∈ lw_all := lw_g (lw_at lw_m3 72 rfl) rfl
theorem q633 : (Jvm.Cond.instanceMethod ({ cls := "PluginChains$Longs", name := "put", desc := "(IJ)V" } : Jvm.MethodName)) ∈ lw_all := lw_g (lw_at lw_m3 73 rfl) rfl
theorem q634 : (Jvm.Cond.code ({ cls := "PluginChains$Longs", name := "put", desc := "(IJ)V" } : Jvm.MethodName) prog_20_method_4_code (4 : Nat) (Option.none : Option Jvm.ClassFile.FieldType)) ∈ lw_all := lw_g (lw_at lw_m3 74 rfl) rfl
theorem q657 : (Jvm.Cond.selects "PluginChains$Longs" ({ cls := "PluginChains$Row", name := "sort", desc := "()I" } : Jvm.MethodName) ({ cls := "PluginChains$Longs", name := "sort", desc := "()I" } : Jvm.MethodName)) ∈ lw_all := lw_g (lw_at lw_m3 97 rfl) rfl
theorem q658 : (Jvm.Cond.instanceMethod ({ cls := "PluginChains$Longs", name := "sort", desc := "()I" } : Jvm.MethodName)) ∈ lw_all := lw_g (lw_at lw_m3 98 rfl) rfl
theorem q659 : (Jvm.Cond.code ({ cls := "PluginChains$Longs", name := "sort", desc := "()I" } : Jvm.MethodName) prog_20_method_2_code (1 : Nat) (Option.some Jvm.ClassFile.FieldType.int)) ∈ lw_all := lw_g (lw_at lw_m3 99 rfl) rfl
theorem q672 : (Jvm.Cond.selects "PluginChains$Longs" ({ cls := "PluginChains$Row", name := "held", desc := "()Ljava/lang/Object;" } : Jvm.MethodName) ({ cls := "PluginChains$Longs", name := "held", desc := "()Ljava/lang/Object;" } : Jvm.MethodName)) ∈ lw_all := lw_g (lw_at lw_m3 112 rfl) rfl
theorem q673 : (Jvm.Cond.instanceMethod ({ cls := "PluginChains$Longs", name := "held", desc := "()Ljava/lang/Object;" } : Jvm.MethodName)) ∈ lw_all := lw_g (lw_at lw_m3 113 rfl) rfl
theorem q674 : (Jvm.Cond.code ({ cls := "PluginChains$Longs", name := "held", desc := "()Ljava/lang/Object;" } : Jvm.MethodName) prog_20_method_8_code (1 : Nat) (Option.some (Jvm.ClassFile.FieldType.object "java/lang/Object"))) ∈ lw_all := lw_g (lw_at lw_m3 114 rfl) rfl
theorem q694 : (Jvm.Cond.selects "PluginChains$Longs" ({ cls := "PluginChains$Row", name := "get", desc := "(I)J" } : Jvm.MethodName) ({ cls := "PluginChains$Longs", name := "get", desc := "(I)J" } : Jvm.MethodName)) ∈ lw_all := lw_g (lw_at lw_m3 134 rfl) rfl
theorem q695 : (Jvm.Cond.instanceMethod ({ cls := "PluginChains$Longs", name := "get", desc := "(I)J" } : Jvm.MethodName)) ∈ lw_all := lw_g (lw_at lw_m3 135 rfl) rfl
theorem q696 : (Jvm.Cond.code ({ cls := "PluginChains$Longs", name := "get", desc := "(I)J" } : Jvm.MethodName) prog_20_method_5_code (2 : Nat) (Option.some Jvm.ClassFile.FieldType.long)) ∈ lw_all := lw_g (lw_at lw_m3 136 rfl) rfl
theorem q1318 : (Jvm.Cond.selects "PluginChains$Longs" ({ cls := "java/lang/Object", name := "getClass", desc := "()Ljava/lang/Class;" } : Jvm.MethodName) ({ cls := "java/lang/Object", name := "getClass", desc := "()Ljava/lang/Class;" } : Jvm.MethodName)) ∈ lw_all := lw_g (lw_at lw_m6 38 rfl) rfl
theorem q1671 : (Jvm.Cond.selects "PluginChains$Longs" ({ cls := "PluginChains$Row", name := "length", desc := "()I" } : Jvm.MethodName) ({ cls := "PluginChains$Longs", name := "length", desc := "()I" } : Jvm.MethodName)) ∈ lw_all := lw_g (lw_at lw_m7 151 rfl) rfl
theorem q1672 : (Jvm.Cond.instanceMethod ({ cls := "PluginChains$Longs", name := "length", desc := "()I" } : Jvm.MethodName)) ∈ lw_all := lw_g (lw_at lw_m7 152 rfl) rfl
theorem q1673 : (Jvm.Cond.code ({ cls := "PluginChains$Longs", name := "length", desc := "()I" } : Jvm.MethodName) prog_20_method_3_code (1 : Nat) (Option.some Jvm.ClassFile.FieldType.int)) ∈ lw_all := lw_g (lw_at lw_m7 153 rfl) rfl
theorem q1682 : (Jvm.Cond.selects "PluginChains$Longs" ({ cls := "PluginChains$Row", name := "asInt", desc := "(I)I" } : Jvm.MethodName) ({ cls := "PluginChains$Row", name := "asInt", desc := "(I)I" } : Jvm.MethodName)) ∈ lw_all := lw_g (lw_at lw_m7 162 rfl) rfl
theorem q4033 : (Jvm.Cond.castable "PluginChains$Longs" "PluginChains$Row") ∈ lw_tbl := lw_at lw_m17 113 rfl
theorem q4059 : (Jvm.Cond.castable "PluginChains$Longs" "java/lang/Object") ∈ lw_tbl := lw_at lw_m17 139 rfl
theorem in_X11 : ∀ w ∈ wsX110, w ∈ lw_all := lw_in wsX110 [589] (by decide +kernel) (by decide +kernel)

/-! PluginChains$Plain -/
set_option maxRecDepth 100000
def RX12 : String := "PluginChains$Plain"
def TX12 : u_T := fun k => match k with
  | 0 => ("PluginChains$Plain", "index", "I", true)
  | 1 => ("PluginChains$Plain", "name", "Ljava/lang/String;", true)
  | 2 => ("PluginChains$Plain", "rank", "I", true)
  | 3 => ("PluginChains$Plain", "needs", "I", true)
  | _ => ("PluginChains$Plain", "offers", "I", true)
def tyX12 : Nat → FieldType := fun k => match k with
  | 0 => .int
  | 1 => .object "java/lang/String"
  | 2 => .int
  | 3 => .int
  | _ => .int
abbrev wsX120 : List Cond := u_ws RX12 TX12 5
theorem nmX12 : ∀ a, a < 5 → ∀ b, b < 5 → a ≠ b → (TX12 a).2.1 ≠ (TX12 b).2.1 := by decide +kernel
theorem tyX12_ok : ∀ k, k < 5 → parseFieldDescriptor (TX12 k).2.2.1 = some (tyX12 k) := by decide +kernel
abbrev cX12_strength : ByteArray := prog_23_method_3_code
def yX12_strength : MethodName := ⟨RX12, "strength", "()I"⟩
theorem dX12_strength_0 : decode cX12_strength 0 = .ok (.aload_n 0, 1) := by decide +kernel
theorem dX12_strength_1 : decode cX12_strength 1 = .ok (.getfield 17, 3) := by decide +kernel
theorem dX12_strength_4 : decode cX12_strength 4 = .ok (.ireturn, 1) := by decide +kernel
abbrev cX12_compareTo : ByteArray := prog_23_method_4_code
def yX12_compareTo : MethodName := ⟨RX12, "compareTo", "(LPluginChains$Plain;)I"⟩
def dkwX12_compareTo_0 : List UInt8 := [42, 180, 0, 13, 43, 180, 0, 13, 182, 0, 26, 172]
abbrev dktX12_compareTo_0 : List UInt8 := dkwX12_compareTo_0 ++ []
theorem dksX12_compareTo_0 : cX12_compareTo.data.toList.drop 0 = dktX12_compareTo_0 := by decide +kernel
theorem dX12_compareTo_0 : decode cX12_compareTo 0 = .ok (.aload_n 0, 1) := dk_42 (dk_at dksX12_compareTo_0 0 rfl rfl)
theorem dX12_compareTo_1 : decode cX12_compareTo 1 = .ok (.getfield 13, 3) := dk_180 0 13 (dk_at dksX12_compareTo_0 1 rfl rfl)
theorem dX12_compareTo_4 : decode cX12_compareTo 4 = .ok (.aload_n 1, 1) := dk_43 (dk_at dksX12_compareTo_0 4 rfl rfl)
theorem dX12_compareTo_5 : decode cX12_compareTo 5 = .ok (.getfield 13, 3) := dk_180 0 13 (dk_at dksX12_compareTo_0 5 rfl rfl)
theorem dX12_compareTo_8 : decode cX12_compareTo 8 = .ok (.invokevirtual 26, 3) := dk_182 0 26 (dk_at dksX12_compareTo_0 8 rfl rfl)
theorem dX12_compareTo_11 : decode cX12_compareTo 11 = .ok (.ireturn, 1) := dk_172 (dk_at dksX12_compareTo_0 11 rfl rfl)
abbrev cX12_compareTo_2 : ByteArray := prog_23_method_5_code
def yX12_compareTo_2 : MethodName := ⟨RX12, "compareTo", "(Ljava/lang/Object;)I"⟩
def dkwX12_compareTo_2_0 : List UInt8 := [42, 43, 192, 0, 8, 182, 0, 32, 172]
abbrev dktX12_compareTo_2_0 : List UInt8 := dkwX12_compareTo_2_0 ++ []
theorem dksX12_compareTo_2_0 : cX12_compareTo_2.data.toList.drop 0 = dktX12_compareTo_2_0 := by decide +kernel
theorem dX12_compareTo_2_0 : decode cX12_compareTo_2 0 = .ok (.aload_n 0, 1) := dk_42 (dk_at dksX12_compareTo_2_0 0 rfl rfl)
theorem dX12_compareTo_2_1 : decode cX12_compareTo_2 1 = .ok (.aload_n 1, 1) := dk_43 (dk_at dksX12_compareTo_2_0 1 rfl rfl)
theorem dX12_compareTo_2_2 : decode cX12_compareTo_2 2 = .ok (.checkcast 8, 3) := dk_192 0 8 (dk_at dksX12_compareTo_2_0 2 rfl rfl)
theorem dX12_compareTo_2_5 : decode cX12_compareTo_2 5 = .ok (.invokevirtual 32, 3) := dk_182 0 32 (dk_at dksX12_compareTo_2_0 5 rfl rfl)
theorem dX12_compareTo_2_8 : decode cX12_compareTo_2 8 = .ok (.ireturn, 1) := dk_172 (dk_at dksX12_compareTo_2_0 8 rfl rfl)
abbrev cX12_init : ByteArray := prog_23_method_1_code
def yX12_init : MethodName := ⟨RX12, "<init>", "(ILjava/lang/String;III)V"⟩
def dkwX12_init_1 : List UInt8 := [181, 0, 20, 42, 21, 5, 181, 0, 23, 177]
abbrev dktX12_init_1 : List UInt8 := dkwX12_init_1 ++ []
def dkwX12_init_0 : List UInt8 := [42, 183, 0, 1, 42, 27, 181, 0, 7, 42, 44, 181, 0, 13, 42, 29, 181, 0, 17, 42, 21, 4]
abbrev dktX12_init_0 : List UInt8 := dkwX12_init_0 ++ dktX12_init_1
theorem dksX12_init_0 : cX12_init.data.toList.drop 0 = dktX12_init_0 := by decide +kernel
theorem dksX12_init_1 : cX12_init.data.toList.drop 22 = dktX12_init_1 := dk_seg dksX12_init_0 22 rfl rfl
theorem dX12_init_0 : decode cX12_init 0 = .ok (.aload_n 0, 1) := dk_42 (dk_at dksX12_init_0 0 rfl rfl)
theorem dX12_init_1 : decode cX12_init 1 = .ok (.invokespecial 1, 3) := dk_183 0 1 (dk_at dksX12_init_0 1 rfl rfl)
theorem dX12_init_4 : decode cX12_init 4 = .ok (.aload_n 0, 1) := dk_42 (dk_at dksX12_init_0 4 rfl rfl)
theorem dX12_init_5 : decode cX12_init 5 = .ok (.iload_n 1, 1) := dk_27 (dk_at dksX12_init_0 5 rfl rfl)
theorem dX12_init_6 : decode cX12_init 6 = .ok (.putfield 7, 3) := dk_181 0 7 (dk_at dksX12_init_0 6 rfl rfl)
theorem dX12_init_9 : decode cX12_init 9 = .ok (.aload_n 0, 1) := dk_42 (dk_at dksX12_init_0 9 rfl rfl)
theorem dX12_init_10 : decode cX12_init 10 = .ok (.aload_n 2, 1) := dk_44 (dk_at dksX12_init_0 10 rfl rfl)
theorem dX12_init_11 : decode cX12_init 11 = .ok (.putfield 13, 3) := dk_181 0 13 (dk_at dksX12_init_0 11 rfl rfl)
theorem dX12_init_14 : decode cX12_init 14 = .ok (.aload_n 0, 1) := dk_42 (dk_at dksX12_init_0 14 rfl rfl)
theorem dX12_init_15 : decode cX12_init 15 = .ok (.iload_n 3, 1) := dk_29 (dk_at dksX12_init_0 15 rfl rfl)
theorem dX12_init_16 : decode cX12_init 16 = .ok (.putfield 17, 3) := dk_181 0 17 (dk_at dksX12_init_0 16 rfl rfl)
theorem dX12_init_19 : decode cX12_init 19 = .ok (.aload_n 0, 1) := dk_42 (dk_at dksX12_init_0 19 rfl rfl)
theorem dX12_init_20 : decode cX12_init 20 = .ok (.iload 4, 2) := dk_21 4 (dk_at dksX12_init_0 20 rfl rfl)
theorem dX12_init_22 : decode cX12_init 22 = .ok (.putfield 20, 3) := dk_181 0 20 (dk_at dksX12_init_1 0 rfl rfl)
theorem dX12_init_25 : decode cX12_init 25 = .ok (.aload_n 0, 1) := dk_42 (dk_at dksX12_init_1 3 rfl rfl)
theorem dX12_init_26 : decode cX12_init 26 = .ok (.iload 5, 2) := dk_21 5 (dk_at dksX12_init_1 4 rfl rfl)
theorem dX12_init_28 : decode cX12_init 28 = .ok (.putfield 23, 3) := dk_181 0 23 (dk_at dksX12_init_1 6 rfl rfl)
theorem dX12_init_31 : decode cX12_init 31 = .ok (.return_, 1) := dk_177 (dk_at dksX12_init_1 9 rfl rfl)
abbrev cX12_kind : ByteArray := prog_23_method_2_code
def yX12_kind : MethodName := ⟨RX12, "kind", "()I"⟩
theorem dX12_kind_0 : decode cX12_kind 0 = .ok (.iconst 0, 1) := by decide +kernel
theorem dX12_kind_1 : decode cX12_kind 1 = .ok (.ireturn, 1) := by decide +kernel
theorem q118 : (Jvm.Cond.initialized "PluginChains$Plain") ∈ lw_all := lw_g (lw_at lw_m1 38 rfl) rfl
theorem q753 : (Jvm.Cond.instanceMethod ({ cls := "PluginChains$Plain", name := "strength", desc := "()I" } : Jvm.MethodName)) ∈ lw_all := lw_g (lw_at lw_m3 193 rfl) rfl
theorem q754 : (Jvm.Cond.code ({ cls := "PluginChains$Plain", name := "strength", desc := "()I" } : Jvm.MethodName) prog_23_method_3_code (1 : Nat) (Option.some Jvm.ClassFile.FieldType.int)) ∈ lw_all := lw_g (lw_at lw_m3 194 rfl) rfl
theorem q1035 : (Jvm.Cond.instanceMethod ({ cls := "PluginChains$Plain", name := "compareTo", desc := "(LPluginChains$Plain;)I" } : Jvm.MethodName)) ∈ lw_all := lw_g (lw_at lw_m4 235 rfl) rfl
theorem q1036 : (Jvm.Cond.selects "PluginChains$Plain" ({ cls := "PluginChains$Plain", name := "compareTo", desc := "(LPluginChains$Plain;)I" } : Jvm.MethodName) ({ cls := "PluginChains$Plain", name := "compareTo", desc := "(LPluginChains$Plain;)I" } : Jvm.MethodName)) ∈ lw_all := lw_g (lw_at lw_m4 236 rfl) rfl
theorem q1037 : (Jvm.Cond.sameMethod "PluginChains$Plain" "PluginChains$Plain" "compareTo" "(LPluginChains$Plain;)I") ∈ lw_all := lw_g (lw_at lw_m4 237 rfl) rfl
theorem q1042 : (Jvm.Cond.code ({ cls := "PluginChains$Plain", name := "compareTo", desc := "(LPluginChains$Plain;)I" } : Jvm.MethodName) prog_23_method_4_code (2 : Nat) (Option.some Jvm.ClassFile.FieldType.int)) ∈ lw_all := lw_g (lw_at lw_m5 2 rfl) rfl
theorem q1043 : (Jvm.Cond.methodLink "PluginChains$Plain" (26 : Nat) ({ cls := "java/lang/String", name := "compareTo", desc := "(Ljava/lang/String;)I" } : Jvm.MethodName)) ∈ lw_all := lw_g (lw_at lw_m5 3 rfl) rfl
theorem q1216 : (Jvm.Cond.instanceMethod ({ cls := "PluginChains$Plain", name := "compareTo", desc := "(Ljava/lang/Object;)I" } : Jvm.MethodName)) ∈ lw_all := lw_g (lw_at lw_m5 176 rfl) rfl
theorem q1217 : (Jvm.Cond.publicMethod ({ cls := "PluginChains$Plain", name := "compareTo", desc := "(Ljava/lang/Object;)I" } : Jvm.MethodName)) ∈ lw_tbl := lw_at lw_m5 177 rfl
theorem q1218 : (Jvm.Cond.code ({ cls := "PluginChains$Plain", name := "compareTo", desc := "(Ljava/lang/Object;)I" } : Jvm.MethodName) prog_23_method_5_code (2 : Nat) (Option.some Jvm.ClassFile.FieldType.int)) ∈ lw_all := lw_g (lw_at lw_m5 178 rfl) rfl
theorem q1219 : (Jvm.Cond.classLink "PluginChains$Plain" (8 : Nat) "PluginChains$Plain") ∈ lw_all := lw_g (lw_at lw_m5 179 rfl) rfl
theorem q1220 : (Jvm.Cond.methodLink "PluginChains$Plain" (32 : Nat) ({ cls := "PluginChains$Plain", name := "compareTo", desc := "(LPluginChains$Plain;)I" } : Jvm.MethodName)) ∈ lw_all := lw_g (lw_at lw_m5 180 rfl) rfl
theorem q1224 : (Jvm.Cond.castable "PluginChains$Plain" "java/lang/Comparable") ∈ lw_tbl := lw_at lw_m5 184 rfl
theorem q1225 : (Jvm.Cond.selects "PluginChains$Plain" ({ cls := "java/lang/Comparable", name := "compareTo", desc := "(Ljava/lang/Object;)I" } : Jvm.MethodName) ({ cls := "PluginChains$Plain", name := "compareTo", desc := "(Ljava/lang/Object;)I" } : Jvm.MethodName)) ∈ lw_all := lw_g (lw_at lw_m5 185 rfl) rfl
theorem q1226 : (Jvm.Cond.unhidden "PluginChains$Plain" "compareTo" "(Ljava/lang/Object;)I") ∈ lw_tbl := lw_at lw_m5 186 rfl
theorem q1320 : (Jvm.Cond.selects "PluginChains$Plain" ({ cls := "java/lang/Object", name := "getClass", desc := "()Ljava/lang/Class;" } : Jvm.MethodName) ({ cls := "java/lang/Object", name := "getClass", desc := "()Ljava/lang/Class;" } : Jvm.MethodName)) ∈ lw_all := lw_g (lw_at lw_m6 40 rfl) rfl
theorem q1414 : (Jvm.Cond.instanceMethod ({ cls := "PluginChains$Plain", name := "<init>", desc := "(ILjava/lang/String;III)V" } : Jvm.MethodName)) ∈ lw_all := lw_g (lw_at lw_m6 134 rfl) rfl
theorem q1415 : (Jvm.Cond.code ({ cls := "PluginChains$Plain", name := "<init>", desc := "(ILjava/lang/String;III)V" } : Jvm.MethodName) prog_23_method_1_code (6 : Nat) (Option.none : Option Jvm.ClassFile.FieldType)) ∈ lw_all := lw_g (lw_at lw_m6 135 rfl) rfl
theorem q1416 : (Jvm.Cond.methodLink "PluginChains$Plain" (1 : Nat) ({ cls := "java/lang/Object", name := "<init>", desc := "()V" } : Jvm.MethodName)) ∈ lw_all := lw_g (lw_at lw_m6 136 rfl) rfl
theorem q1417 : (Jvm.Cond.fieldLink "PluginChains$Plain" (7 : Nat) "PluginChains$Plain" "index" "I") ∈ lw_all := lw_g (lw_at lw_m6 137 rfl) rfl
theorem q1420 : (Jvm.Cond.fieldLink "PluginChains$Plain" (13 : Nat) "PluginChains$Plain" "name" "Ljava/lang/String;") ∈ lw_all := lw_g (lw_at lw_m6 140 rfl) rfl
theorem q1423 : (Jvm.Cond.fieldLink "PluginChains$Plain" (17 : Nat) "PluginChains$Plain" "rank" "I") ∈ lw_all := lw_g (lw_at lw_m6 143 rfl) rfl
theorem q1426 : (Jvm.Cond.fieldLink "PluginChains$Plain" (20 : Nat) "PluginChains$Plain" "needs" "I") ∈ lw_all := lw_g (lw_at lw_m6 146 rfl) rfl
theorem q1430 : (Jvm.Cond.fieldLink "PluginChains$Plain" (23 : Nat) "PluginChains$Plain" "offers" "I") ∈ lw_all := lw_g (lw_at lw_m6 150 rfl) rfl
theorem q1436 : (Jvm.Cond.soleField "PluginChains$Plain" "index") ∈ lw_all := lw_g (lw_at lw_m6 156 rfl) rfl
theorem q1438 : (Jvm.Cond.soleField "PluginChains$Plain" "name") ∈ lw_all := lw_g (lw_at lw_m6 158 rfl) rfl
theorem q1440 : (Jvm.Cond.soleField "PluginChains$Plain" "rank") ∈ lw_all := lw_g (lw_at lw_m6 160 rfl) rfl
theorem q1442 : (Jvm.Cond.soleField "PluginChains$Plain" "needs") ∈ lw_all := lw_g (lw_at lw_m6 162 rfl) rfl
theorem q1444 : (Jvm.Cond.soleField "PluginChains$Plain" "offers") ∈ lw_all := lw_g (lw_at lw_m6 164 rfl) rfl
theorem q1478 : (Jvm.Cond.instantiable "PluginChains$Plain" (5 : Nat)) ∈ lw_all := lw_g (lw_at lw_m6 198 rfl) rfl
theorem q1480 : (Jvm.Cond.laysFinal "PluginChains$Plain" "PluginChains$Plain" "index" "I") ∈ lw_all := lw_g (lw_at lw_m6 200 rfl) rfl
theorem q1481 : (Jvm.Cond.laysFinal "PluginChains$Plain" "PluginChains$Plain" "name" "Ljava/lang/String;") ∈ lw_all := lw_g (lw_at lw_m6 201 rfl) rfl
theorem q1482 : (Jvm.Cond.laysFinal "PluginChains$Plain" "PluginChains$Plain" "rank" "I") ∈ lw_all := lw_g (lw_at lw_m6 202 rfl) rfl
theorem q1483 : (Jvm.Cond.laysFinal "PluginChains$Plain" "PluginChains$Plain" "needs" "I") ∈ lw_all := lw_g (lw_at lw_m6 203 rfl) rfl
theorem q1484 : (Jvm.Cond.laysFinal "PluginChains$Plain" "PluginChains$Plain" "offers" "I") ∈ lw_all := lw_g (lw_at lw_m6 204 rfl) rfl
theorem q1485 : (Jvm.Cond.superclass "PluginChains$Plain" "java/lang/Object") ∈ lw_all := lw_g (lw_at lw_m6 205 rfl) rfl
theorem q1739 : (Jvm.Cond.instanceMethod ({ cls := "PluginChains$Plain", name := "kind", desc := "()I" } : Jvm.MethodName)) ∈ lw_all := lw_g (lw_at lw_m7 219 rfl) rfl
theorem q1740 : (Jvm.Cond.selects "PluginChains$Plain" ({ cls := "PluginChains$Plain", name := "kind", desc := "()I" } : Jvm.MethodName) ({ cls := "PluginChains$Plain", name := "kind", desc := "()I" } : Jvm.MethodName)) ∈ lw_all := lw_g (lw_at lw_m7 220 rfl) rfl
theorem q1741 : (Jvm.Cond.sameMethod "PluginChains$Plain" "PluginChains$Plain" "kind" "()I") ∈ lw_all := lw_g (lw_at lw_m7 221 rfl) rfl
theorem q1754 : (Jvm.Cond.code ({ cls := "PluginChains$Plain", name := "kind", desc := "()I" } : Jvm.MethodName) prog_23_method_2_code (1 : Nat) (Option.some Jvm.ClassFile.FieldType.int)) ∈ lw_all := lw_g (lw_at lw_m7 234 rfl) rfl
theorem q3992 : (Jvm.Cond.sameMethod "PluginChains$Plain" "PluginChains$Plain" "strength" "()I") ∈ lw_all := lw_g (lw_at lw_m17 72 rfl) rfl
theorem q4004 : (Jvm.Cond.selects "PluginChains$Plain" ({ cls := "PluginChains$Plain", name := "strength", desc := "()I" } : Jvm.MethodName) ({ cls := "PluginChains$Plain", name := "strength", desc := "()I" } : Jvm.MethodName)) ∈ lw_all := lw_g (lw_at lw_m17 84 rfl) rfl
theorem q4046 : (Jvm.Cond.castable "PluginChains$Plain" "java/lang/Object") ∈ lw_tbl := lw_at lw_m17 126 rfl
theorem in_X12 : ∀ w ∈ wsX120, w ∈ lw_all := lw_in wsX120 [1480, 1481, 1482, 1483, 1484] (by decide +kernel) (by decide +kernel)

/-! PluginChains$Eager -/
set_option maxRecDepth 100000
def RX13 : String := "PluginChains$Eager"
def TX13 : u_T := fun k => match k with
  | 0 => ("PluginChains$Plain", "index", "I", true)
  | 1 => ("PluginChains$Plain", "name", "Ljava/lang/String;", true)
  | 2 => ("PluginChains$Plain", "rank", "I", true)
  | 3 => ("PluginChains$Plain", "needs", "I", true)
  | _ => ("PluginChains$Plain", "offers", "I", true)
def tyX13 : Nat → FieldType := fun k => match k with
  | 0 => .int
  | 1 => .object "java/lang/String"
  | 2 => .int
  | 3 => .int
  | _ => .int
abbrev wsX130 : List Cond := u_ws RX13 TX13 5
theorem nmX13 : ∀ a, a < 5 → ∀ b, b < 5 → a ≠ b → (TX13 a).2.1 ≠ (TX13 b).2.1 := by decide +kernel
theorem tyX13_ok : ∀ k, k < 5 → parseFieldDescriptor (TX13 k).2.2.1 = some (tyX13 k) := by decide +kernel
abbrev cX13_many : ByteArray := prog_10_method_4_code
def yX13_many : MethodName := ⟨RX13, "many", "()I"⟩
def dkwX13_many_0 : List UInt8 := [42, 180, 0, 18, 184, 0, 22, 172]
abbrev dktX13_many_0 : List UInt8 := dkwX13_many_0 ++ []
theorem dksX13_many_0 : cX13_many.data.toList.drop 0 = dktX13_many_0 := by decide +kernel
theorem dX13_many_0 : decode cX13_many 0 = .ok (.aload_n 0, 1) := dk_42 (dk_at dksX13_many_0 0 rfl rfl)
theorem dX13_many_1 : decode cX13_many 1 = .ok (.getfield 18, 3) := dk_180 0 18 (dk_at dksX13_many_0 1 rfl rfl)
theorem dX13_many_4 : decode cX13_many 4 = .ok (.invokestatic 22, 3) := dk_184 0 22 (dk_at dksX13_many_0 4 rfl rfl)
theorem dX13_many_7 : decode cX13_many 7 = .ok (.ireturn, 1) := dk_172 (dk_at dksX13_many_0 7 rfl rfl)
abbrev cX13_strength : ByteArray := prog_10_method_3_code
def yX13_strength : MethodName := ⟨RX13, "strength", "()I"⟩
def dkwX13_strength_0 : List UInt8 := [42, 183, 0, 9, 42, 182, 0, 13, 96, 172]
abbrev dktX13_strength_0 : List UInt8 := dkwX13_strength_0 ++ []
theorem dksX13_strength_0 : cX13_strength.data.toList.drop 0 = dktX13_strength_0 := by decide +kernel
theorem dX13_strength_0 : decode cX13_strength 0 = .ok (.aload_n 0, 1) := dk_42 (dk_at dksX13_strength_0 0 rfl rfl)
theorem dX13_strength_1 : decode cX13_strength 1 = .ok (.invokespecial 9, 3) := dk_183 0 9 (dk_at dksX13_strength_0 1 rfl rfl)
theorem dX13_strength_4 : decode cX13_strength 4 = .ok (.aload_n 0, 1) := dk_42 (dk_at dksX13_strength_0 4 rfl rfl)
theorem dX13_strength_5 : decode cX13_strength 5 = .ok (.invokevirtual 13, 3) := dk_182 0 13 (dk_at dksX13_strength_0 5 rfl rfl)
theorem dX13_strength_8 : decode cX13_strength 8 = .ok (.iadd, 1) := dk_96 (dk_at dksX13_strength_0 8 rfl rfl)
theorem dX13_strength_9 : decode cX13_strength 9 = .ok (.ireturn, 1) := dk_172 (dk_at dksX13_strength_0 9 rfl rfl)
abbrev cX13_init : ByteArray := prog_10_method_1_code
def yX13_init : MethodName := ⟨RX13, "<init>", "(ILjava/lang/String;III)V"⟩
def dkwX13_init_0 : List UInt8 := [42, 27, 44, 29, 21, 4, 21, 5, 183, 0, 3, 177]
abbrev dktX13_init_0 : List UInt8 := dkwX13_init_0 ++ []
theorem dksX13_init_0 : cX13_init.data.toList.drop 0 = dktX13_init_0 := by decide +kernel
theorem dX13_init_0 : decode cX13_init 0 = .ok (.aload_n 0, 1) := dk_42 (dk_at dksX13_init_0 0 rfl rfl)
theorem dX13_init_1 : decode cX13_init 1 = .ok (.iload_n 1, 1) := dk_27 (dk_at dksX13_init_0 1 rfl rfl)
theorem dX13_init_2 : decode cX13_init 2 = .ok (.aload_n 2, 1) := dk_44 (dk_at dksX13_init_0 2 rfl rfl)
theorem dX13_init_3 : decode cX13_init 3 = .ok (.iload_n 3, 1) := dk_29 (dk_at dksX13_init_0 3 rfl rfl)
theorem dX13_init_4 : decode cX13_init 4 = .ok (.iload 4, 2) := dk_21 4 (dk_at dksX13_init_0 4 rfl rfl)
theorem dX13_init_6 : decode cX13_init 6 = .ok (.iload 5, 2) := dk_21 5 (dk_at dksX13_init_0 6 rfl rfl)
theorem dX13_init_8 : decode cX13_init 8 = .ok (.invokespecial 3, 3) := dk_183 0 3 (dk_at dksX13_init_0 8 rfl rfl)
theorem dX13_init_11 : decode cX13_init 11 = .ok (.return_, 1) := dk_177 (dk_at dksX13_init_0 11 rfl rfl)
abbrev cX13_kind : ByteArray := prog_10_method_2_code
def yX13_kind : MethodName := ⟨RX13, "kind", "()I"⟩
theorem dX13_kind_0 : decode cX13_kind 0 = .ok (.iconst 1, 1) := by decide +kernel
theorem dX13_kind_1 : decode cX13_kind 1 = .ok (.ireturn, 1) := by decide +kernel
theorem q119 : (Jvm.Cond.initialized "PluginChains$Eager") ∈ lw_all := lw_g (lw_at lw_m1 39 rfl) rfl
theorem q729 : (Jvm.Cond.instanceMethod ({ cls := "PluginChains$Eager", name := "many", desc := "()I" } : Jvm.MethodName)) ∈ lw_all := lw_g (lw_at lw_m3 169 rfl) rfl
theorem q730 : (Jvm.Cond.selects "PluginChains$Eager" ({ cls := "PluginChains$Eager", name := "many", desc := "()I" } : Jvm.MethodName) ({ cls := "PluginChains$Eager", name := "many", desc := "()I" } : Jvm.MethodName)) ∈ lw_all := lw_g (lw_at lw_m3 170 rfl) rfl
theorem q731 : (Jvm.Cond.sameMethod "PluginChains$Eager" "PluginChains$Eager" "many" "()I") ∈ lw_all := lw_g (lw_at lw_m3 171 rfl) rfl
theorem q733 : (Jvm.Cond.code ({ cls := "PluginChains$Eager", name := "many", desc := "()I" } : Jvm.MethodName) prog_10_method_4_code (1 : Nat) (Option.some Jvm.ClassFile.FieldType.int)) ∈ lw_all := lw_g (lw_at lw_m3 173 rfl) rfl
theorem q734 : (Jvm.Cond.methodLink "PluginChains$Eager" (22 : Nat) ({ cls := "java/lang/Integer", name := "bitCount", desc := "(I)I" } : Jvm.MethodName)) ∈ lw_all := lw_g (lw_at lw_m3 174 rfl) rfl
theorem q761 : (Jvm.Cond.declares ({ cls := "PluginChains$Eager", name := "many", desc := "()I" } : Jvm.MethodName)) ∈ lw_tbl := lw_at lw_m3 201 rfl
theorem q1025 : (Jvm.Cond.instanceMethod ({ cls := "PluginChains$Eager", name := "strength", desc := "()I" } : Jvm.MethodName)) ∈ lw_all := lw_g (lw_at lw_m4 225 rfl) rfl
theorem q1026 : (Jvm.Cond.code ({ cls := "PluginChains$Eager", name := "strength", desc := "()I" } : Jvm.MethodName) prog_10_method_3_code (1 : Nat) (Option.some Jvm.ClassFile.FieldType.int)) ∈ lw_all := lw_g (lw_at lw_m4 226 rfl) rfl
theorem q1027 : (Jvm.Cond.methodLink "PluginChains$Eager" (9 : Nat) ({ cls := "PluginChains$Plain", name := "strength", desc := "()I" } : Jvm.MethodName)) ∈ lw_all := lw_g (lw_at lw_m4 227 rfl) rfl
theorem q1028 : (Jvm.Cond.superclass "PluginChains$Eager" "PluginChains$Plain") ∈ lw_all := lw_g (lw_at lw_m4 228 rfl) rfl
theorem q1029 : (Jvm.Cond.methodLink "PluginChains$Eager" (13 : Nat) ({ cls := "PluginChains$Eager", name := "many", desc := "()I" } : Jvm.MethodName)) ∈ lw_all := lw_g (lw_at lw_m4 229 rfl) rfl
theorem q1038 : (Jvm.Cond.selects "PluginChains$Eager" ({ cls := "PluginChains$Plain", name := "compareTo", desc := "(LPluginChains$Plain;)I" } : Jvm.MethodName) ({ cls := "PluginChains$Plain", name := "compareTo", desc := "(LPluginChains$Plain;)I" } : Jvm.MethodName)) ∈ lw_all := lw_g (lw_at lw_m4 238 rfl) rfl
theorem q1213 : (Jvm.Cond.castable "PluginChains$Eager" "java/lang/Comparable") ∈ lw_tbl := lw_at lw_m5 173 rfl
theorem q1214 : (Jvm.Cond.selects "PluginChains$Eager" ({ cls := "java/lang/Comparable", name := "compareTo", desc := "(Ljava/lang/Object;)I" } : Jvm.MethodName) ({ cls := "PluginChains$Plain", name := "compareTo", desc := "(Ljava/lang/Object;)I" } : Jvm.MethodName)) ∈ lw_all := lw_g (lw_at lw_m5 174 rfl) rfl
theorem q1215 : (Jvm.Cond.unhidden "PluginChains$Eager" "compareTo" "(Ljava/lang/Object;)I") ∈ lw_tbl := lw_at lw_m5 175 rfl
theorem q1308 : (Jvm.Cond.selects "PluginChains$Eager" ({ cls := "java/lang/Object", name := "getClass", desc := "()Ljava/lang/Class;" } : Jvm.MethodName) ({ cls := "java/lang/Object", name := "getClass", desc := "()Ljava/lang/Class;" } : Jvm.MethodName)) ∈ lw_all := lw_g (lw_at lw_m6 28 rfl) rfl
theorem q1409 : (Jvm.Cond.instantiable "PluginChains$Eager" (5 : Nat)) ∈ lw_all := lw_g (lw_at lw_m6 129 rfl) rfl
theorem q1411 : (Jvm.Cond.instanceMethod ({ cls := "PluginChains$Eager", name := "<init>", desc := "(ILjava/lang/String;III)V" } : Jvm.MethodName)) ∈ lw_all := lw_g (lw_at lw_m6 131 rfl) rfl
theorem q1412 : (Jvm.Cond.code ({ cls := "PluginChains$Eager", name := "<init>", desc := "(ILjava/lang/String;III)V" } : Jvm.MethodName) prog_10_method_1_code (6 : Nat) (Option.none : Option Jvm.ClassFile.FieldType)) ∈ lw_all := lw_g (lw_at lw_m6 132 rfl) rfl
theorem q1413 : (Jvm.Cond.methodLink "PluginChains$Eager" (3 : Nat) ({ cls := "PluginChains$Plain", name := "<init>", desc := "(ILjava/lang/String;III)V" } : Jvm.MethodName)) ∈ lw_all := lw_g (lw_at lw_m6 133 rfl) rfl
theorem q1431 : (Jvm.Cond.fieldLink "PluginChains$Eager" (18 : Nat) "PluginChains$Eager" "offers" "I") ∈ lw_all := lw_g (lw_at lw_m6 151 rfl) rfl
theorem q1432 : (Jvm.Cond.sameField "PluginChains$Eager" "PluginChains$Plain" "offers" "I") ∈ lw_all := lw_g (lw_at lw_m6 152 rfl) rfl
theorem q1435 : (Jvm.Cond.laysFinal "PluginChains$Eager" "PluginChains$Plain" "index" "I") ∈ lw_all := lw_g (lw_at lw_m6 155 rfl) rfl
theorem q1437 : (Jvm.Cond.laysFinal "PluginChains$Eager" "PluginChains$Plain" "name" "Ljava/lang/String;") ∈ lw_all := lw_g (lw_at lw_m6 157 rfl) rfl
theorem q1439 : (Jvm.Cond.laysFinal "PluginChains$Eager" "PluginChains$Plain" "rank" "I") ∈ lw_all := lw_g (lw_at lw_m6 159 rfl) rfl
theorem q1441 : (Jvm.Cond.laysFinal "PluginChains$Eager" "PluginChains$Plain" "needs" "I") ∈ lw_all := lw_g (lw_at lw_m6 161 rfl) rfl
theorem q1443 : (Jvm.Cond.laysFinal "PluginChains$Eager" "PluginChains$Plain" "offers" "I") ∈ lw_all := lw_g (lw_at lw_m6 163 rfl) rfl
theorem q1742 : (Jvm.Cond.selects "PluginChains$Eager" ({ cls := "PluginChains$Plain", name := "kind", desc := "()I" } : Jvm.MethodName) ({ cls := "PluginChains$Eager", name := "kind", desc := "()I" } : Jvm.MethodName)) ∈ lw_all := lw_g (lw_at lw_m7 222 rfl) rfl
theorem q1743 : (Jvm.Cond.instanceMethod ({ cls := "PluginChains$Eager", name := "kind", desc := "()I" } : Jvm.MethodName)) ∈ lw_all := lw_g (lw_at lw_m7 223 rfl) rfl
theorem q1744 : (Jvm.Cond.code ({ cls := "PluginChains$Eager", name := "kind", desc := "()I" } : Jvm.MethodName) prog_10_method_2_code (1 : Nat) (Option.some Jvm.ClassFile.FieldType.int)) ∈ lw_all := lw_g (lw_at lw_m7 224 rfl) rfl
theorem q4001 : (Jvm.Cond.selects "PluginChains$Eager" ({ cls := "PluginChains$Plain", name := "strength", desc := "()I" } : Jvm.MethodName) ({ cls := "PluginChains$Eager", name := "strength", desc := "()I" } : Jvm.MethodName)) ∈ lw_all := lw_g (lw_at lw_m17 81 rfl) rfl
theorem q4003 : (Jvm.Cond.sameMethod "PluginChains$Eager" "PluginChains$Eager" "strength" "()I") ∈ lw_all := lw_g (lw_at lw_m17 83 rfl) rfl
theorem q4035 : (Jvm.Cond.castable "PluginChains$Eager" "PluginChains$Plain") ∈ lw_tbl := lw_at lw_m17 115 rfl
theorem q4064 : (Jvm.Cond.castable "PluginChains$Eager" "java/lang/Object") ∈ lw_tbl := lw_at lw_m17 144 rfl
theorem in_X13 : ∀ w ∈ wsX130, w ∈ lw_all := lw_in wsX130 [1435, 1437, 1439, 1441, 1443] (by decide +kernel) (by decide +kernel)

/-! PluginChains$Steady -/
set_option maxRecDepth 100000
def RX14 : String := "PluginChains$Steady"
def TX14 : u_T := fun k => match k with
  | 0 => ("PluginChains$Plain", "index", "I", true)
  | 1 => ("PluginChains$Plain", "name", "Ljava/lang/String;", true)
  | 2 => ("PluginChains$Plain", "rank", "I", true)
  | 3 => ("PluginChains$Plain", "needs", "I", true)
  | _ => ("PluginChains$Plain", "offers", "I", true)
def tyX14 : Nat → FieldType := fun k => match k with
  | 0 => .int
  | 1 => .object "java/lang/String"
  | 2 => .int
  | 3 => .int
  | _ => .int
abbrev wsX140 : List Cond := u_ws RX14 TX14 5
theorem nmX14 : ∀ a, a < 5 → ∀ b, b < 5 → a ≠ b → (TX14 a).2.1 ≠ (TX14 b).2.1 := by decide +kernel
theorem tyX14_ok : ∀ k, k < 5 → parseFieldDescriptor (TX14 k).2.2.1 = some (tyX14 k) := by decide +kernel
abbrev cX14_strength : ByteArray := prog_34_method_3_code
def yX14_strength : MethodName := ⟨RX14, "strength", "()I"⟩
def dkwX14_strength_0 : List UInt8 := [8, 42, 183, 0, 9, 184, 0, 13, 172]
abbrev dktX14_strength_0 : List UInt8 := dkwX14_strength_0 ++ []
theorem dksX14_strength_0 : cX14_strength.data.toList.drop 0 = dktX14_strength_0 := by decide +kernel
theorem dX14_strength_0 : decode cX14_strength 0 = .ok (.iconst 5, 1) := dk_8 (dk_at dksX14_strength_0 0 rfl rfl)
theorem dX14_strength_1 : decode cX14_strength 1 = .ok (.aload_n 0, 1) := dk_42 (dk_at dksX14_strength_0 1 rfl rfl)
theorem dX14_strength_2 : decode cX14_strength 2 = .ok (.invokespecial 9, 3) := dk_183 0 9 (dk_at dksX14_strength_0 2 rfl rfl)
theorem dX14_strength_5 : decode cX14_strength 5 = .ok (.invokestatic 13, 3) := dk_184 0 13 (dk_at dksX14_strength_0 5 rfl rfl)
theorem dX14_strength_8 : decode cX14_strength 8 = .ok (.ireturn, 1) := dk_172 (dk_at dksX14_strength_0 8 rfl rfl)
abbrev cX14_init : ByteArray := prog_34_method_1_code
def yX14_init : MethodName := ⟨RX14, "<init>", "(ILjava/lang/String;III)V"⟩
def dkwX14_init_0 : List UInt8 := [42, 27, 44, 29, 21, 4, 21, 5, 183, 0, 3, 177]
abbrev dktX14_init_0 : List UInt8 := dkwX14_init_0 ++ []
theorem dksX14_init_0 : cX14_init.data.toList.drop 0 = dktX14_init_0 := by decide +kernel
theorem dX14_init_0 : decode cX14_init 0 = .ok (.aload_n 0, 1) := dk_42 (dk_at dksX14_init_0 0 rfl rfl)
theorem dX14_init_1 : decode cX14_init 1 = .ok (.iload_n 1, 1) := dk_27 (dk_at dksX14_init_0 1 rfl rfl)
theorem dX14_init_2 : decode cX14_init 2 = .ok (.aload_n 2, 1) := dk_44 (dk_at dksX14_init_0 2 rfl rfl)
theorem dX14_init_3 : decode cX14_init 3 = .ok (.iload_n 3, 1) := dk_29 (dk_at dksX14_init_0 3 rfl rfl)
theorem dX14_init_4 : decode cX14_init 4 = .ok (.iload 4, 2) := dk_21 4 (dk_at dksX14_init_0 4 rfl rfl)
theorem dX14_init_6 : decode cX14_init 6 = .ok (.iload 5, 2) := dk_21 5 (dk_at dksX14_init_0 6 rfl rfl)
theorem dX14_init_8 : decode cX14_init 8 = .ok (.invokespecial 3, 3) := dk_183 0 3 (dk_at dksX14_init_0 8 rfl rfl)
theorem dX14_init_11 : decode cX14_init 11 = .ok (.return_, 1) := dk_177 (dk_at dksX14_init_0 11 rfl rfl)
abbrev cX14_kind : ByteArray := prog_34_method_2_code
def yX14_kind : MethodName := ⟨RX14, "kind", "()I"⟩
theorem dX14_kind_0 : decode cX14_kind 0 = .ok (.iconst 2, 1) := by decide +kernel
theorem dX14_kind_1 : decode cX14_kind 1 = .ok (.ireturn, 1) := by decide +kernel
theorem q120 : (Jvm.Cond.initialized "PluginChains$Steady") ∈ lw_all := lw_g (lw_at lw_m1 40 rfl) rfl
theorem q742 : (Jvm.Cond.instanceMethod ({ cls := "PluginChains$Steady", name := "strength", desc := "()I" } : Jvm.MethodName)) ∈ lw_all := lw_g (lw_at lw_m3 182 rfl) rfl
theorem q743 : (Jvm.Cond.selects "PluginChains$Steady" ({ cls := "PluginChains$Steady", name := "strength", desc := "()I" } : Jvm.MethodName) ({ cls := "PluginChains$Steady", name := "strength", desc := "()I" } : Jvm.MethodName)) ∈ lw_all := lw_g (lw_at lw_m3 183 rfl) rfl
theorem q744 : (Jvm.Cond.sameMethod "PluginChains$Steady" "PluginChains$Steady" "strength" "()I") ∈ lw_all := lw_g (lw_at lw_m3 184 rfl) rfl
theorem q750 : (Jvm.Cond.code ({ cls := "PluginChains$Steady", name := "strength", desc := "()I" } : Jvm.MethodName) prog_34_method_3_code (1 : Nat) (Option.some Jvm.ClassFile.FieldType.int)) ∈ lw_all := lw_g (lw_at lw_m3 190 rfl) rfl
theorem q751 : (Jvm.Cond.methodLink "PluginChains$Steady" (9 : Nat) ({ cls := "PluginChains$Plain", name := "strength", desc := "()I" } : Jvm.MethodName)) ∈ lw_all := lw_g (lw_at lw_m3 191 rfl) rfl
theorem q752 : (Jvm.Cond.superclass "PluginChains$Steady" "PluginChains$Plain") ∈ lw_all := lw_g (lw_at lw_m3 192 rfl) rfl
theorem q755 : (Jvm.Cond.methodLink "PluginChains$Steady" (13 : Nat) ({ cls := "java/lang/Math", name := "max", desc := "(II)I" } : Jvm.MethodName)) ∈ lw_all := lw_g (lw_at lw_m3 195 rfl) rfl
theorem q1041 : (Jvm.Cond.selects "PluginChains$Steady" ({ cls := "PluginChains$Plain", name := "compareTo", desc := "(LPluginChains$Plain;)I" } : Jvm.MethodName) ({ cls := "PluginChains$Plain", name := "compareTo", desc := "(LPluginChains$Plain;)I" } : Jvm.MethodName)) ∈ lw_all := lw_g (lw_at lw_m5 1 rfl) rfl
theorem q1230 : (Jvm.Cond.castable "PluginChains$Steady" "java/lang/Comparable") ∈ lw_tbl := lw_at lw_m5 190 rfl
theorem q1231 : (Jvm.Cond.selects "PluginChains$Steady" ({ cls := "java/lang/Comparable", name := "compareTo", desc := "(Ljava/lang/Object;)I" } : Jvm.MethodName) ({ cls := "PluginChains$Plain", name := "compareTo", desc := "(Ljava/lang/Object;)I" } : Jvm.MethodName)) ∈ lw_all := lw_g (lw_at lw_m5 191 rfl) rfl
theorem q1232 : (Jvm.Cond.unhidden "PluginChains$Steady" "compareTo" "(Ljava/lang/Object;)I") ∈ lw_tbl := lw_at lw_m5 192 rfl
theorem q1329 : (Jvm.Cond.selects "PluginChains$Steady" ({ cls := "java/lang/Object", name := "getClass", desc := "()Ljava/lang/Class;" } : Jvm.MethodName) ({ cls := "java/lang/Object", name := "getClass", desc := "()Ljava/lang/Class;" } : Jvm.MethodName)) ∈ lw_all := lw_g (lw_at lw_m6 49 rfl) rfl
theorem q1446 : (Jvm.Cond.instantiable "PluginChains$Steady" (5 : Nat)) ∈ lw_all := lw_g (lw_at lw_m6 166 rfl) rfl
theorem q1448 : (Jvm.Cond.instanceMethod ({ cls := "PluginChains$Steady", name := "<init>", desc := "(ILjava/lang/String;III)V" } : Jvm.MethodName)) ∈ lw_all := lw_g (lw_at lw_m6 168 rfl) rfl
theorem q1449 : (Jvm.Cond.code ({ cls := "PluginChains$Steady", name := "<init>", desc := "(ILjava/lang/String;III)V" } : Jvm.MethodName) prog_34_method_1_code (6 : Nat) (Option.none : Option Jvm.ClassFile.FieldType)) ∈ lw_all := lw_g (lw_at lw_m6 169 rfl) rfl
theorem q1450 : (Jvm.Cond.methodLink "PluginChains$Steady" (3 : Nat) ({ cls := "PluginChains$Plain", name := "<init>", desc := "(ILjava/lang/String;III)V" } : Jvm.MethodName)) ∈ lw_all := lw_g (lw_at lw_m6 170 rfl) rfl
theorem q1451 : (Jvm.Cond.laysFinal "PluginChains$Steady" "PluginChains$Plain" "index" "I") ∈ lw_all := lw_g (lw_at lw_m6 171 rfl) rfl
theorem q1452 : (Jvm.Cond.laysFinal "PluginChains$Steady" "PluginChains$Plain" "name" "Ljava/lang/String;") ∈ lw_all := lw_g (lw_at lw_m6 172 rfl) rfl
theorem q1453 : (Jvm.Cond.laysFinal "PluginChains$Steady" "PluginChains$Plain" "rank" "I") ∈ lw_all := lw_g (lw_at lw_m6 173 rfl) rfl
theorem q1454 : (Jvm.Cond.laysFinal "PluginChains$Steady" "PluginChains$Plain" "needs" "I") ∈ lw_all := lw_g (lw_at lw_m6 174 rfl) rfl
theorem q1455 : (Jvm.Cond.laysFinal "PluginChains$Steady" "PluginChains$Plain" "offers" "I") ∈ lw_all := lw_g (lw_at lw_m6 175 rfl) rfl
theorem q1751 : (Jvm.Cond.selects "PluginChains$Steady" ({ cls := "PluginChains$Plain", name := "kind", desc := "()I" } : Jvm.MethodName) ({ cls := "PluginChains$Steady", name := "kind", desc := "()I" } : Jvm.MethodName)) ∈ lw_all := lw_g (lw_at lw_m7 231 rfl) rfl
theorem q1752 : (Jvm.Cond.instanceMethod ({ cls := "PluginChains$Steady", name := "kind", desc := "()I" } : Jvm.MethodName)) ∈ lw_all := lw_g (lw_at lw_m7 232 rfl) rfl
theorem q1753 : (Jvm.Cond.code ({ cls := "PluginChains$Steady", name := "kind", desc := "()I" } : Jvm.MethodName) prog_34_method_2_code (1 : Nat) (Option.some Jvm.ClassFile.FieldType.int)) ∈ lw_all := lw_g (lw_at lw_m7 233 rfl) rfl
theorem q4006 : (Jvm.Cond.selects "PluginChains$Steady" ({ cls := "PluginChains$Plain", name := "strength", desc := "()I" } : Jvm.MethodName) ({ cls := "PluginChains$Steady", name := "strength", desc := "()I" } : Jvm.MethodName)) ∈ lw_all := lw_g (lw_at lw_m17 86 rfl) rfl
theorem q4038 : (Jvm.Cond.castable "PluginChains$Steady" "PluginChains$Plain") ∈ lw_tbl := lw_at lw_m17 118 rfl
theorem q4065 : (Jvm.Cond.castable "PluginChains$Steady" "java/lang/Object") ∈ lw_tbl := lw_at lw_m17 145 rfl
theorem in_X14 : ∀ w ∈ wsX140, w ∈ lw_all := lw_in wsX140 [1451, 1452, 1453, 1454, 1455] (by decide +kernel) (by decide +kernel)

/-! PluginChains$Keen -/
set_option maxRecDepth 100000
def RX15 : String := "PluginChains$Keen"
def TX15 : u_T := fun k => match k with
  | 0 => ("PluginChains$Plain", "index", "I", true)
  | 1 => ("PluginChains$Plain", "name", "Ljava/lang/String;", true)
  | 2 => ("PluginChains$Plain", "rank", "I", true)
  | 3 => ("PluginChains$Plain", "needs", "I", true)
  | _ => ("PluginChains$Plain", "offers", "I", true)
def tyX15 : Nat → FieldType := fun k => match k with
  | 0 => .int
  | 1 => .object "java/lang/String"
  | 2 => .int
  | 3 => .int
  | _ => .int
abbrev wsX150 : List Cond := u_ws RX15 TX15 5
theorem nmX15 : ∀ a, a < 5 → ∀ b, b < 5 → a ≠ b → (TX15 a).2.1 ≠ (TX15 b).2.1 := by decide +kernel
theorem tyX15_ok : ∀ k, k < 5 → parseFieldDescriptor (TX15 k).2.2.1 = some (tyX15 k) := by decide +kernel
abbrev cX15_strength : ByteArray := prog_18_method_3_code
def yX15_strength : MethodName := ⟨RX15, "strength", "()I"⟩
def dkwX15_strength_0 : List UInt8 := [42, 183, 0, 9, 5, 104, 172]
abbrev dktX15_strength_0 : List UInt8 := dkwX15_strength_0 ++ []
theorem dksX15_strength_0 : cX15_strength.data.toList.drop 0 = dktX15_strength_0 := by decide +kernel
theorem dX15_strength_0 : decode cX15_strength 0 = .ok (.aload_n 0, 1) := dk_42 (dk_at dksX15_strength_0 0 rfl rfl)
theorem dX15_strength_1 : decode cX15_strength 1 = .ok (.invokespecial 9, 3) := dk_183 0 9 (dk_at dksX15_strength_0 1 rfl rfl)
theorem dX15_strength_4 : decode cX15_strength 4 = .ok (.iconst 2, 1) := dk_5 (dk_at dksX15_strength_0 4 rfl rfl)
theorem dX15_strength_5 : decode cX15_strength 5 = .ok (.imul, 1) := dk_104 (dk_at dksX15_strength_0 5 rfl rfl)
theorem dX15_strength_6 : decode cX15_strength 6 = .ok (.ireturn, 1) := dk_172 (dk_at dksX15_strength_0 6 rfl rfl)
abbrev cX15_init : ByteArray := prog_18_method_1_code
def yX15_init : MethodName := ⟨RX15, "<init>", "(ILjava/lang/String;III)V"⟩
def dkwX15_init_0 : List UInt8 := [42, 27, 44, 29, 21, 4, 21, 5, 183, 0, 3, 177]
abbrev dktX15_init_0 : List UInt8 := dkwX15_init_0 ++ []
theorem dksX15_init_0 : cX15_init.data.toList.drop 0 = dktX15_init_0 := by decide +kernel
theorem dX15_init_0 : decode cX15_init 0 = .ok (.aload_n 0, 1) := dk_42 (dk_at dksX15_init_0 0 rfl rfl)
theorem dX15_init_1 : decode cX15_init 1 = .ok (.iload_n 1, 1) := dk_27 (dk_at dksX15_init_0 1 rfl rfl)
theorem dX15_init_2 : decode cX15_init 2 = .ok (.aload_n 2, 1) := dk_44 (dk_at dksX15_init_0 2 rfl rfl)
theorem dX15_init_3 : decode cX15_init 3 = .ok (.iload_n 3, 1) := dk_29 (dk_at dksX15_init_0 3 rfl rfl)
theorem dX15_init_4 : decode cX15_init 4 = .ok (.iload 4, 2) := dk_21 4 (dk_at dksX15_init_0 4 rfl rfl)
theorem dX15_init_6 : decode cX15_init 6 = .ok (.iload 5, 2) := dk_21 5 (dk_at dksX15_init_0 6 rfl rfl)
theorem dX15_init_8 : decode cX15_init 8 = .ok (.invokespecial 3, 3) := dk_183 0 3 (dk_at dksX15_init_0 8 rfl rfl)
theorem dX15_init_11 : decode cX15_init 11 = .ok (.return_, 1) := dk_177 (dk_at dksX15_init_0 11 rfl rfl)
abbrev cX15_kind : ByteArray := prog_18_method_2_code
def yX15_kind : MethodName := ⟨RX15, "kind", "()I"⟩
theorem dX15_kind_0 : decode cX15_kind 0 = .ok (.iconst 3, 1) := by decide +kernel
theorem dX15_kind_1 : decode cX15_kind 1 = .ok (.ireturn, 1) := by decide +kernel
theorem q121 : (Jvm.Cond.initialized "PluginChains$Keen") ∈ lw_all := lw_g (lw_at lw_m1 41 rfl) rfl
theorem q732 : (Jvm.Cond.selects "PluginChains$Keen" ({ cls := "PluginChains$Eager", name := "many", desc := "()I" } : Jvm.MethodName) ({ cls := "PluginChains$Eager", name := "many", desc := "()I" } : Jvm.MethodName)) ∈ lw_all := lw_g (lw_at lw_m3 172 rfl) rfl
theorem q760 : (Jvm.Cond.sameMethod "PluginChains$Keen" "PluginChains$Eager" "many" "()I") ∈ lw_all := lw_g (lw_at lw_m3 200 rfl) rfl
theorem q762 : (Jvm.Cond.selects "PluginChains$Keen" ({ cls := "PluginChains$Keen", name := "many", desc := "()I" } : Jvm.MethodName) ({ cls := "PluginChains$Eager", name := "many", desc := "()I" } : Jvm.MethodName)) ∈ lw_all := lw_g (lw_at lw_m3 202 rfl) rfl
theorem q1030 : (Jvm.Cond.instanceMethod ({ cls := "PluginChains$Keen", name := "strength", desc := "()I" } : Jvm.MethodName)) ∈ lw_all := lw_g (lw_at lw_m4 230 rfl) rfl
theorem q1031 : (Jvm.Cond.code ({ cls := "PluginChains$Keen", name := "strength", desc := "()I" } : Jvm.MethodName) prog_18_method_3_code (1 : Nat) (Option.some Jvm.ClassFile.FieldType.int)) ∈ lw_all := lw_g (lw_at lw_m4 231 rfl) rfl
theorem q1032 : (Jvm.Cond.methodLink "PluginChains$Keen" (9 : Nat) ({ cls := "PluginChains$Eager", name := "strength", desc := "()I" } : Jvm.MethodName)) ∈ lw_all := lw_g (lw_at lw_m4 232 rfl) rfl
theorem q1033 : (Jvm.Cond.superclass "PluginChains$Keen" "PluginChains$Eager") ∈ lw_all := lw_g (lw_at lw_m4 233 rfl) rfl
theorem q1039 : (Jvm.Cond.selects "PluginChains$Keen" ({ cls := "PluginChains$Plain", name := "compareTo", desc := "(LPluginChains$Plain;)I" } : Jvm.MethodName) ({ cls := "PluginChains$Plain", name := "compareTo", desc := "(LPluginChains$Plain;)I" } : Jvm.MethodName)) ∈ lw_all := lw_g (lw_at lw_m4 239 rfl) rfl
theorem q1221 : (Jvm.Cond.castable "PluginChains$Keen" "java/lang/Comparable") ∈ lw_tbl := lw_at lw_m5 181 rfl
theorem q1222 : (Jvm.Cond.selects "PluginChains$Keen" ({ cls := "java/lang/Comparable", name := "compareTo", desc := "(Ljava/lang/Object;)I" } : Jvm.MethodName) ({ cls := "PluginChains$Plain", name := "compareTo", desc := "(Ljava/lang/Object;)I" } : Jvm.MethodName)) ∈ lw_all := lw_g (lw_at lw_m5 182 rfl) rfl
theorem q1223 : (Jvm.Cond.unhidden "PluginChains$Keen" "compareTo" "(Ljava/lang/Object;)I") ∈ lw_tbl := lw_at lw_m5 183 rfl
theorem q1316 : (Jvm.Cond.selects "PluginChains$Keen" ({ cls := "java/lang/Object", name := "getClass", desc := "()Ljava/lang/Class;" } : Jvm.MethodName) ({ cls := "java/lang/Object", name := "getClass", desc := "()Ljava/lang/Class;" } : Jvm.MethodName)) ∈ lw_all := lw_g (lw_at lw_m6 36 rfl) rfl
theorem q1457 : (Jvm.Cond.instantiable "PluginChains$Keen" (5 : Nat)) ∈ lw_all := lw_g (lw_at lw_m6 177 rfl) rfl
theorem q1459 : (Jvm.Cond.instanceMethod ({ cls := "PluginChains$Keen", name := "<init>", desc := "(ILjava/lang/String;III)V" } : Jvm.MethodName)) ∈ lw_all := lw_g (lw_at lw_m6 179 rfl) rfl
theorem q1460 : (Jvm.Cond.code ({ cls := "PluginChains$Keen", name := "<init>", desc := "(ILjava/lang/String;III)V" } : Jvm.MethodName) prog_18_method_1_code (6 : Nat) (Option.none : Option Jvm.ClassFile.FieldType)) ∈ lw_all := lw_g (lw_at lw_m6 180 rfl) rfl
theorem q1461 : (Jvm.Cond.methodLink "PluginChains$Keen" (3 : Nat) ({ cls := "PluginChains$Eager", name := "<init>", desc := "(ILjava/lang/String;III)V" } : Jvm.MethodName)) ∈ lw_all := lw_g (lw_at lw_m6 181 rfl) rfl
theorem q1462 : (Jvm.Cond.laysFinal "PluginChains$Keen" "PluginChains$Plain" "index" "I") ∈ lw_all := lw_g (lw_at lw_m6 182 rfl) rfl
theorem q1463 : (Jvm.Cond.laysFinal "PluginChains$Keen" "PluginChains$Plain" "name" "Ljava/lang/String;") ∈ lw_all := lw_g (lw_at lw_m6 183 rfl) rfl
theorem q1464 : (Jvm.Cond.laysFinal "PluginChains$Keen" "PluginChains$Plain" "rank" "I") ∈ lw_all := lw_g (lw_at lw_m6 184 rfl) rfl
theorem q1465 : (Jvm.Cond.laysFinal "PluginChains$Keen" "PluginChains$Plain" "needs" "I") ∈ lw_all := lw_g (lw_at lw_m6 185 rfl) rfl
theorem q1466 : (Jvm.Cond.laysFinal "PluginChains$Keen" "PluginChains$Plain" "offers" "I") ∈ lw_all := lw_g (lw_at lw_m6 186 rfl) rfl
theorem q1745 : (Jvm.Cond.selects "PluginChains$Keen" ({ cls := "PluginChains$Plain", name := "kind", desc := "()I" } : Jvm.MethodName) ({ cls := "PluginChains$Keen", name := "kind", desc := "()I" } : Jvm.MethodName)) ∈ lw_all := lw_g (lw_at lw_m7 225 rfl) rfl
theorem q1746 : (Jvm.Cond.instanceMethod ({ cls := "PluginChains$Keen", name := "kind", desc := "()I" } : Jvm.MethodName)) ∈ lw_all := lw_g (lw_at lw_m7 226 rfl) rfl
theorem q1747 : (Jvm.Cond.code ({ cls := "PluginChains$Keen", name := "kind", desc := "()I" } : Jvm.MethodName) prog_18_method_2_code (1 : Nat) (Option.some Jvm.ClassFile.FieldType.int)) ∈ lw_all := lw_g (lw_at lw_m7 227 rfl) rfl
theorem q4002 : (Jvm.Cond.selects "PluginChains$Keen" ({ cls := "PluginChains$Plain", name := "strength", desc := "()I" } : Jvm.MethodName) ({ cls := "PluginChains$Keen", name := "strength", desc := "()I" } : Jvm.MethodName)) ∈ lw_all := lw_g (lw_at lw_m17 82 rfl) rfl
theorem q4036 : (Jvm.Cond.castable "PluginChains$Keen" "PluginChains$Plain") ∈ lw_tbl := lw_at lw_m17 116 rfl
theorem q4039 : (Jvm.Cond.castable "PluginChains$Keen" "PluginChains$Eager") ∈ lw_tbl := lw_at lw_m17 119 rfl
theorem q4066 : (Jvm.Cond.castable "PluginChains$Keen" "java/lang/Object") ∈ lw_tbl := lw_at lw_m17 146 rfl
theorem in_X15 : ∀ w ∈ wsX150, w ∈ lw_all := lw_in wsX150 [1462, 1463, 1464, 1465, 1466] (by decide +kernel) (by decide +kernel)

/-! PluginChains$Sound -/
set_option maxRecDepth 100000
def RX16 : String := "PluginChains$Sound"
def TX16 : u_T := fun k => match k with
  | 0 => ("PluginChains$Plain", "index", "I", true)
  | 1 => ("PluginChains$Plain", "name", "Ljava/lang/String;", true)
  | 2 => ("PluginChains$Plain", "rank", "I", true)
  | 3 => ("PluginChains$Plain", "needs", "I", true)
  | _ => ("PluginChains$Plain", "offers", "I", true)
def tyX16 : Nat → FieldType := fun k => match k with
  | 0 => .int
  | 1 => .object "java/lang/String"
  | 2 => .int
  | 3 => .int
  | _ => .int
abbrev wsX160 : List Cond := u_ws RX16 TX16 5
theorem nmX16 : ∀ a, a < 5 → ∀ b, b < 5 → a ≠ b → (TX16 a).2.1 ≠ (TX16 b).2.1 := by decide +kernel
theorem tyX16_ok : ∀ k, k < 5 → parseFieldDescriptor (TX16 k).2.2.1 = some (tyX16 k) := by decide +kernel
abbrev cX16_strength : ByteArray := prog_31_method_3_code
def yX16_strength : MethodName := ⟨RX16, "strength", "()I"⟩
def dkwX16_strength_0 : List UInt8 := [42, 183, 0, 9, 4, 96, 172]
abbrev dktX16_strength_0 : List UInt8 := dkwX16_strength_0 ++ []
theorem dksX16_strength_0 : cX16_strength.data.toList.drop 0 = dktX16_strength_0 := by decide +kernel
theorem dX16_strength_0 : decode cX16_strength 0 = .ok (.aload_n 0, 1) := dk_42 (dk_at dksX16_strength_0 0 rfl rfl)
theorem dX16_strength_1 : decode cX16_strength 1 = .ok (.invokespecial 9, 3) := dk_183 0 9 (dk_at dksX16_strength_0 1 rfl rfl)
theorem dX16_strength_4 : decode cX16_strength 4 = .ok (.iconst 1, 1) := dk_4 (dk_at dksX16_strength_0 4 rfl rfl)
theorem dX16_strength_5 : decode cX16_strength 5 = .ok (.iadd, 1) := dk_96 (dk_at dksX16_strength_0 5 rfl rfl)
theorem dX16_strength_6 : decode cX16_strength 6 = .ok (.ireturn, 1) := dk_172 (dk_at dksX16_strength_0 6 rfl rfl)
abbrev cX16_init : ByteArray := prog_31_method_1_code
def yX16_init : MethodName := ⟨RX16, "<init>", "(ILjava/lang/String;III)V"⟩
def dkwX16_init_0 : List UInt8 := [42, 27, 44, 29, 21, 4, 21, 5, 183, 0, 3, 177]
abbrev dktX16_init_0 : List UInt8 := dkwX16_init_0 ++ []
theorem dksX16_init_0 : cX16_init.data.toList.drop 0 = dktX16_init_0 := by decide +kernel
theorem dX16_init_0 : decode cX16_init 0 = .ok (.aload_n 0, 1) := dk_42 (dk_at dksX16_init_0 0 rfl rfl)
theorem dX16_init_1 : decode cX16_init 1 = .ok (.iload_n 1, 1) := dk_27 (dk_at dksX16_init_0 1 rfl rfl)
theorem dX16_init_2 : decode cX16_init 2 = .ok (.aload_n 2, 1) := dk_44 (dk_at dksX16_init_0 2 rfl rfl)
theorem dX16_init_3 : decode cX16_init 3 = .ok (.iload_n 3, 1) := dk_29 (dk_at dksX16_init_0 3 rfl rfl)
theorem dX16_init_4 : decode cX16_init 4 = .ok (.iload 4, 2) := dk_21 4 (dk_at dksX16_init_0 4 rfl rfl)
theorem dX16_init_6 : decode cX16_init 6 = .ok (.iload 5, 2) := dk_21 5 (dk_at dksX16_init_0 6 rfl rfl)
theorem dX16_init_8 : decode cX16_init 8 = .ok (.invokespecial 3, 3) := dk_183 0 3 (dk_at dksX16_init_0 8 rfl rfl)
theorem dX16_init_11 : decode cX16_init 11 = .ok (.return_, 1) := dk_177 (dk_at dksX16_init_0 11 rfl rfl)
abbrev cX16_kind : ByteArray := prog_31_method_2_code
def yX16_kind : MethodName := ⟨RX16, "kind", "()I"⟩
theorem dX16_kind_0 : decode cX16_kind 0 = .ok (.iconst 4, 1) := by decide +kernel
theorem dX16_kind_1 : decode cX16_kind 1 = .ok (.ireturn, 1) := by decide +kernel
theorem q122 : (Jvm.Cond.initialized "PluginChains$Sound") ∈ lw_all := lw_g (lw_at lw_m1 42 rfl) rfl
theorem q745 : (Jvm.Cond.selects "PluginChains$Sound" ({ cls := "PluginChains$Steady", name := "strength", desc := "()I" } : Jvm.MethodName) ({ cls := "PluginChains$Sound", name := "strength", desc := "()I" } : Jvm.MethodName)) ∈ lw_all := lw_g (lw_at lw_m3 185 rfl) rfl
theorem q746 : (Jvm.Cond.instanceMethod ({ cls := "PluginChains$Sound", name := "strength", desc := "()I" } : Jvm.MethodName)) ∈ lw_all := lw_g (lw_at lw_m3 186 rfl) rfl
theorem q747 : (Jvm.Cond.code ({ cls := "PluginChains$Sound", name := "strength", desc := "()I" } : Jvm.MethodName) prog_31_method_3_code (1 : Nat) (Option.some Jvm.ClassFile.FieldType.int)) ∈ lw_all := lw_g (lw_at lw_m3 187 rfl) rfl
theorem q748 : (Jvm.Cond.methodLink "PluginChains$Sound" (9 : Nat) ({ cls := "PluginChains$Steady", name := "strength", desc := "()I" } : Jvm.MethodName)) ∈ lw_all := lw_g (lw_at lw_m3 188 rfl) rfl
theorem q749 : (Jvm.Cond.superclass "PluginChains$Sound" "PluginChains$Steady") ∈ lw_all := lw_g (lw_at lw_m3 189 rfl) rfl
theorem q1040 : (Jvm.Cond.selects "PluginChains$Sound" ({ cls := "PluginChains$Plain", name := "compareTo", desc := "(LPluginChains$Plain;)I" } : Jvm.MethodName) ({ cls := "PluginChains$Plain", name := "compareTo", desc := "(LPluginChains$Plain;)I" } : Jvm.MethodName)) ∈ lw_all := lw_g (lw_at lw_m5 0 rfl) rfl
theorem q1227 : (Jvm.Cond.castable "PluginChains$Sound" "java/lang/Comparable") ∈ lw_tbl := lw_at lw_m5 187 rfl
theorem q1228 : (Jvm.Cond.selects "PluginChains$Sound" ({ cls := "java/lang/Comparable", name := "compareTo", desc := "(Ljava/lang/Object;)I" } : Jvm.MethodName) ({ cls := "PluginChains$Plain", name := "compareTo", desc := "(Ljava/lang/Object;)I" } : Jvm.MethodName)) ∈ lw_all := lw_g (lw_at lw_m5 188 rfl) rfl
theorem q1229 : (Jvm.Cond.unhidden "PluginChains$Sound" "compareTo" "(Ljava/lang/Object;)I") ∈ lw_tbl := lw_at lw_m5 189 rfl
theorem q1326 : (Jvm.Cond.selects "PluginChains$Sound" ({ cls := "java/lang/Object", name := "getClass", desc := "()Ljava/lang/Class;" } : Jvm.MethodName) ({ cls := "java/lang/Object", name := "getClass", desc := "()Ljava/lang/Class;" } : Jvm.MethodName)) ∈ lw_all := lw_g (lw_at lw_m6 46 rfl) rfl
theorem q1468 : (Jvm.Cond.instantiable "PluginChains$Sound" (5 : Nat)) ∈ lw_all := lw_g (lw_at lw_m6 188 rfl) rfl
theorem q1470 : (Jvm.Cond.instanceMethod ({ cls := "PluginChains$Sound", name := "<init>", desc := "(ILjava/lang/String;III)V" } : Jvm.MethodName)) ∈ lw_all := lw_g (lw_at lw_m6 190 rfl) rfl
theorem q1471 : (Jvm.Cond.code ({ cls := "PluginChains$Sound", name := "<init>", desc := "(ILjava/lang/String;III)V" } : Jvm.MethodName) prog_31_method_1_code (6 : Nat) (Option.none : Option Jvm.ClassFile.FieldType)) ∈ lw_all := lw_g (lw_at lw_m6 191 rfl) rfl
theorem q1472 : (Jvm.Cond.methodLink "PluginChains$Sound" (3 : Nat) ({ cls := "PluginChains$Steady", name := "<init>", desc := "(ILjava/lang/String;III)V" } : Jvm.MethodName)) ∈ lw_all := lw_g (lw_at lw_m6 192 rfl) rfl
theorem q1473 : (Jvm.Cond.laysFinal "PluginChains$Sound" "PluginChains$Plain" "index" "I") ∈ lw_all := lw_g (lw_at lw_m6 193 rfl) rfl
theorem q1474 : (Jvm.Cond.laysFinal "PluginChains$Sound" "PluginChains$Plain" "name" "Ljava/lang/String;") ∈ lw_all := lw_g (lw_at lw_m6 194 rfl) rfl
theorem q1475 : (Jvm.Cond.laysFinal "PluginChains$Sound" "PluginChains$Plain" "rank" "I") ∈ lw_all := lw_g (lw_at lw_m6 195 rfl) rfl
theorem q1476 : (Jvm.Cond.laysFinal "PluginChains$Sound" "PluginChains$Plain" "needs" "I") ∈ lw_all := lw_g (lw_at lw_m6 196 rfl) rfl
theorem q1477 : (Jvm.Cond.laysFinal "PluginChains$Sound" "PluginChains$Plain" "offers" "I") ∈ lw_all := lw_g (lw_at lw_m6 197 rfl) rfl
theorem q1748 : (Jvm.Cond.selects "PluginChains$Sound" ({ cls := "PluginChains$Plain", name := "kind", desc := "()I" } : Jvm.MethodName) ({ cls := "PluginChains$Sound", name := "kind", desc := "()I" } : Jvm.MethodName)) ∈ lw_all := lw_g (lw_at lw_m7 228 rfl) rfl
theorem q1749 : (Jvm.Cond.instanceMethod ({ cls := "PluginChains$Sound", name := "kind", desc := "()I" } : Jvm.MethodName)) ∈ lw_all := lw_g (lw_at lw_m7 229 rfl) rfl
theorem q1750 : (Jvm.Cond.code ({ cls := "PluginChains$Sound", name := "kind", desc := "()I" } : Jvm.MethodName) prog_31_method_2_code (1 : Nat) (Option.some Jvm.ClassFile.FieldType.int)) ∈ lw_all := lw_g (lw_at lw_m7 230 rfl) rfl
theorem q3993 : (Jvm.Cond.selects "PluginChains$Sound" ({ cls := "PluginChains$Sound", name := "strength", desc := "()I" } : Jvm.MethodName) ({ cls := "PluginChains$Sound", name := "strength", desc := "()I" } : Jvm.MethodName)) ∈ lw_all := lw_g (lw_at lw_m17 73 rfl) rfl
theorem q4005 : (Jvm.Cond.selects "PluginChains$Sound" ({ cls := "PluginChains$Plain", name := "strength", desc := "()I" } : Jvm.MethodName) ({ cls := "PluginChains$Sound", name := "strength", desc := "()I" } : Jvm.MethodName)) ∈ lw_all := lw_g (lw_at lw_m17 85 rfl) rfl
theorem q4037 : (Jvm.Cond.castable "PluginChains$Sound" "PluginChains$Plain") ∈ lw_tbl := lw_at lw_m17 117 rfl
theorem q4040 : (Jvm.Cond.castable "PluginChains$Sound" "PluginChains$Steady") ∈ lw_tbl := lw_at lw_m17 120 rfl
theorem q4067 : (Jvm.Cond.castable "PluginChains$Sound" "java/lang/Object") ∈ lw_tbl := lw_at lw_m17 147 rfl
theorem in_X16 : ∀ w ∈ wsX160, w ∈ lw_all := lw_in wsX160 [1473, 1474, 1475, 1476, 1477] (by decide +kernel) (by decide +kernel)

/-! PluginChains$Reader -/
set_option maxRecDepth 100000
def RX17 : String := "PluginChains$Reader"
def TX17 : u_T := fun k => match k with
  | 0 => ("PluginChains$Reader", "text", "LPluginChains$Row;", true)
  | 1 => ("PluginChains$Reader", "h", "LPluginChains$Host;", true)
  | _ => ("PluginChains$Reader", "at", "I", false)
def tyX17 : Nat → FieldType := fun k => match k with
  | 0 => .object "PluginChains$Row"
  | 1 => .object "PluginChains$Host"
  | _ => .int
abbrev wsX170 : List Cond := u_ws RX17 TX17 3
theorem nmX17 : ∀ a, a < 3 → ∀ b, b < 3 → a ≠ b → (TX17 a).2.1 ≠ (TX17 b).2.1 := by decide +kernel
theorem tyX17_ok : ∀ k, k < 3 → parseFieldDescriptor (TX17 k).2.2.1 = some (tyX17 k) := by decide +kernel
abbrev cX17_init : ByteArray := prog_24_method_1_code
def yX17_init : MethodName := ⟨RX17, "<init>", "(LPluginChains$Row;LPluginChains$Host;)V"⟩
def dkwX17_init_0 : List UInt8 := [42, 183, 0, 3, 42, 43, 181, 0, 9, 42, 44, 181, 0, 15, 177]
abbrev dktX17_init_0 : List UInt8 := dkwX17_init_0 ++ []
theorem dksX17_init_0 : cX17_init.data.toList.drop 0 = dktX17_init_0 := by decide +kernel
theorem dX17_init_0 : decode cX17_init 0 = .ok (.aload_n 0, 1) := dk_42 (dk_at dksX17_init_0 0 rfl rfl)
theorem dX17_init_1 : decode cX17_init 1 = .ok (.invokespecial 3, 3) := dk_183 0 3 (dk_at dksX17_init_0 1 rfl rfl)
theorem dX17_init_4 : decode cX17_init 4 = .ok (.aload_n 0, 1) := dk_42 (dk_at dksX17_init_0 4 rfl rfl)
theorem dX17_init_5 : decode cX17_init 5 = .ok (.aload_n 1, 1) := dk_43 (dk_at dksX17_init_0 5 rfl rfl)
theorem dX17_init_6 : decode cX17_init 6 = .ok (.putfield 9, 3) := dk_181 0 9 (dk_at dksX17_init_0 6 rfl rfl)
theorem dX17_init_9 : decode cX17_init 9 = .ok (.aload_n 0, 1) := dk_42 (dk_at dksX17_init_0 9 rfl rfl)
theorem dX17_init_10 : decode cX17_init 10 = .ok (.aload_n 2, 1) := dk_44 (dk_at dksX17_init_0 10 rfl rfl)
theorem dX17_init_11 : decode cX17_init 11 = .ok (.putfield 15, 3) := dk_181 0 15 (dk_at dksX17_init_0 11 rfl rfl)
theorem dX17_init_14 : decode cX17_init 14 = .ok (.return_, 1) := dk_177 (dk_at dksX17_init_0 14 rfl rfl)
abbrev cX17_items : ByteArray := prog_24_method_9_code
def yX17_items : MethodName := ⟨RX17, "items", "()I"⟩
def dkwX17_items_1 : List UInt8 := [182, 0, 105, 132, 1, 1, 167, 255, 233, 27, 172]
abbrev dktX17_items_1 : List UInt8 := dkwX17_items_1 ++ []
def dkwX17_items_0 : List UInt8 := [4, 60, 42, 182, 0, 105, 42, 182, 0, 29, 154, 0, 22, 42, 16, 59, 16, 59, 182, 0, 61, 87, 42]
abbrev dktX17_items_0 : List UInt8 := dkwX17_items_0 ++ dktX17_items_1
theorem dksX17_items_0 : cX17_items.data.toList.drop 0 = dktX17_items_0 := by decide +kernel
theorem dksX17_items_1 : cX17_items.data.toList.drop 23 = dktX17_items_1 := dk_seg dksX17_items_0 23 rfl rfl
theorem dX17_items_0 : decode cX17_items 0 = .ok (.iconst 1, 1) := dk_4 (dk_at dksX17_items_0 0 rfl rfl)
theorem dX17_items_1 : decode cX17_items 1 = .ok (.istore_n 1, 1) := dk_60 (dk_at dksX17_items_0 1 rfl rfl)
theorem dX17_items_2 : decode cX17_items 2 = .ok (.aload_n 0, 1) := dk_42 (dk_at dksX17_items_0 2 rfl rfl)
theorem dX17_items_3 : decode cX17_items 3 = .ok (.invokevirtual 105, 3) := dk_182 0 105 (dk_at dksX17_items_0 3 rfl rfl)
theorem dX17_items_6 : decode cX17_items 6 = .ok (.aload_n 0, 1) := dk_42 (dk_at dksX17_items_0 6 rfl rfl)
theorem dX17_items_7 : decode cX17_items 7 = .ok (.invokevirtual 29, 3) := dk_182 0 29 (dk_at dksX17_items_0 7 rfl rfl)
theorem dX17_items_10 : decode cX17_items 10 = .ok (.ifCond .ne 22, 3) := dk_154 0 22 (dk_at dksX17_items_0 10 rfl rfl)
theorem dX17_items_13 : decode cX17_items 13 = .ok (.aload_n 0, 1) := dk_42 (dk_at dksX17_items_0 13 rfl rfl)
theorem dX17_items_14 : decode cX17_items 14 = .ok (.bipush 59, 2) := dk_16 59 (dk_at dksX17_items_0 14 rfl rfl)
theorem dX17_items_16 : decode cX17_items 16 = .ok (.bipush 59, 2) := dk_16 59 (dk_at dksX17_items_0 16 rfl rfl)
theorem dX17_items_18 : decode cX17_items 18 = .ok (.invokevirtual 61, 3) := dk_182 0 61 (dk_at dksX17_items_0 18 rfl rfl)
theorem dX17_items_21 : decode cX17_items 21 = .ok (.pop, 1) := dk_87 (dk_at dksX17_items_0 21 rfl rfl)
theorem dX17_items_22 : decode cX17_items 22 = .ok (.aload_n 0, 1) := dk_42 (dk_at dksX17_items_0 22 rfl rfl)
theorem dX17_items_23 : decode cX17_items 23 = .ok (.invokevirtual 105, 3) := dk_182 0 105 (dk_at dksX17_items_1 0 rfl rfl)
theorem dX17_items_26 : decode cX17_items 26 = .ok (.iinc 1 1, 3) := dk_132 1 1 (dk_at dksX17_items_1 3 rfl rfl)
theorem dX17_items_29 : decode cX17_items 29 = .ok (.goto (-23), 3) := dk_167 255 233 (dk_at dksX17_items_1 6 rfl rfl)
theorem dX17_items_32 : decode cX17_items 32 = .ok (.iload_n 1, 1) := dk_27 (dk_at dksX17_items_1 9 rfl rfl)
theorem dX17_items_33 : decode cX17_items 33 = .ok (.ireturn, 1) := dk_172 (dk_at dksX17_items_1 10 rfl rfl)
abbrev cX17_item : ByteArray := prog_24_method_8_code
def yX17_item : MethodName := ⟨RX17, "item", "()V"⟩
def dkwX17_item_11 : List UInt8 := [177]
abbrev dktX17_item_11 : List UInt8 := dkwX17_item_11 ++ []
def dkwX17_item_10 : List UInt8 := [167, 255, 111, 167, 0, 3, 42, 180, 0, 15, 29, 44, 21, 4, 21, 5, 21, 6, 21, 7, 182, 0, 101, 87]
abbrev dktX17_item_10 : List UInt8 := dkwX17_item_10 ++ dktX17_item_11
def dkwX17_item_9 : List UInt8 := [167, 0, 4, 3, 42, 180, 0, 19, 184, 0, 50, 42, 89, 180, 0, 19, 4, 96, 181, 0, 19, 132, 7, 1]
abbrev dktX17_item_9 : List UInt8 := dkwX17_item_9 ++ dktX17_item_10
def dkwX17_item_8 : List UInt8 := [16, 55, 182, 0, 61, 16, 48, 100, 120, 128, 54, 6, 167, 255, 146, 21, 7, 16, 9, 162, 0, 7, 4]
abbrev dktX17_item_8 : List UInt8 := dkwX17_item_8 ++ dktX17_item_9
def dkwX17_item_7 : List UInt8 := [120, 128, 54, 5, 167, 255, 177, 42, 89, 180, 0, 19, 4, 96, 181, 0, 19, 21, 6, 4, 42, 16, 48]
abbrev dktX17_item_7 : List UInt8 := dkwX17_item_7 ++ dktX17_item_8
def dkwX17_item_6 : List UInt8 := [42, 89, 180, 0, 19, 4, 96, 181, 0, 19, 21, 5, 4, 42, 16, 48, 16, 55, 182, 0, 61, 16, 48, 100]
abbrev dktX17_item_6 : List UInt8 := dkwX17_item_6 ++ dktX17_item_7
def dkwX17_item_5 : List UInt8 := [171, 0, 0, 0, 130, 0, 0, 0, 3, 0, 0, 0, 33, 0, 0, 0, 95, 0, 0, 0, 43, 0, 0, 0, 64, 0, 0, 0, 45, 0, 0, 0, 33]
abbrev dktX17_item_5 : List UInt8 := dkwX17_item_5 ++ dktX17_item_6
def dkwX17_item_4 : List UInt8 := [154, 0, 147, 42, 180, 0, 9, 42, 180, 0, 19, 182, 0, 33]
abbrev dktX17_item_4 : List UInt8 := dkwX17_item_4 ++ dktX17_item_5
def dkwX17_item_3 : List UInt8 := [16, 57, 182, 0, 61, 16, 48, 100, 54, 4, 3, 54, 5, 3, 54, 6, 3, 54, 7, 42, 182, 0, 29]
abbrev dktX17_item_3 : List UInt8 := dkwX17_item_3 ++ dktX17_item_4
def dkwX17_item_2 : List UInt8 := [16, 48, 16, 52, 182, 0, 61, 16, 48, 100, 62, 42, 16, 32, 16, 32, 182, 0, 61, 87, 42, 16, 48]
abbrev dktX17_item_2 : List UInt8 := dkwX17_item_2 ++ dktX17_item_3
def dkwX17_item_1 : List UInt8 := [167, 0, 4, 3, 27, 184, 0, 50, 42, 16, 32, 16, 32, 182, 0, 61, 87, 42, 182, 0, 98, 77, 42]
abbrev dktX17_item_1 : List UInt8 := dkwX17_item_1 ++ dktX17_item_2
def dkwX17_item_0 : List UInt8 := [42, 180, 0, 19, 60, 42, 18, 89, 182, 0, 91, 42, 180, 0, 15, 180, 0, 95, 16, 12, 162, 0, 7, 4]
abbrev dktX17_item_0 : List UInt8 := dkwX17_item_0 ++ dktX17_item_1
theorem dksX17_item_0 : cX17_item.data.toList.drop 0 = dktX17_item_0 := by decide +kernel
theorem dksX17_item_1 : cX17_item.data.toList.drop 24 = dktX17_item_1 := dk_seg dksX17_item_0 24 rfl rfl
theorem dksX17_item_2 : cX17_item.data.toList.drop 47 = dktX17_item_2 := dk_seg dksX17_item_1 23 rfl rfl
theorem dksX17_item_3 : cX17_item.data.toList.drop 70 = dktX17_item_3 := dk_seg dksX17_item_2 23 rfl rfl
theorem dksX17_item_4 : cX17_item.data.toList.drop 93 = dktX17_item_4 := dk_seg dksX17_item_3 23 rfl rfl
theorem dksX17_item_5 : cX17_item.data.toList.drop 107 = dktX17_item_5 := dk_seg dksX17_item_4 14 rfl rfl
theorem dksX17_item_6 : cX17_item.data.toList.drop 140 = dktX17_item_6 := dk_seg dksX17_item_5 33 rfl rfl
theorem dksX17_item_7 : cX17_item.data.toList.drop 164 = dktX17_item_7 := dk_seg dksX17_item_6 24 rfl rfl
theorem dksX17_item_8 : cX17_item.data.toList.drop 187 = dktX17_item_8 := dk_seg dksX17_item_7 23 rfl rfl
theorem dksX17_item_9 : cX17_item.data.toList.drop 210 = dktX17_item_9 := dk_seg dksX17_item_8 23 rfl rfl
theorem dksX17_item_10 : cX17_item.data.toList.drop 234 = dktX17_item_10 := dk_seg dksX17_item_9 24 rfl rfl
theorem dksX17_item_11 : cX17_item.data.toList.drop 258 = dktX17_item_11 := dk_seg dksX17_item_10 24 rfl rfl
theorem dX17_item_0 : decode cX17_item 0 = .ok (.aload_n 0, 1) := dk_42 (dk_at dksX17_item_0 0 rfl rfl)
theorem dX17_item_1 : decode cX17_item 1 = .ok (.getfield 19, 3) := dk_180 0 19 (dk_at dksX17_item_0 1 rfl rfl)
theorem dX17_item_4 : decode cX17_item 4 = .ok (.istore_n 1, 1) := dk_60 (dk_at dksX17_item_0 4 rfl rfl)
theorem dX17_item_5 : decode cX17_item 5 = .ok (.aload_n 0, 1) := dk_42 (dk_at dksX17_item_0 5 rfl rfl)
theorem dX17_item_6 : decode cX17_item 6 = .ok (.ldc 89, 2) := dk_18 89 (dk_at dksX17_item_0 6 rfl rfl)
theorem dX17_item_8 : decode cX17_item 8 = .ok (.invokevirtual 91, 3) := dk_182 0 91 (dk_at dksX17_item_0 8 rfl rfl)
theorem dX17_item_11 : decode cX17_item 11 = .ok (.aload_n 0, 1) := dk_42 (dk_at dksX17_item_0 11 rfl rfl)
theorem dX17_item_12 : decode cX17_item 12 = .ok (.getfield 15, 3) := dk_180 0 15 (dk_at dksX17_item_0 12 rfl rfl)
theorem dX17_item_15 : decode cX17_item 15 = .ok (.getfield 95, 3) := dk_180 0 95 (dk_at dksX17_item_0 15 rfl rfl)
theorem dX17_item_18 : decode cX17_item 18 = .ok (.bipush 12, 2) := dk_16 12 (dk_at dksX17_item_0 18 rfl rfl)
theorem dX17_item_20 : decode cX17_item 20 = .ok (.if_icmp .ge 7, 3) := dk_162 0 7 (dk_at dksX17_item_0 20 rfl rfl)
theorem dX17_item_23 : decode cX17_item 23 = .ok (.iconst 1, 1) := dk_4 (dk_at dksX17_item_0 23 rfl rfl)
theorem dX17_item_24 : decode cX17_item 24 = .ok (.goto 4, 3) := dk_167 0 4 (dk_at dksX17_item_1 0 rfl rfl)
theorem dX17_item_27 : decode cX17_item 27 = .ok (.iconst 0, 1) := dk_3 (dk_at dksX17_item_1 3 rfl rfl)
theorem dX17_item_28 : decode cX17_item 28 = .ok (.iload_n 1, 1) := dk_27 (dk_at dksX17_item_1 4 rfl rfl)
theorem dX17_item_29 : decode cX17_item 29 = .ok (.invokestatic 50, 3) := dk_184 0 50 (dk_at dksX17_item_1 5 rfl rfl)
theorem dX17_item_32 : decode cX17_item 32 = .ok (.aload_n 0, 1) := dk_42 (dk_at dksX17_item_1 8 rfl rfl)
theorem dX17_item_33 : decode cX17_item 33 = .ok (.bipush 32, 2) := dk_16 32 (dk_at dksX17_item_1 9 rfl rfl)
theorem dX17_item_35 : decode cX17_item 35 = .ok (.bipush 32, 2) := dk_16 32 (dk_at dksX17_item_1 11 rfl rfl)
theorem dX17_item_37 : decode cX17_item 37 = .ok (.invokevirtual 61, 3) := dk_182 0 61 (dk_at dksX17_item_1 13 rfl rfl)
theorem dX17_item_40 : decode cX17_item 40 = .ok (.pop, 1) := dk_87 (dk_at dksX17_item_1 16 rfl rfl)
theorem dX17_item_41 : decode cX17_item 41 = .ok (.aload_n 0, 1) := dk_42 (dk_at dksX17_item_1 17 rfl rfl)
theorem dX17_item_42 : decode cX17_item 42 = .ok (.invokevirtual 98, 3) := dk_182 0 98 (dk_at dksX17_item_1 18 rfl rfl)
theorem dX17_item_45 : decode cX17_item 45 = .ok (.astore_n 2, 1) := dk_77 (dk_at dksX17_item_1 21 rfl rfl)
theorem dX17_item_46 : decode cX17_item 46 = .ok (.aload_n 0, 1) := dk_42 (dk_at dksX17_item_1 22 rfl rfl)
theorem dX17_item_47 : decode cX17_item 47 = .ok (.bipush 48, 2) := dk_16 48 (dk_at dksX17_item_2 0 rfl rfl)
theorem dX17_item_49 : decode cX17_item 49 = .ok (.bipush 52, 2) := dk_16 52 (dk_at dksX17_item_2 2 rfl rfl)
theorem dX17_item_51 : decode cX17_item 51 = .ok (.invokevirtual 61, 3) := dk_182 0 61 (dk_at dksX17_item_2 4 rfl rfl)
theorem dX17_item_54 : decode cX17_item 54 = .ok (.bipush 48, 2) := dk_16 48 (dk_at dksX17_item_2 7 rfl rfl)
theorem dX17_item_56 : decode cX17_item 56 = .ok (.isub, 1) := dk_100 (dk_at dksX17_item_2 9 rfl rfl)
theorem dX17_item_57 : decode cX17_item 57 = .ok (.istore_n 3, 1) := dk_62 (dk_at dksX17_item_2 10 rfl rfl)
theorem dX17_item_58 : decode cX17_item 58 = .ok (.aload_n 0, 1) := dk_42 (dk_at dksX17_item_2 11 rfl rfl)
theorem dX17_item_59 : decode cX17_item 59 = .ok (.bipush 32, 2) := dk_16 32 (dk_at dksX17_item_2 12 rfl rfl)
theorem dX17_item_61 : decode cX17_item 61 = .ok (.bipush 32, 2) := dk_16 32 (dk_at dksX17_item_2 14 rfl rfl)
theorem dX17_item_63 : decode cX17_item 63 = .ok (.invokevirtual 61, 3) := dk_182 0 61 (dk_at dksX17_item_2 16 rfl rfl)
theorem dX17_item_66 : decode cX17_item 66 = .ok (.pop, 1) := dk_87 (dk_at dksX17_item_2 19 rfl rfl)
theorem dX17_item_67 : decode cX17_item 67 = .ok (.aload_n 0, 1) := dk_42 (dk_at dksX17_item_2 20 rfl rfl)
theorem dX17_item_68 : decode cX17_item 68 = .ok (.bipush 48, 2) := dk_16 48 (dk_at dksX17_item_2 21 rfl rfl)
theorem dX17_item_70 : decode cX17_item 70 = .ok (.bipush 57, 2) := dk_16 57 (dk_at dksX17_item_3 0 rfl rfl)
theorem dX17_item_72 : decode cX17_item 72 = .ok (.invokevirtual 61, 3) := dk_182 0 61 (dk_at dksX17_item_3 2 rfl rfl)
theorem dX17_item_75 : decode cX17_item 75 = .ok (.bipush 48, 2) := dk_16 48 (dk_at dksX17_item_3 5 rfl rfl)
theorem dX17_item_77 : decode cX17_item 77 = .ok (.isub, 1) := dk_100 (dk_at dksX17_item_3 7 rfl rfl)
theorem dX17_item_78 : decode cX17_item 78 = .ok (.istore 4, 2) := dk_54 4 (dk_at dksX17_item_3 8 rfl rfl)
theorem dX17_item_80 : decode cX17_item 80 = .ok (.iconst 0, 1) := dk_3 (dk_at dksX17_item_3 10 rfl rfl)
theorem dX17_item_81 : decode cX17_item 81 = .ok (.istore 5, 2) := dk_54 5 (dk_at dksX17_item_3 11 rfl rfl)
theorem dX17_item_83 : decode cX17_item 83 = .ok (.iconst 0, 1) := dk_3 (dk_at dksX17_item_3 13 rfl rfl)
theorem dX17_item_84 : decode cX17_item 84 = .ok (.istore 6, 2) := dk_54 6 (dk_at dksX17_item_3 14 rfl rfl)
theorem dX17_item_86 : decode cX17_item 86 = .ok (.iconst 0, 1) := dk_3 (dk_at dksX17_item_3 16 rfl rfl)
theorem dX17_item_87 : decode cX17_item 87 = .ok (.istore 7, 2) := dk_54 7 (dk_at dksX17_item_3 17 rfl rfl)
theorem dX17_item_89 : decode cX17_item 89 = .ok (.aload_n 0, 1) := dk_42 (dk_at dksX17_item_3 19 rfl rfl)
theorem dX17_item_90 : decode cX17_item 90 = .ok (.invokevirtual 29, 3) := dk_182 0 29 (dk_at dksX17_item_3 20 rfl rfl)
theorem dX17_item_93 : decode cX17_item 93 = .ok (.ifCond .ne 147, 3) := dk_154 0 147 (dk_at dksX17_item_4 0 rfl rfl)
theorem dX17_item_96 : decode cX17_item 96 = .ok (.aload_n 0, 1) := dk_42 (dk_at dksX17_item_4 3 rfl rfl)
theorem dX17_item_97 : decode cX17_item 97 = .ok (.getfield 9, 3) := dk_180 0 9 (dk_at dksX17_item_4 4 rfl rfl)
theorem dX17_item_100 : decode cX17_item 100 = .ok (.aload_n 0, 1) := dk_42 (dk_at dksX17_item_4 7 rfl rfl)
theorem dX17_item_101 : decode cX17_item 101 = .ok (.getfield 19, 3) := dk_180 0 19 (dk_at dksX17_item_4 8 rfl rfl)
theorem dX17_item_104 : decode cX17_item 104 = .ok (.invokevirtual 33, 3) := dk_182 0 33 (dk_at dksX17_item_4 11 rfl rfl)
theorem dX17_item_107 : decode cX17_item 107 = .ok (.lookupswitch 130 #[(33, 95), (43, 64), (45, 33)], 33) := by decide +kernel
theorem dX17_item_140 : decode cX17_item 140 = .ok (.aload_n 0, 1) := dk_42 (dk_at dksX17_item_6 0 rfl rfl)
theorem dX17_item_141 : decode cX17_item 141 = .ok (.dup, 1) := dk_89 (dk_at dksX17_item_6 1 rfl rfl)
theorem dX17_item_142 : decode cX17_item 142 = .ok (.getfield 19, 3) := dk_180 0 19 (dk_at dksX17_item_6 2 rfl rfl)
theorem dX17_item_145 : decode cX17_item 145 = .ok (.iconst 1, 1) := dk_4 (dk_at dksX17_item_6 5 rfl rfl)
theorem dX17_item_146 : decode cX17_item 146 = .ok (.iadd, 1) := dk_96 (dk_at dksX17_item_6 6 rfl rfl)
theorem dX17_item_147 : decode cX17_item 147 = .ok (.putfield 19, 3) := dk_181 0 19 (dk_at dksX17_item_6 7 rfl rfl)
theorem dX17_item_150 : decode cX17_item 150 = .ok (.iload 5, 2) := dk_21 5 (dk_at dksX17_item_6 10 rfl rfl)
theorem dX17_item_152 : decode cX17_item 152 = .ok (.iconst 1, 1) := dk_4 (dk_at dksX17_item_6 12 rfl rfl)
theorem dX17_item_153 : decode cX17_item 153 = .ok (.aload_n 0, 1) := dk_42 (dk_at dksX17_item_6 13 rfl rfl)
theorem dX17_item_154 : decode cX17_item 154 = .ok (.bipush 48, 2) := dk_16 48 (dk_at dksX17_item_6 14 rfl rfl)
theorem dX17_item_156 : decode cX17_item 156 = .ok (.bipush 55, 2) := dk_16 55 (dk_at dksX17_item_6 16 rfl rfl)
theorem dX17_item_158 : decode cX17_item 158 = .ok (.invokevirtual 61, 3) := dk_182 0 61 (dk_at dksX17_item_6 18 rfl rfl)
theorem dX17_item_161 : decode cX17_item 161 = .ok (.bipush 48, 2) := dk_16 48 (dk_at dksX17_item_6 21 rfl rfl)
theorem dX17_item_163 : decode cX17_item 163 = .ok (.isub, 1) := dk_100 (dk_at dksX17_item_6 23 rfl rfl)
theorem dX17_item_164 : decode cX17_item 164 = .ok (.ishl, 1) := dk_120 (dk_at dksX17_item_7 0 rfl rfl)
theorem dX17_item_165 : decode cX17_item 165 = .ok (.ior, 1) := dk_128 (dk_at dksX17_item_7 1 rfl rfl)
theorem dX17_item_166 : decode cX17_item 166 = .ok (.istore 5, 2) := dk_54 5 (dk_at dksX17_item_7 2 rfl rfl)
theorem dX17_item_168 : decode cX17_item 168 = .ok (.goto (-79), 3) := dk_167 255 177 (dk_at dksX17_item_7 4 rfl rfl)
theorem dX17_item_171 : decode cX17_item 171 = .ok (.aload_n 0, 1) := dk_42 (dk_at dksX17_item_7 7 rfl rfl)
theorem dX17_item_172 : decode cX17_item 172 = .ok (.dup, 1) := dk_89 (dk_at dksX17_item_7 8 rfl rfl)
theorem dX17_item_173 : decode cX17_item 173 = .ok (.getfield 19, 3) := dk_180 0 19 (dk_at dksX17_item_7 9 rfl rfl)
theorem dX17_item_176 : decode cX17_item 176 = .ok (.iconst 1, 1) := dk_4 (dk_at dksX17_item_7 12 rfl rfl)
theorem dX17_item_177 : decode cX17_item 177 = .ok (.iadd, 1) := dk_96 (dk_at dksX17_item_7 13 rfl rfl)
theorem dX17_item_178 : decode cX17_item 178 = .ok (.putfield 19, 3) := dk_181 0 19 (dk_at dksX17_item_7 14 rfl rfl)
theorem dX17_item_181 : decode cX17_item 181 = .ok (.iload 6, 2) := dk_21 6 (dk_at dksX17_item_7 17 rfl rfl)
theorem dX17_item_183 : decode cX17_item 183 = .ok (.iconst 1, 1) := dk_4 (dk_at dksX17_item_7 19 rfl rfl)
theorem dX17_item_184 : decode cX17_item 184 = .ok (.aload_n 0, 1) := dk_42 (dk_at dksX17_item_7 20 rfl rfl)
theorem dX17_item_185 : decode cX17_item 185 = .ok (.bipush 48, 2) := dk_16 48 (dk_at dksX17_item_7 21 rfl rfl)
theorem dX17_item_187 : decode cX17_item 187 = .ok (.bipush 55, 2) := dk_16 55 (dk_at dksX17_item_8 0 rfl rfl)
theorem dX17_item_189 : decode cX17_item 189 = .ok (.invokevirtual 61, 3) := dk_182 0 61 (dk_at dksX17_item_8 2 rfl rfl)
theorem dX17_item_192 : decode cX17_item 192 = .ok (.bipush 48, 2) := dk_16 48 (dk_at dksX17_item_8 5 rfl rfl)
theorem dX17_item_194 : decode cX17_item 194 = .ok (.isub, 1) := dk_100 (dk_at dksX17_item_8 7 rfl rfl)
theorem dX17_item_195 : decode cX17_item 195 = .ok (.ishl, 1) := dk_120 (dk_at dksX17_item_8 8 rfl rfl)
theorem dX17_item_196 : decode cX17_item 196 = .ok (.ior, 1) := dk_128 (dk_at dksX17_item_8 9 rfl rfl)
theorem dX17_item_197 : decode cX17_item 197 = .ok (.istore 6, 2) := dk_54 6 (dk_at dksX17_item_8 10 rfl rfl)
theorem dX17_item_199 : decode cX17_item 199 = .ok (.goto (-110), 3) := dk_167 255 146 (dk_at dksX17_item_8 12 rfl rfl)
theorem dX17_item_202 : decode cX17_item 202 = .ok (.iload 7, 2) := dk_21 7 (dk_at dksX17_item_8 15 rfl rfl)
theorem dX17_item_204 : decode cX17_item 204 = .ok (.bipush 9, 2) := dk_16 9 (dk_at dksX17_item_8 17 rfl rfl)
theorem dX17_item_206 : decode cX17_item 206 = .ok (.if_icmp .ge 7, 3) := dk_162 0 7 (dk_at dksX17_item_8 19 rfl rfl)
theorem dX17_item_209 : decode cX17_item 209 = .ok (.iconst 1, 1) := dk_4 (dk_at dksX17_item_8 22 rfl rfl)
theorem dX17_item_210 : decode cX17_item 210 = .ok (.goto 4, 3) := dk_167 0 4 (dk_at dksX17_item_9 0 rfl rfl)
theorem dX17_item_213 : decode cX17_item 213 = .ok (.iconst 0, 1) := dk_3 (dk_at dksX17_item_9 3 rfl rfl)
theorem dX17_item_214 : decode cX17_item 214 = .ok (.aload_n 0, 1) := dk_42 (dk_at dksX17_item_9 4 rfl rfl)
theorem dX17_item_215 : decode cX17_item 215 = .ok (.getfield 19, 3) := dk_180 0 19 (dk_at dksX17_item_9 5 rfl rfl)
theorem dX17_item_218 : decode cX17_item 218 = .ok (.invokestatic 50, 3) := dk_184 0 50 (dk_at dksX17_item_9 8 rfl rfl)
theorem dX17_item_221 : decode cX17_item 221 = .ok (.aload_n 0, 1) := dk_42 (dk_at dksX17_item_9 11 rfl rfl)
theorem dX17_item_222 : decode cX17_item 222 = .ok (.dup, 1) := dk_89 (dk_at dksX17_item_9 12 rfl rfl)
theorem dX17_item_223 : decode cX17_item 223 = .ok (.getfield 19, 3) := dk_180 0 19 (dk_at dksX17_item_9 13 rfl rfl)
theorem dX17_item_226 : decode cX17_item 226 = .ok (.iconst 1, 1) := dk_4 (dk_at dksX17_item_9 16 rfl rfl)
theorem dX17_item_227 : decode cX17_item 227 = .ok (.iadd, 1) := dk_96 (dk_at dksX17_item_9 17 rfl rfl)
theorem dX17_item_228 : decode cX17_item 228 = .ok (.putfield 19, 3) := dk_181 0 19 (dk_at dksX17_item_9 18 rfl rfl)
theorem dX17_item_231 : decode cX17_item 231 = .ok (.iinc 7 1, 3) := dk_132 7 1 (dk_at dksX17_item_9 21 rfl rfl)
theorem dX17_item_234 : decode cX17_item 234 = .ok (.goto (-145), 3) := dk_167 255 111 (dk_at dksX17_item_10 0 rfl rfl)
theorem dX17_item_237 : decode cX17_item 237 = .ok (.goto 3, 3) := dk_167 0 3 (dk_at dksX17_item_10 3 rfl rfl)
theorem dX17_item_240 : decode cX17_item 240 = .ok (.aload_n 0, 1) := dk_42 (dk_at dksX17_item_10 6 rfl rfl)
theorem dX17_item_241 : decode cX17_item 241 = .ok (.getfield 15, 3) := dk_180 0 15 (dk_at dksX17_item_10 7 rfl rfl)
theorem dX17_item_244 : decode cX17_item 244 = .ok (.iload_n 3, 1) := dk_29 (dk_at dksX17_item_10 10 rfl rfl)
theorem dX17_item_245 : decode cX17_item 245 = .ok (.aload_n 2, 1) := dk_44 (dk_at dksX17_item_10 11 rfl rfl)
theorem dX17_item_246 : decode cX17_item 246 = .ok (.iload 4, 2) := dk_21 4 (dk_at dksX17_item_10 12 rfl rfl)
theorem dX17_item_248 : decode cX17_item 248 = .ok (.iload 5, 2) := dk_21 5 (dk_at dksX17_item_10 14 rfl rfl)
theorem dX17_item_250 : decode cX17_item 250 = .ok (.iload 6, 2) := dk_21 6 (dk_at dksX17_item_10 16 rfl rfl)
theorem dX17_item_252 : decode cX17_item 252 = .ok (.iload 7, 2) := dk_21 7 (dk_at dksX17_item_10 18 rfl rfl)
theorem dX17_item_254 : decode cX17_item 254 = .ok (.invokevirtual 101, 3) := dk_182 0 101 (dk_at dksX17_item_10 20 rfl rfl)
theorem dX17_item_257 : decode cX17_item 257 = .ok (.pop, 1) := dk_87 (dk_at dksX17_item_10 23 rfl rfl)
theorem dX17_item_258 : decode cX17_item 258 = .ok (.return_, 1) := dk_177 (dk_at dksX17_item_11 0 rfl rfl)
abbrev cX17_word : ByteArray := prog_24_method_6_code
def yX17_word : MethodName := ⟨RX17, "word", "(Ljava/lang/String;)V"⟩
def dkwX17_word_1 : List UInt8 := [87, 132, 2, 1, 167, 255, 230, 177]
abbrev dktX17_word_1 : List UInt8 := dkwX17_word_1 ++ []
def dkwX17_word_0 : List UInt8 := [3, 61, 28, 43, 182, 0, 54, 162, 0, 24, 42, 43, 28, 182, 0, 57, 43, 28, 182, 0, 57, 182, 0, 61]
abbrev dktX17_word_0 : List UInt8 := dkwX17_word_0 ++ dktX17_word_1
theorem dksX17_word_0 : cX17_word.data.toList.drop 0 = dktX17_word_0 := by decide +kernel
theorem dksX17_word_1 : cX17_word.data.toList.drop 24 = dktX17_word_1 := dk_seg dksX17_word_0 24 rfl rfl
theorem dX17_word_0 : decode cX17_word 0 = .ok (.iconst 0, 1) := dk_3 (dk_at dksX17_word_0 0 rfl rfl)
theorem dX17_word_1 : decode cX17_word 1 = .ok (.istore_n 2, 1) := dk_61 (dk_at dksX17_word_0 1 rfl rfl)
theorem dX17_word_2 : decode cX17_word 2 = .ok (.iload_n 2, 1) := dk_28 (dk_at dksX17_word_0 2 rfl rfl)
theorem dX17_word_3 : decode cX17_word 3 = .ok (.aload_n 1, 1) := dk_43 (dk_at dksX17_word_0 3 rfl rfl)
theorem dX17_word_4 : decode cX17_word 4 = .ok (.invokevirtual 54, 3) := dk_182 0 54 (dk_at dksX17_word_0 4 rfl rfl)
theorem dX17_word_7 : decode cX17_word 7 = .ok (.if_icmp .ge 24, 3) := dk_162 0 24 (dk_at dksX17_word_0 7 rfl rfl)
theorem dX17_word_10 : decode cX17_word 10 = .ok (.aload_n 0, 1) := dk_42 (dk_at dksX17_word_0 10 rfl rfl)
theorem dX17_word_11 : decode cX17_word 11 = .ok (.aload_n 1, 1) := dk_43 (dk_at dksX17_word_0 11 rfl rfl)
theorem dX17_word_12 : decode cX17_word 12 = .ok (.iload_n 2, 1) := dk_28 (dk_at dksX17_word_0 12 rfl rfl)
theorem dX17_word_13 : decode cX17_word 13 = .ok (.invokevirtual 57, 3) := dk_182 0 57 (dk_at dksX17_word_0 13 rfl rfl)
theorem dX17_word_16 : decode cX17_word 16 = .ok (.aload_n 1, 1) := dk_43 (dk_at dksX17_word_0 16 rfl rfl)
theorem dX17_word_17 : decode cX17_word 17 = .ok (.iload_n 2, 1) := dk_28 (dk_at dksX17_word_0 17 rfl rfl)
theorem dX17_word_18 : decode cX17_word 18 = .ok (.invokevirtual 57, 3) := dk_182 0 57 (dk_at dksX17_word_0 18 rfl rfl)
theorem dX17_word_21 : decode cX17_word 21 = .ok (.invokevirtual 61, 3) := dk_182 0 61 (dk_at dksX17_word_0 21 rfl rfl)
theorem dX17_word_24 : decode cX17_word 24 = .ok (.pop, 1) := dk_87 (dk_at dksX17_word_1 0 rfl rfl)
theorem dX17_word_25 : decode cX17_word 25 = .ok (.iinc 2 1, 3) := dk_132 2 1 (dk_at dksX17_word_1 1 rfl rfl)
theorem dX17_word_28 : decode cX17_word 28 = .ok (.goto (-26), 3) := dk_167 255 230 (dk_at dksX17_word_1 4 rfl rfl)
theorem dX17_word_31 : decode cX17_word 31 = .ok (.return_, 1) := dk_177 (dk_at dksX17_word_1 7 rfl rfl)
abbrev cX17_must : ByteArray := prog_24_method_5_code
def yX17_must : MethodName := ⟨RX17, "must", "(II)I"⟩
def dkwX17_must_1 : List UInt8 := [96, 181, 0, 19, 182, 0, 33, 172]
abbrev dktX17_must_1 : List UInt8 := dkwX17_must_1 ++ []
def dkwX17_must_0 : List UInt8 := [42, 27, 28, 182, 0, 46, 42, 180, 0, 19, 184, 0, 50, 42, 180, 0, 9, 42, 89, 180, 0, 19, 90, 4]
abbrev dktX17_must_0 : List UInt8 := dkwX17_must_0 ++ dktX17_must_1
theorem dksX17_must_0 : cX17_must.data.toList.drop 0 = dktX17_must_0 := by decide +kernel
theorem dksX17_must_1 : cX17_must.data.toList.drop 24 = dktX17_must_1 := dk_seg dksX17_must_0 24 rfl rfl
theorem dX17_must_0 : decode cX17_must 0 = .ok (.aload_n 0, 1) := dk_42 (dk_at dksX17_must_0 0 rfl rfl)
theorem dX17_must_1 : decode cX17_must 1 = .ok (.iload_n 1, 1) := dk_27 (dk_at dksX17_must_0 1 rfl rfl)
theorem dX17_must_2 : decode cX17_must 2 = .ok (.iload_n 2, 1) := dk_28 (dk_at dksX17_must_0 2 rfl rfl)
theorem dX17_must_3 : decode cX17_must 3 = .ok (.invokevirtual 46, 3) := dk_182 0 46 (dk_at dksX17_must_0 3 rfl rfl)
theorem dX17_must_6 : decode cX17_must 6 = .ok (.aload_n 0, 1) := dk_42 (dk_at dksX17_must_0 6 rfl rfl)
theorem dX17_must_7 : decode cX17_must 7 = .ok (.getfield 19, 3) := dk_180 0 19 (dk_at dksX17_must_0 7 rfl rfl)
theorem dX17_must_10 : decode cX17_must 10 = .ok (.invokestatic 50, 3) := dk_184 0 50 (dk_at dksX17_must_0 10 rfl rfl)
theorem dX17_must_13 : decode cX17_must 13 = .ok (.aload_n 0, 1) := dk_42 (dk_at dksX17_must_0 13 rfl rfl)
theorem dX17_must_14 : decode cX17_must 14 = .ok (.getfield 9, 3) := dk_180 0 9 (dk_at dksX17_must_0 14 rfl rfl)
theorem dX17_must_17 : decode cX17_must 17 = .ok (.aload_n 0, 1) := dk_42 (dk_at dksX17_must_0 17 rfl rfl)
theorem dX17_must_18 : decode cX17_must 18 = .ok (.dup, 1) := dk_89 (dk_at dksX17_must_0 18 rfl rfl)
theorem dX17_must_19 : decode cX17_must 19 = .ok (.getfield 19, 3) := dk_180 0 19 (dk_at dksX17_must_0 19 rfl rfl)
theorem dX17_must_22 : decode cX17_must 22 = .ok (.dup_x1, 1) := dk_90 (dk_at dksX17_must_0 22 rfl rfl)
theorem dX17_must_23 : decode cX17_must 23 = .ok (.iconst 1, 1) := dk_4 (dk_at dksX17_must_0 23 rfl rfl)
theorem dX17_must_24 : decode cX17_must 24 = .ok (.iadd, 1) := dk_96 (dk_at dksX17_must_1 0 rfl rfl)
theorem dX17_must_25 : decode cX17_must 25 = .ok (.putfield 19, 3) := dk_181 0 19 (dk_at dksX17_must_1 1 rfl rfl)
theorem dX17_must_28 : decode cX17_must 28 = .ok (.invokevirtual 33, 3) := dk_182 0 33 (dk_at dksX17_must_1 4 rfl rfl)
theorem dX17_must_31 : decode cX17_must 31 = .ok (.ireturn, 1) := dk_172 (dk_at dksX17_must_1 7 rfl rfl)
abbrev cX17_sees : ByteArray := prog_24_method_3_code
def yX17_sees : MethodName := ⟨RX17, "sees", "(II)Z"⟩
def dkwX17_sees_1 : List UInt8 := [184, 0, 37, 153, 0, 7, 4, 167, 0, 4, 3, 172]
abbrev dktX17_sees_1 : List UInt8 := dkwX17_sees_1 ++ []
def dkwX17_sees_0 : List UInt8 := [42, 182, 0, 29, 154, 0, 29, 42, 180, 0, 9, 42, 180, 0, 19, 182, 0, 33, 133, 27, 133, 28, 133]
abbrev dktX17_sees_0 : List UInt8 := dkwX17_sees_0 ++ dktX17_sees_1
theorem dksX17_sees_0 : cX17_sees.data.toList.drop 0 = dktX17_sees_0 := by decide +kernel
theorem dksX17_sees_1 : cX17_sees.data.toList.drop 23 = dktX17_sees_1 := dk_seg dksX17_sees_0 23 rfl rfl
theorem dX17_sees_0 : decode cX17_sees 0 = .ok (.aload_n 0, 1) := dk_42 (dk_at dksX17_sees_0 0 rfl rfl)
theorem dX17_sees_1 : decode cX17_sees 1 = .ok (.invokevirtual 29, 3) := dk_182 0 29 (dk_at dksX17_sees_0 1 rfl rfl)
theorem dX17_sees_4 : decode cX17_sees 4 = .ok (.ifCond .ne 29, 3) := dk_154 0 29 (dk_at dksX17_sees_0 4 rfl rfl)
theorem dX17_sees_7 : decode cX17_sees 7 = .ok (.aload_n 0, 1) := dk_42 (dk_at dksX17_sees_0 7 rfl rfl)
theorem dX17_sees_8 : decode cX17_sees 8 = .ok (.getfield 9, 3) := dk_180 0 9 (dk_at dksX17_sees_0 8 rfl rfl)
theorem dX17_sees_11 : decode cX17_sees 11 = .ok (.aload_n 0, 1) := dk_42 (dk_at dksX17_sees_0 11 rfl rfl)
theorem dX17_sees_12 : decode cX17_sees 12 = .ok (.getfield 19, 3) := dk_180 0 19 (dk_at dksX17_sees_0 12 rfl rfl)
theorem dX17_sees_15 : decode cX17_sees 15 = .ok (.invokevirtual 33, 3) := dk_182 0 33 (dk_at dksX17_sees_0 15 rfl rfl)
theorem dX17_sees_18 : decode cX17_sees 18 = .ok (.i2l, 1) := dk_133 (dk_at dksX17_sees_0 18 rfl rfl)
theorem dX17_sees_19 : decode cX17_sees 19 = .ok (.iload_n 1, 1) := dk_27 (dk_at dksX17_sees_0 19 rfl rfl)
theorem dX17_sees_20 : decode cX17_sees 20 = .ok (.i2l, 1) := dk_133 (dk_at dksX17_sees_0 20 rfl rfl)
theorem dX17_sees_21 : decode cX17_sees 21 = .ok (.iload_n 2, 1) := dk_28 (dk_at dksX17_sees_0 21 rfl rfl)
theorem dX17_sees_22 : decode cX17_sees 22 = .ok (.i2l, 1) := dk_133 (dk_at dksX17_sees_0 22 rfl rfl)
theorem dX17_sees_23 : decode cX17_sees 23 = .ok (.invokestatic 37, 3) := dk_184 0 37 (dk_at dksX17_sees_1 0 rfl rfl)
theorem dX17_sees_26 : decode cX17_sees 26 = .ok (.ifCond .eq 7, 3) := dk_153 0 7 (dk_at dksX17_sees_1 3 rfl rfl)
theorem dX17_sees_29 : decode cX17_sees 29 = .ok (.iconst 1, 1) := dk_4 (dk_at dksX17_sees_1 6 rfl rfl)
theorem dX17_sees_30 : decode cX17_sees 30 = .ok (.goto 4, 3) := dk_167 0 4 (dk_at dksX17_sees_1 7 rfl rfl)
theorem dX17_sees_33 : decode cX17_sees 33 = .ok (.iconst 0, 1) := dk_3 (dk_at dksX17_sees_1 10 rfl rfl)
theorem dX17_sees_34 : decode cX17_sees 34 = .ok (.ireturn, 1) := dk_172 (dk_at dksX17_sees_1 11 rfl rfl)
abbrev cX17_ends : ByteArray := prog_24_method_2_code
def yX17_ends : MethodName := ⟨RX17, "ends", "()Z"⟩
def dkwX17_ends_0 : List UInt8 := [42, 180, 0, 19, 42, 180, 0, 9, 182, 0, 23, 160, 0, 7, 4, 167, 0, 4, 3, 172]
abbrev dktX17_ends_0 : List UInt8 := dkwX17_ends_0 ++ []
theorem dksX17_ends_0 : cX17_ends.data.toList.drop 0 = dktX17_ends_0 := by decide +kernel
theorem dX17_ends_0 : decode cX17_ends 0 = .ok (.aload_n 0, 1) := dk_42 (dk_at dksX17_ends_0 0 rfl rfl)
theorem dX17_ends_1 : decode cX17_ends 1 = .ok (.getfield 19, 3) := dk_180 0 19 (dk_at dksX17_ends_0 1 rfl rfl)
theorem dX17_ends_4 : decode cX17_ends 4 = .ok (.aload_n 0, 1) := dk_42 (dk_at dksX17_ends_0 4 rfl rfl)
theorem dX17_ends_5 : decode cX17_ends 5 = .ok (.getfield 9, 3) := dk_180 0 9 (dk_at dksX17_ends_0 5 rfl rfl)
theorem dX17_ends_8 : decode cX17_ends 8 = .ok (.invokevirtual 23, 3) := dk_182 0 23 (dk_at dksX17_ends_0 8 rfl rfl)
theorem dX17_ends_11 : decode cX17_ends 11 = .ok (.if_icmp .ne 7, 3) := dk_160 0 7 (dk_at dksX17_ends_0 11 rfl rfl)
theorem dX17_ends_14 : decode cX17_ends 14 = .ok (.iconst 1, 1) := dk_4 (dk_at dksX17_ends_0 14 rfl rfl)
theorem dX17_ends_15 : decode cX17_ends 15 = .ok (.goto 4, 3) := dk_167 0 4 (dk_at dksX17_ends_0 15 rfl rfl)
theorem dX17_ends_18 : decode cX17_ends 18 = .ok (.iconst 0, 1) := dk_3 (dk_at dksX17_ends_0 18 rfl rfl)
theorem dX17_ends_19 : decode cX17_ends 19 = .ok (.ireturn, 1) := dk_172 (dk_at dksX17_ends_0 19 rfl rfl)
abbrev cX17_holds : ByteArray := prog_24_method_4_code
def yX17_holds : MethodName := ⟨RX17, "holds", "(ZI)V"⟩
def dkwX17_holds_0 : List UInt8 := [26, 154, 0, 12, 187, 0, 41, 89, 27, 183, 0, 43, 191, 177]
abbrev dktX17_holds_0 : List UInt8 := dkwX17_holds_0 ++ []
theorem dksX17_holds_0 : cX17_holds.data.toList.drop 0 = dktX17_holds_0 := by decide +kernel
theorem dX17_holds_0 : decode cX17_holds 0 = .ok (.iload_n 0, 1) := dk_26 (dk_at dksX17_holds_0 0 rfl rfl)
theorem dX17_holds_1 : decode cX17_holds 1 = .ok (.ifCond .ne 12, 3) := dk_154 0 12 (dk_at dksX17_holds_0 1 rfl rfl)
theorem dX17_holds_4 : decode cX17_holds 4 = .ok (.new 41, 3) := dk_187 0 41 (dk_at dksX17_holds_0 4 rfl rfl)
theorem dX17_holds_7 : decode cX17_holds 7 = .ok (.dup, 1) := dk_89 (dk_at dksX17_holds_0 7 rfl rfl)
theorem dX17_holds_8 : decode cX17_holds 8 = .ok (.iload_n 1, 1) := dk_27 (dk_at dksX17_holds_0 8 rfl rfl)
theorem dX17_holds_9 : decode cX17_holds 9 = .ok (.invokespecial 43, 3) := dk_183 0 43 (dk_at dksX17_holds_0 9 rfl rfl)
theorem dX17_holds_12 : decode cX17_holds 12 = .ok (.athrow, 1) := dk_191 (dk_at dksX17_holds_0 12 rfl rfl)
theorem dX17_holds_13 : decode cX17_holds 13 = .ok (.return_, 1) := dk_177 (dk_at dksX17_holds_0 13 rfl rfl)
abbrev cX17_name : ByteArray := prog_24_method_7_code
def yX17_name : MethodName := ⟨RX17, "name", "()Ljava/lang/String;"⟩
def dkwX17_name_4 : List UInt8 := [3, 27, 184, 0, 50, 45, 176]
abbrev dktX17_name_4 : List UInt8 := dkwX17_name_4 ++ []
def dkwX17_name_3 : List UInt8 := [87, 44, 182, 0, 73, 78, 42, 180, 0, 15, 180, 0, 77, 45, 182, 0, 83, 154, 0, 7, 4, 167, 0, 4]
abbrev dktX17_name_3 : List UInt8 := dkwX17_name_3 ++ dktX17_name_4
def dkwX17_name_2 : List UInt8 := [42, 16, 97, 16, 122, 182, 0, 61, 146, 182, 0, 68, 87, 167, 255, 223, 42, 16, 32, 16, 32, 182, 0, 61]
abbrev dktX17_name_2 : List UInt8 := dkwX17_name_2 ++ dktX17_name_3
def dkwX17_name_1 : List UInt8 := [182, 0, 68, 87, 44, 182, 0, 72, 7, 162, 0, 31, 42, 16, 97, 16, 122, 182, 0, 46, 153, 0, 20, 44]
abbrev dktX17_name_1 : List UInt8 := dkwX17_name_1 ++ dktX17_name_2
def dkwX17_name_0 : List UInt8 := [42, 180, 0, 19, 60, 187, 0, 65, 89, 183, 0, 67, 77, 44, 42, 16, 97, 16, 122, 182, 0, 61, 146]
abbrev dktX17_name_0 : List UInt8 := dkwX17_name_0 ++ dktX17_name_1
theorem dksX17_name_0 : cX17_name.data.toList.drop 0 = dktX17_name_0 := by decide +kernel
theorem dksX17_name_1 : cX17_name.data.toList.drop 23 = dktX17_name_1 := dk_seg dksX17_name_0 23 rfl rfl
theorem dksX17_name_2 : cX17_name.data.toList.drop 47 = dktX17_name_2 := dk_seg dksX17_name_1 24 rfl rfl
theorem dksX17_name_3 : cX17_name.data.toList.drop 71 = dktX17_name_3 := dk_seg dksX17_name_2 24 rfl rfl
theorem dksX17_name_4 : cX17_name.data.toList.drop 95 = dktX17_name_4 := dk_seg dksX17_name_3 24 rfl rfl
theorem dX17_name_0 : decode cX17_name 0 = .ok (.aload_n 0, 1) := dk_42 (dk_at dksX17_name_0 0 rfl rfl)
theorem dX17_name_1 : decode cX17_name 1 = .ok (.getfield 19, 3) := dk_180 0 19 (dk_at dksX17_name_0 1 rfl rfl)
theorem dX17_name_4 : decode cX17_name 4 = .ok (.istore_n 1, 1) := dk_60 (dk_at dksX17_name_0 4 rfl rfl)
theorem dX17_name_5 : decode cX17_name 5 = .ok (.new 65, 3) := dk_187 0 65 (dk_at dksX17_name_0 5 rfl rfl)
theorem dX17_name_8 : decode cX17_name 8 = .ok (.dup, 1) := dk_89 (dk_at dksX17_name_0 8 rfl rfl)
theorem dX17_name_9 : decode cX17_name 9 = .ok (.invokespecial 67, 3) := dk_183 0 67 (dk_at dksX17_name_0 9 rfl rfl)
theorem dX17_name_12 : decode cX17_name 12 = .ok (.astore_n 2, 1) := dk_77 (dk_at dksX17_name_0 12 rfl rfl)
theorem dX17_name_13 : decode cX17_name 13 = .ok (.aload_n 2, 1) := dk_44 (dk_at dksX17_name_0 13 rfl rfl)
theorem dX17_name_14 : decode cX17_name 14 = .ok (.aload_n 0, 1) := dk_42 (dk_at dksX17_name_0 14 rfl rfl)
theorem dX17_name_15 : decode cX17_name 15 = .ok (.bipush 97, 2) := dk_16 97 (dk_at dksX17_name_0 15 rfl rfl)
theorem dX17_name_17 : decode cX17_name 17 = .ok (.bipush 122, 2) := dk_16 122 (dk_at dksX17_name_0 17 rfl rfl)
theorem dX17_name_19 : decode cX17_name 19 = .ok (.invokevirtual 61, 3) := dk_182 0 61 (dk_at dksX17_name_0 19 rfl rfl)
theorem dX17_name_22 : decode cX17_name 22 = .ok (.i2c, 1) := dk_146 (dk_at dksX17_name_0 22 rfl rfl)
theorem dX17_name_23 : decode cX17_name 23 = .ok (.invokevirtual 68, 3) := dk_182 0 68 (dk_at dksX17_name_1 0 rfl rfl)
theorem dX17_name_26 : decode cX17_name 26 = .ok (.pop, 1) := dk_87 (dk_at dksX17_name_1 3 rfl rfl)
theorem dX17_name_27 : decode cX17_name 27 = .ok (.aload_n 2, 1) := dk_44 (dk_at dksX17_name_1 4 rfl rfl)
theorem dX17_name_28 : decode cX17_name 28 = .ok (.invokevirtual 72, 3) := dk_182 0 72 (dk_at dksX17_name_1 5 rfl rfl)
theorem dX17_name_31 : decode cX17_name 31 = .ok (.iconst 4, 1) := dk_7 (dk_at dksX17_name_1 8 rfl rfl)
theorem dX17_name_32 : decode cX17_name 32 = .ok (.if_icmp .ge 31, 3) := dk_162 0 31 (dk_at dksX17_name_1 9 rfl rfl)
theorem dX17_name_35 : decode cX17_name 35 = .ok (.aload_n 0, 1) := dk_42 (dk_at dksX17_name_1 12 rfl rfl)
theorem dX17_name_36 : decode cX17_name 36 = .ok (.bipush 97, 2) := dk_16 97 (dk_at dksX17_name_1 13 rfl rfl)
theorem dX17_name_38 : decode cX17_name 38 = .ok (.bipush 122, 2) := dk_16 122 (dk_at dksX17_name_1 15 rfl rfl)
theorem dX17_name_40 : decode cX17_name 40 = .ok (.invokevirtual 46, 3) := dk_182 0 46 (dk_at dksX17_name_1 17 rfl rfl)
theorem dX17_name_43 : decode cX17_name 43 = .ok (.ifCond .eq 20, 3) := dk_153 0 20 (dk_at dksX17_name_1 20 rfl rfl)
theorem dX17_name_46 : decode cX17_name 46 = .ok (.aload_n 2, 1) := dk_44 (dk_at dksX17_name_1 23 rfl rfl)
theorem dX17_name_47 : decode cX17_name 47 = .ok (.aload_n 0, 1) := dk_42 (dk_at dksX17_name_2 0 rfl rfl)
theorem dX17_name_48 : decode cX17_name 48 = .ok (.bipush 97, 2) := dk_16 97 (dk_at dksX17_name_2 1 rfl rfl)
theorem dX17_name_50 : decode cX17_name 50 = .ok (.bipush 122, 2) := dk_16 122 (dk_at dksX17_name_2 3 rfl rfl)
theorem dX17_name_52 : decode cX17_name 52 = .ok (.invokevirtual 61, 3) := dk_182 0 61 (dk_at dksX17_name_2 5 rfl rfl)
theorem dX17_name_55 : decode cX17_name 55 = .ok (.i2c, 1) := dk_146 (dk_at dksX17_name_2 8 rfl rfl)
theorem dX17_name_56 : decode cX17_name 56 = .ok (.invokevirtual 68, 3) := dk_182 0 68 (dk_at dksX17_name_2 9 rfl rfl)
theorem dX17_name_59 : decode cX17_name 59 = .ok (.pop, 1) := dk_87 (dk_at dksX17_name_2 12 rfl rfl)
theorem dX17_name_60 : decode cX17_name 60 = .ok (.goto (-33), 3) := dk_167 255 223 (dk_at dksX17_name_2 13 rfl rfl)
theorem dX17_name_63 : decode cX17_name 63 = .ok (.aload_n 0, 1) := dk_42 (dk_at dksX17_name_2 16 rfl rfl)
theorem dX17_name_64 : decode cX17_name 64 = .ok (.bipush 32, 2) := dk_16 32 (dk_at dksX17_name_2 17 rfl rfl)
theorem dX17_name_66 : decode cX17_name 66 = .ok (.bipush 32, 2) := dk_16 32 (dk_at dksX17_name_2 19 rfl rfl)
theorem dX17_name_68 : decode cX17_name 68 = .ok (.invokevirtual 61, 3) := dk_182 0 61 (dk_at dksX17_name_2 21 rfl rfl)
theorem dX17_name_71 : decode cX17_name 71 = .ok (.pop, 1) := dk_87 (dk_at dksX17_name_3 0 rfl rfl)
theorem dX17_name_72 : decode cX17_name 72 = .ok (.aload_n 2, 1) := dk_44 (dk_at dksX17_name_3 1 rfl rfl)
theorem dX17_name_73 : decode cX17_name 73 = .ok (.invokevirtual 73, 3) := dk_182 0 73 (dk_at dksX17_name_3 2 rfl rfl)
theorem dX17_name_76 : decode cX17_name 76 = .ok (.astore_n 3, 1) := dk_78 (dk_at dksX17_name_3 5 rfl rfl)
theorem dX17_name_77 : decode cX17_name 77 = .ok (.aload_n 0, 1) := dk_42 (dk_at dksX17_name_3 6 rfl rfl)
theorem dX17_name_78 : decode cX17_name 78 = .ok (.getfield 15, 3) := dk_180 0 15 (dk_at dksX17_name_3 7 rfl rfl)
theorem dX17_name_81 : decode cX17_name 81 = .ok (.getfield 77, 3) := dk_180 0 77 (dk_at dksX17_name_3 10 rfl rfl)
theorem dX17_name_84 : decode cX17_name 84 = .ok (.aload_n 3, 1) := dk_45 (dk_at dksX17_name_3 13 rfl rfl)
theorem dX17_name_85 : decode cX17_name 85 = .ok (.invokevirtual 83, 3) := dk_182 0 83 (dk_at dksX17_name_3 14 rfl rfl)
theorem dX17_name_88 : decode cX17_name 88 = .ok (.ifCond .ne 7, 3) := dk_154 0 7 (dk_at dksX17_name_3 17 rfl rfl)
theorem dX17_name_91 : decode cX17_name 91 = .ok (.iconst 1, 1) := dk_4 (dk_at dksX17_name_3 20 rfl rfl)
theorem dX17_name_92 : decode cX17_name 92 = .ok (.goto 4, 3) := dk_167 0 4 (dk_at dksX17_name_3 21 rfl rfl)
theorem dX17_name_95 : decode cX17_name 95 = .ok (.iconst 0, 1) := dk_3 (dk_at dksX17_name_4 0 rfl rfl)
theorem dX17_name_96 : decode cX17_name 96 = .ok (.iload_n 1, 1) := dk_27 (dk_at dksX17_name_4 1 rfl rfl)
theorem dX17_name_97 : decode cX17_name 97 = .ok (.invokestatic 50, 3) := dk_184 0 50 (dk_at dksX17_name_4 2 rfl rfl)
theorem dX17_name_100 : decode cX17_name 100 = .ok (.aload_n 3, 1) := dk_45 (dk_at dksX17_name_4 5 rfl rfl)
theorem dX17_name_101 : decode cX17_name 101 = .ok (.areturn, 1) := dk_176 (dk_at dksX17_name_4 6 rfl rfl)
theorem q125 : (Jvm.Cond.initialized "PluginChains$Reader") ∈ lw_all := lw_g (lw_at lw_m1 45 rfl) rfl
theorem q254 : (Jvm.Cond.fieldLink "PluginChains$Reader" (95 : Nat) "PluginChains$Host" "many" "I") ∈ lw_all := lw_g (lw_at lw_m1 174 rfl) rfl
theorem q283 : (Jvm.Cond.fieldLink "PluginChains$Reader" (77 : Nat) "PluginChains$Host" "names" "Ljava/util/TreeMap;") ∈ lw_all := lw_g (lw_at lw_m1 203 rfl) rfl
theorem q1321 : (Jvm.Cond.selects "PluginChains$Reader" ({ cls := "java/lang/Object", name := "getClass", desc := "()Ljava/lang/Class;" } : Jvm.MethodName) ({ cls := "java/lang/Object", name := "getClass", desc := "()Ljava/lang/Class;" } : Jvm.MethodName)) ∈ lw_all := lw_g (lw_at lw_m6 41 rfl) rfl
theorem q1606 : (Jvm.Cond.instantiable "PluginChains$Reader" (3 : Nat)) ∈ lw_all := lw_g (lw_at lw_m7 86 rfl) rfl
theorem q1608 : (Jvm.Cond.instanceMethod ({ cls := "PluginChains$Reader", name := "<init>", desc := "(LPluginChains$Row;LPluginChains$Host;)V" } : Jvm.MethodName)) ∈ lw_all := lw_g (lw_at lw_m7 88 rfl) rfl
theorem q1609 : (Jvm.Cond.code ({ cls := "PluginChains$Reader", name := "<init>", desc := "(LPluginChains$Row;LPluginChains$Host;)V" } : Jvm.MethodName) prog_24_method_1_code (3 : Nat) (Option.none : Option Jvm.ClassFile.FieldType)) ∈ lw_all := lw_g (lw_at lw_m7 89 rfl) rfl
theorem q1610 : (Jvm.Cond.methodLink "PluginChains$Reader" (3 : Nat) ({ cls := "java/lang/Object", name := "<init>", desc := "()V" } : Jvm.MethodName)) ∈ lw_all := lw_g (lw_at lw_m7 90 rfl) rfl
theorem q1611 : (Jvm.Cond.fieldLink "PluginChains$Reader" (9 : Nat) "PluginChains$Reader" "text" "LPluginChains$Row;") ∈ lw_all := lw_g (lw_at lw_m7 91 rfl) rfl
theorem q1612 : (Jvm.Cond.fieldLink "PluginChains$Reader" (15 : Nat) "PluginChains$Reader" "h" "LPluginChains$Host;") ∈ lw_all := lw_g (lw_at lw_m7 92 rfl) rfl
theorem q1613 : (Jvm.Cond.fieldLink "PluginChains$Reader" (19 : Nat) "PluginChains$Reader" "at" "I") ∈ lw_all := lw_g (lw_at lw_m7 93 rfl) rfl
theorem q1614 : (Jvm.Cond.laysFinal "PluginChains$Reader" "PluginChains$Reader" "text" "LPluginChains$Row;") ∈ lw_all := lw_g (lw_at lw_m7 94 rfl) rfl
theorem q1615 : (Jvm.Cond.soleField "PluginChains$Reader" "text") ∈ lw_all := lw_g (lw_at lw_m7 95 rfl) rfl
theorem q1616 : (Jvm.Cond.laysFinal "PluginChains$Reader" "PluginChains$Reader" "h" "LPluginChains$Host;") ∈ lw_all := lw_g (lw_at lw_m7 96 rfl) rfl
theorem q1617 : (Jvm.Cond.soleField "PluginChains$Reader" "h") ∈ lw_all := lw_g (lw_at lw_m7 97 rfl) rfl
theorem q1618 : (Jvm.Cond.lays "PluginChains$Reader" "PluginChains$Reader" "at" "I") ∈ lw_all := lw_g (lw_at lw_m7 98 rfl) rfl
theorem q1619 : (Jvm.Cond.soleField "PluginChains$Reader" "at") ∈ lw_all := lw_g (lw_at lw_m7 99 rfl) rfl
theorem q1620 : (Jvm.Cond.superclass "PluginChains$Reader" "java/lang/Object") ∈ lw_all := lw_g (lw_at lw_m7 100 rfl) rfl
theorem q1622 : (Jvm.Cond.instanceMethod ({ cls := "PluginChains$Reader", name := "items", desc := "()I" } : Jvm.MethodName)) ∈ lw_all := lw_g (lw_at lw_m7 102 rfl) rfl
theorem q1623 : (Jvm.Cond.selects "PluginChains$Reader" ({ cls := "PluginChains$Reader", name := "items", desc := "()I" } : Jvm.MethodName) ({ cls := "PluginChains$Reader", name := "items", desc := "()I" } : Jvm.MethodName)) ∈ lw_all := lw_g (lw_at lw_m7 103 rfl) rfl
theorem q1624 : (Jvm.Cond.code ({ cls := "PluginChains$Reader", name := "items", desc := "()I" } : Jvm.MethodName) prog_24_method_9_code (2 : Nat) (Option.some Jvm.ClassFile.FieldType.int)) ∈ lw_all := lw_g (lw_at lw_m7 104 rfl) rfl
theorem q1625 : (Jvm.Cond.methodLink "PluginChains$Reader" (105 : Nat) ({ cls := "PluginChains$Reader", name := "item", desc := "()V" } : Jvm.MethodName)) ∈ lw_all := lw_g (lw_at lw_m7 105 rfl) rfl
theorem q1626 : (Jvm.Cond.privateMethod ({ cls := "PluginChains$Reader", name := "item", desc := "()V" } : Jvm.MethodName)) ∈ lw_tbl := lw_at lw_m7 106 rfl
theorem q1627 : (Jvm.Cond.instanceMethod ({ cls := "PluginChains$Reader", name := "item", desc := "()V" } : Jvm.MethodName)) ∈ lw_all := lw_g (lw_at lw_m7 107 rfl) rfl
theorem q1628 : (Jvm.Cond.code ({ cls := "PluginChains$Reader", name := "item", desc := "()V" } : Jvm.MethodName) prog_24_method_8_code (8 : Nat) (Option.none : Option Jvm.ClassFile.FieldType)) ∈ lw_all := lw_g (lw_at lw_m7 108 rfl) rfl
theorem q1629 : (Jvm.Cond.stringRef "PluginChains$Reader" (89 : Nat) "plug") ∈ lw_tbl := lw_at lw_m7 109 rfl
theorem q1630 : (Jvm.Cond.methodLink "PluginChains$Reader" (91 : Nat) ({ cls := "PluginChains$Reader", name := "word", desc := "(Ljava/lang/String;)V" } : Jvm.MethodName)) ∈ lw_all := lw_g (lw_at lw_m7 110 rfl) rfl
theorem q1631 : (Jvm.Cond.privateMethod ({ cls := "PluginChains$Reader", name := "word", desc := "(Ljava/lang/String;)V" } : Jvm.MethodName)) ∈ lw_tbl := lw_at lw_m7 111 rfl
theorem q1632 : (Jvm.Cond.instanceMethod ({ cls := "PluginChains$Reader", name := "word", desc := "(Ljava/lang/String;)V" } : Jvm.MethodName)) ∈ lw_all := lw_g (lw_at lw_m7 112 rfl) rfl
theorem q1633 : (Jvm.Cond.code ({ cls := "PluginChains$Reader", name := "word", desc := "(Ljava/lang/String;)V" } : Jvm.MethodName) prog_24_method_6_code (3 : Nat) (Option.none : Option Jvm.ClassFile.FieldType)) ∈ lw_all := lw_g (lw_at lw_m7 113 rfl) rfl
theorem q1634 : (Jvm.Cond.methodLink "PluginChains$Reader" (54 : Nat) ({ cls := "java/lang/String", name := "length", desc := "()I" } : Jvm.MethodName)) ∈ lw_all := lw_g (lw_at lw_m7 114 rfl) rfl
theorem q1635 : (Jvm.Cond.methodLink "PluginChains$Reader" (57 : Nat) ({ cls := "java/lang/String", name := "charAt", desc := "(I)C" } : Jvm.MethodName)) ∈ lw_all := lw_g (lw_at lw_m7 115 rfl) rfl
theorem q1650 : (Jvm.Cond.methodLink "PluginChains$Reader" (61 : Nat) ({ cls := "PluginChains$Reader", name := "must", desc := "(II)I" } : Jvm.MethodName)) ∈ lw_all := lw_g (lw_at lw_m7 130 rfl) rfl
theorem q1651 : (Jvm.Cond.privateMethod ({ cls := "PluginChains$Reader", name := "must", desc := "(II)I" } : Jvm.MethodName)) ∈ lw_tbl := lw_at lw_m7 131 rfl
theorem q1652 : (Jvm.Cond.instanceMethod ({ cls := "PluginChains$Reader", name := "must", desc := "(II)I" } : Jvm.MethodName)) ∈ lw_all := lw_g (lw_at lw_m7 132 rfl) rfl
theorem q1653 : (Jvm.Cond.code ({ cls := "PluginChains$Reader", name := "must", desc := "(II)I" } : Jvm.MethodName) prog_24_method_5_code (3 : Nat) (Option.some Jvm.ClassFile.FieldType.int)) ∈ lw_all := lw_g (lw_at lw_m7 133 rfl) rfl
theorem q1654 : (Jvm.Cond.methodLink "PluginChains$Reader" (46 : Nat) ({ cls := "PluginChains$Reader", name := "sees", desc := "(II)Z" } : Jvm.MethodName)) ∈ lw_all := lw_g (lw_at lw_m7 134 rfl) rfl
theorem q1655 : (Jvm.Cond.privateMethod ({ cls := "PluginChains$Reader", name := "sees", desc := "(II)Z" } : Jvm.MethodName)) ∈ lw_tbl := lw_at lw_m7 135 rfl
theorem q1656 : (Jvm.Cond.instanceMethod ({ cls := "PluginChains$Reader", name := "sees", desc := "(II)Z" } : Jvm.MethodName)) ∈ lw_all := lw_g (lw_at lw_m7 136 rfl) rfl
theorem q1657 : (Jvm.Cond.code ({ cls := "PluginChains$Reader", name := "sees", desc := "(II)Z" } : Jvm.MethodName) prog_24_method_3_code (3 : Nat) (Option.some Jvm.ClassFile.FieldType.boolean)) ∈ lw_all := lw_g (lw_at lw_m7 137 rfl) rfl
theorem q1658 : (Jvm.Cond.methodLink "PluginChains$Reader" (29 : Nat) ({ cls := "PluginChains$Reader", name := "ends", desc := "()Z" } : Jvm.MethodName)) ∈ lw_all := lw_g (lw_at lw_m7 138 rfl) rfl
theorem q1659 : (Jvm.Cond.privateMethod ({ cls := "PluginChains$Reader", name := "ends", desc := "()Z" } : Jvm.MethodName)) ∈ lw_tbl := lw_at lw_m7 139 rfl
theorem q1660 : (Jvm.Cond.instanceMethod ({ cls := "PluginChains$Reader", name := "ends", desc := "()Z" } : Jvm.MethodName)) ∈ lw_all := lw_g (lw_at lw_m7 140 rfl) rfl
theorem q1661 : (Jvm.Cond.code ({ cls := "PluginChains$Reader", name := "ends", desc := "()Z" } : Jvm.MethodName) prog_24_method_2_code (1 : Nat) (Option.some Jvm.ClassFile.FieldType.boolean)) ∈ lw_all := lw_g (lw_at lw_m7 141 rfl) rfl
theorem q1662 : (Jvm.Cond.methodLink "PluginChains$Reader" (23 : Nat) ({ cls := "PluginChains$Row", name := "length", desc := "()I" } : Jvm.MethodName)) ∈ lw_all := lw_g (lw_at lw_m7 142 rfl) rfl
theorem q1677 : (Jvm.Cond.methodLink "PluginChains$Reader" (33 : Nat) ({ cls := "PluginChains$Row", name := "asInt", desc := "(I)I" } : Jvm.MethodName)) ∈ lw_all := lw_g (lw_at lw_m7 157 rfl) rfl
theorem q1686 : (Jvm.Cond.methodLink "PluginChains$Reader" (37 : Nat) ({ cls := "PluginChains", name := "in", desc := "(JJJ)Z" } : Jvm.MethodName)) ∈ lw_all := lw_g (lw_at lw_m7 166 rfl) rfl
theorem q1687 : (Jvm.Cond.methodLink "PluginChains$Reader" (50 : Nat) ({ cls := "PluginChains$Reader", name := "holds", desc := "(ZI)V" } : Jvm.MethodName)) ∈ lw_all := lw_g (lw_at lw_m7 167 rfl) rfl
theorem q1688 : (Jvm.Cond.static ({ cls := "PluginChains$Reader", name := "holds", desc := "(ZI)V" } : Jvm.MethodName)) ∈ lw_all := lw_g (lw_at lw_m7 168 rfl) rfl
theorem q1689 : (Jvm.Cond.code ({ cls := "PluginChains$Reader", name := "holds", desc := "(ZI)V" } : Jvm.MethodName) prog_24_method_4_code (2 : Nat) (Option.none : Option Jvm.ClassFile.FieldType)) ∈ lw_all := lw_g (lw_at lw_m7 169 rfl) rfl
theorem q1690 : (Jvm.Cond.classLink "PluginChains$Reader" (41 : Nat) "PluginChains$Faulty") ∈ lw_all := lw_g (lw_at lw_m7 170 rfl) rfl
theorem q1699 : (Jvm.Cond.methodLink "PluginChains$Reader" (43 : Nat) ({ cls := "PluginChains$Faulty", name := "<init>", desc := "(I)V" } : Jvm.MethodName)) ∈ lw_all := lw_g (lw_at lw_m7 179 rfl) rfl
theorem q1709 : (Jvm.Cond.methodLink "PluginChains$Reader" (98 : Nat) ({ cls := "PluginChains$Reader", name := "name", desc := "()Ljava/lang/String;" } : Jvm.MethodName)) ∈ lw_all := lw_g (lw_at lw_m7 189 rfl) rfl
theorem q1710 : (Jvm.Cond.privateMethod ({ cls := "PluginChains$Reader", name := "name", desc := "()Ljava/lang/String;" } : Jvm.MethodName)) ∈ lw_tbl := lw_at lw_m7 190 rfl
theorem q1711 : (Jvm.Cond.instanceMethod ({ cls := "PluginChains$Reader", name := "name", desc := "()Ljava/lang/String;" } : Jvm.MethodName)) ∈ lw_all := lw_g (lw_at lw_m7 191 rfl) rfl
theorem q1712 : (Jvm.Cond.code ({ cls := "PluginChains$Reader", name := "name", desc := "()Ljava/lang/String;" } : Jvm.MethodName) prog_24_method_7_code (4 : Nat) (Option.some (Jvm.ClassFile.FieldType.object "java/lang/String"))) ∈ lw_all := lw_g (lw_at lw_m7 192 rfl) rfl
theorem q1713 : (Jvm.Cond.classLink "PluginChains$Reader" (65 : Nat) "java/lang/StringBuilder") ∈ lw_all := lw_g (lw_at lw_m7 193 rfl) rfl
theorem q1714 : (Jvm.Cond.methodLink "PluginChains$Reader" (67 : Nat) ({ cls := "java/lang/StringBuilder", name := "<init>", desc := "()V" } : Jvm.MethodName)) ∈ lw_all := lw_g (lw_at lw_m7 194 rfl) rfl
theorem q1715 : (Jvm.Cond.methodLink "PluginChains$Reader" (68 : Nat) ({ cls := "java/lang/StringBuilder", name := "append", desc := "(C)Ljava/lang/StringBuilder;" } : Jvm.MethodName)) ∈ lw_all := lw_g (lw_at lw_m7 195 rfl) rfl
theorem q1722 : (Jvm.Cond.methodLink "PluginChains$Reader" (72 : Nat) ({ cls := "java/lang/StringBuilder", name := "length", desc := "()I" } : Jvm.MethodName)) ∈ lw_all := lw_g (lw_at lw_m7 202 rfl) rfl
theorem q1723 : (Jvm.Cond.methodLink "PluginChains$Reader" (73 : Nat) ({ cls := "java/lang/StringBuilder", name := "toString", desc := "()Ljava/lang/String;" } : Jvm.MethodName)) ∈ lw_all := lw_g (lw_at lw_m7 203 rfl) rfl
theorem q1724 : (Jvm.Cond.methodLink "PluginChains$Reader" (83 : Nat) ({ cls := "java/util/TreeMap", name := "containsKey", desc := "(Ljava/lang/Object;)Z" } : Jvm.MethodName)) ∈ lw_all := lw_g (lw_at lw_m7 204 rfl) rfl
theorem q1725 : (Jvm.Cond.methodLink "PluginChains$Reader" (101 : Nat) ({ cls := "PluginChains$Host", name := "add", desc := "(ILjava/lang/String;IIII)I" } : Jvm.MethodName)) ∈ lw_all := lw_g (lw_at lw_m7 205 rfl) rfl
theorem q4070 : (Jvm.Cond.castable "PluginChains$Reader" "java/lang/Object") ∈ lw_tbl := lw_at lw_m17 150 rfl
theorem in_X17 : ∀ w ∈ wsX170, w ∈ lw_all := lw_in wsX170 [1614, 1616, 1618] (by decide +kernel) (by decide +kernel)

/-! PluginChains$Faulty -/
set_option maxRecDepth 100000
def RX18 : String := "PluginChains$Faulty"
def TX18 : u_T := fun k => match k with
  | 0 => ("java/lang/Throwable", "cause", "Ljava/lang/Throwable;", false)
  | 1 => ("java/lang/Throwable", "stackTrace", "[Ljava/lang/StackTraceElement;", false)
  | 2 => ("java/lang/Throwable", "suppressedExceptions", "Ljava/util/List;", false)
  | 3 => ("java/lang/Throwable", "detailMessage", "Ljava/lang/String;", false)
  | 4 => ("java/lang/Throwable", "backtrace", "Ljava/lang/Object;", false)
  | 5 => ("java/lang/Throwable", "depth", "I", false)
  | _ => ("PluginChains$Faulty", "place", "I", true)
def tyX18 : Nat → FieldType := fun k => match k with
  | 0 => .object "java/lang/Throwable"
  | 1 => .array (.object "java/lang/StackTraceElement")
  | 2 => .object "java/util/List"
  | 3 => .object "java/lang/String"
  | 4 => .object "java/lang/Object"
  | 5 => .int
  | _ => .int
abbrev wsX180 : List Cond := u_ws RX18 TX18 7
theorem nmX18 : ∀ a, a < 7 → ∀ b, b < 7 → a ≠ b → (TX18 a).2.1 ≠ (TX18 b).2.1 := by decide +kernel
theorem tyX18_ok : ∀ k, k < 7 → parseFieldDescriptor (TX18 k).2.2.1 = some (tyX18 k) := by decide +kernel
abbrev cX18_init : ByteArray := prog_12_method_1_code
def yX18_init : MethodName := ⟨RX18, "<init>", "(I)V"⟩
def dkwX18_init_0 : List UInt8 := [42, 1, 1, 3, 3, 183, 0, 1, 42, 27, 181, 0, 7, 177]
abbrev dktX18_init_0 : List UInt8 := dkwX18_init_0 ++ []
theorem dksX18_init_0 : cX18_init.data.toList.drop 0 = dktX18_init_0 := by decide +kernel
theorem dX18_init_0 : decode cX18_init 0 = .ok (.aload_n 0, 1) := dk_42 (dk_at dksX18_init_0 0 rfl rfl)
theorem dX18_init_1 : decode cX18_init 1 = .ok (.aconst_null, 1) := dk_1 (dk_at dksX18_init_0 1 rfl rfl)
theorem dX18_init_2 : decode cX18_init 2 = .ok (.aconst_null, 1) := dk_1 (dk_at dksX18_init_0 2 rfl rfl)
theorem dX18_init_3 : decode cX18_init 3 = .ok (.iconst 0, 1) := dk_3 (dk_at dksX18_init_0 3 rfl rfl)
theorem dX18_init_4 : decode cX18_init 4 = .ok (.iconst 0, 1) := dk_3 (dk_at dksX18_init_0 4 rfl rfl)
theorem dX18_init_5 : decode cX18_init 5 = .ok (.invokespecial 1, 3) := dk_183 0 1 (dk_at dksX18_init_0 5 rfl rfl)
theorem dX18_init_8 : decode cX18_init 8 = .ok (.aload_n 0, 1) := dk_42 (dk_at dksX18_init_0 8 rfl rfl)
theorem dX18_init_9 : decode cX18_init 9 = .ok (.iload_n 1, 1) := dk_27 (dk_at dksX18_init_0 9 rfl rfl)
theorem dX18_init_10 : decode cX18_init 10 = .ok (.putfield 7, 3) := dk_181 0 7 (dk_at dksX18_init_0 10 rfl rfl)
theorem dX18_init_13 : decode cX18_init 13 = .ok (.return_, 1) := dk_177 (dk_at dksX18_init_0 13 rfl rfl)
theorem q126 : (Jvm.Cond.initialized "PluginChains$Faulty") ∈ lw_all := lw_g (lw_at lw_m1 46 rfl) rfl
theorem q445 : (Jvm.Cond.selects "PluginChains$Faulty" ({ cls := "java/lang/Throwable", name := "fillInStackTrace", desc := "()Ljava/lang/Throwable;" } : Jvm.MethodName) ({ cls := "java/lang/Throwable", name := "fillInStackTrace", desc := "()Ljava/lang/Throwable;" } : Jvm.MethodName)) ∈ lw_all := lw_g (lw_at lw_m2 125 rfl) rfl
theorem q1310 : (Jvm.Cond.selects "PluginChains$Faulty" ({ cls := "java/lang/Object", name := "getClass", desc := "()Ljava/lang/Class;" } : Jvm.MethodName) ({ cls := "java/lang/Object", name := "getClass", desc := "()Ljava/lang/Class;" } : Jvm.MethodName)) ∈ lw_all := lw_g (lw_at lw_m6 30 rfl) rfl
theorem q1691 : (Jvm.Cond.instantiable "PluginChains$Faulty" (7 : Nat)) ∈ lw_all := lw_g (lw_at lw_m7 171 rfl) rfl
theorem q1692 : (Jvm.Cond.castable "PluginChains$Faulty" "PluginChains$Faulty") ∈ lw_tbl := lw_at lw_m7 172 rfl
theorem q1693 : (Jvm.Cond.selects "PluginChains$Faulty" ({ cls := "java/lang/Throwable", name := "fillInStackTrace", desc := "(I)Ljava/lang/Throwable;" } : Jvm.MethodName) ({ cls := "java/lang/Throwable", name := "fillInStackTrace", desc := "(I)Ljava/lang/Throwable;" } : Jvm.MethodName)) ∈ lw_all := lw_g (lw_at lw_m7 173 rfl) rfl
theorem q1694 : (Jvm.Cond.lays "PluginChains$Faulty" "java/lang/Throwable" "cause" "Ljava/lang/Throwable;") ∈ lw_all := lw_g (lw_at lw_m7 174 rfl) rfl
theorem q1695 : (Jvm.Cond.lays "PluginChains$Faulty" "java/lang/Throwable" "stackTrace" "[Ljava/lang/StackTraceElement;") ∈ lw_all := lw_g (lw_at lw_m7 175 rfl) rfl
theorem q1696 : (Jvm.Cond.lays "PluginChains$Faulty" "java/lang/Throwable" "suppressedExceptions" "Ljava/util/List;") ∈ lw_all := lw_g (lw_at lw_m7 176 rfl) rfl
theorem q1697 : (Jvm.Cond.lays "PluginChains$Faulty" "java/lang/Throwable" "detailMessage" "Ljava/lang/String;") ∈ lw_all := lw_g (lw_at lw_m7 177 rfl) rfl
theorem q1698 : (Jvm.Cond.lays "PluginChains$Faulty" "java/lang/Throwable" "backtrace" "Ljava/lang/Object;") ∈ lw_all := lw_g (lw_at lw_m7 178 rfl) rfl
theorem q1700 : (Jvm.Cond.instanceMethod ({ cls := "PluginChains$Faulty", name := "<init>", desc := "(I)V" } : Jvm.MethodName)) ∈ lw_all := lw_g (lw_at lw_m7 180 rfl) rfl
theorem q1701 : (Jvm.Cond.code ({ cls := "PluginChains$Faulty", name := "<init>", desc := "(I)V" } : Jvm.MethodName) prog_12_method_1_code (2 : Nat) (Option.none : Option Jvm.ClassFile.FieldType)) ∈ lw_all := lw_g (lw_at lw_m7 181 rfl) rfl
theorem q1702 : (Jvm.Cond.methodLink "PluginChains$Faulty" (1 : Nat) ({ cls := "java/lang/Exception", name := "<init>", desc := "(Ljava/lang/String;Ljava/lang/Throwable;ZZ)V" } : Jvm.MethodName)) ∈ lw_all := lw_g (lw_at lw_m7 182 rfl) rfl
theorem q1703 : (Jvm.Cond.fieldLink "PluginChains$Faulty" (7 : Nat) "PluginChains$Faulty" "place" "I") ∈ lw_all := lw_g (lw_at lw_m7 183 rfl) rfl
theorem q1705 : (Jvm.Cond.laysFinal "PluginChains$Faulty" "PluginChains$Faulty" "place" "I") ∈ lw_all := lw_g (lw_at lw_m7 185 rfl) rfl
theorem q1706 : (Jvm.Cond.soleField "PluginChains$Faulty" "place") ∈ lw_all := lw_g (lw_at lw_m7 186 rfl) rfl
theorem q1707 : (Jvm.Cond.lays "PluginChains$Faulty" "java/lang/Throwable" "depth" "I") ∈ lw_all := lw_g (lw_at lw_m7 187 rfl) rfl
theorem q1708 : (Jvm.Cond.superclass "PluginChains$Faulty" "java/lang/Exception") ∈ lw_all := lw_g (lw_at lw_m7 188 rfl) rfl
theorem q4071 : (Jvm.Cond.castable "PluginChains$Faulty" "java/lang/Object") ∈ lw_tbl := lw_at lw_m17 151 rfl
theorem in_X18 : ∀ w ∈ wsX180, w ∈ lw_all := lw_in wsX180 [1694, 1695, 1696, 1697, 1698, 1707, 1705] (by decide +kernel) (by decide +kernel)

/-! PluginChains$Best -/
set_option maxRecDepth 100000
def RX19 : String := "PluginChains$Best"
def TX19 : u_T := fun k => match k with
  | _ => ("PluginChains$Best", "best", "LPluginChains$Strong;", false)
def tyX19 : Nat → FieldType := fun k => match k with
  | _ => .object "PluginChains$Strong"
abbrev wsX190 : List Cond := u_ws RX19 TX19 1
theorem nmX19 : ∀ a, a < 1 → ∀ b, b < 1 → a ≠ b → (TX19 a).2.1 ≠ (TX19 b).2.1 := by decide +kernel
theorem tyX19_ok : ∀ k, k < 1 → parseFieldDescriptor (TX19 k).2.2.1 = some (tyX19 k) := by decide +kernel
abbrev cX19_init : ByteArray := prog_5_method_1_code
def yX19_init : MethodName := ⟨RX19, "<init>", "()V"⟩
theorem dX19_init_0 : decode cX19_init 0 = .ok (.aload_n 0, 1) := by decide +kernel
theorem dX19_init_1 : decode cX19_init 1 = .ok (.invokespecial 1, 3) := by decide +kernel
theorem dX19_init_4 : decode cX19_init 4 = .ok (.return_, 1) := by decide +kernel
abbrev cX19_offer : ByteArray := prog_5_method_2_code
def yX19_offer : MethodName := ⟨RX19, "offer", "(LPluginChains$Strong;)V"⟩
def dkwX19_offer_1 : List UInt8 := [167, 0, 7, 42, 180, 0, 7, 181, 0, 7, 177]
abbrev dktX19_offer_1 : List UInt8 := dkwX19_offer_1 ++ []
def dkwX19_offer_0 : List UInt8 := [42, 42, 180, 0, 7, 198, 0, 16, 43, 42, 180, 0, 7, 185, 0, 13, 2, 0, 153, 0, 7, 43]
abbrev dktX19_offer_0 : List UInt8 := dkwX19_offer_0 ++ dktX19_offer_1
theorem dksX19_offer_0 : cX19_offer.data.toList.drop 0 = dktX19_offer_0 := by decide +kernel
theorem dksX19_offer_1 : cX19_offer.data.toList.drop 22 = dktX19_offer_1 := dk_seg dksX19_offer_0 22 rfl rfl
theorem dX19_offer_0 : decode cX19_offer 0 = .ok (.aload_n 0, 1) := dk_42 (dk_at dksX19_offer_0 0 rfl rfl)
theorem dX19_offer_1 : decode cX19_offer 1 = .ok (.aload_n 0, 1) := dk_42 (dk_at dksX19_offer_0 1 rfl rfl)
theorem dX19_offer_2 : decode cX19_offer 2 = .ok (.getfield 7, 3) := dk_180 0 7 (dk_at dksX19_offer_0 2 rfl rfl)
theorem dX19_offer_5 : decode cX19_offer 5 = .ok (.ifnull 16, 3) := dk_198 0 16 (dk_at dksX19_offer_0 5 rfl rfl)
theorem dX19_offer_8 : decode cX19_offer 8 = .ok (.aload_n 1, 1) := dk_43 (dk_at dksX19_offer_0 8 rfl rfl)
theorem dX19_offer_9 : decode cX19_offer 9 = .ok (.aload_n 0, 1) := dk_42 (dk_at dksX19_offer_0 9 rfl rfl)
theorem dX19_offer_10 : decode cX19_offer 10 = .ok (.getfield 7, 3) := dk_180 0 7 (dk_at dksX19_offer_0 10 rfl rfl)
theorem dX19_offer_13 : decode cX19_offer 13 = .ok (.invokeinterface 13 2, 5) := by decide +kernel
theorem dX19_offer_18 : decode cX19_offer 18 = .ok (.ifCond .eq 7, 3) := dk_153 0 7 (dk_at dksX19_offer_0 18 rfl rfl)
theorem dX19_offer_21 : decode cX19_offer 21 = .ok (.aload_n 1, 1) := dk_43 (dk_at dksX19_offer_0 21 rfl rfl)
theorem dX19_offer_22 : decode cX19_offer 22 = .ok (.goto 7, 3) := dk_167 0 7 (dk_at dksX19_offer_1 0 rfl rfl)
theorem dX19_offer_25 : decode cX19_offer 25 = .ok (.aload_n 0, 1) := dk_42 (dk_at dksX19_offer_1 3 rfl rfl)
theorem dX19_offer_26 : decode cX19_offer 26 = .ok (.getfield 7, 3) := dk_180 0 7 (dk_at dksX19_offer_1 4 rfl rfl)
theorem dX19_offer_29 : decode cX19_offer 29 = .ok (.putfield 7, 3) := dk_181 0 7 (dk_at dksX19_offer_1 7 rfl rfl)
theorem dX19_offer_32 : decode cX19_offer 32 = .ok (.return_, 1) := dk_177 (dk_at dksX19_offer_1 10 rfl rfl)
abbrev cX19_best : ByteArray := prog_5_method_3_code
def yX19_best : MethodName := ⟨RX19, "best", "()LPluginChains$Strong;"⟩
theorem dX19_best_0 : decode cX19_best 0 = .ok (.aload_n 0, 1) := by decide +kernel
theorem dX19_best_1 : decode cX19_best 1 = .ok (.getfield 7, 3) := by decide +kernel
theorem dX19_best_4 : decode cX19_best 4 = .ok (.areturn, 1) := by decide +kernel
theorem q127 : (Jvm.Cond.initialized "PluginChains$Best") ∈ lw_all := lw_g (lw_at lw_m1 47 rfl) rfl
theorem q1303 : (Jvm.Cond.selects "PluginChains$Best" ({ cls := "java/lang/Object", name := "getClass", desc := "()Ljava/lang/Class;" } : Jvm.MethodName) ({ cls := "java/lang/Object", name := "getClass", desc := "()Ljava/lang/Class;" } : Jvm.MethodName)) ∈ lw_all := lw_g (lw_at lw_m6 23 rfl) rfl
theorem q1788 : (Jvm.Cond.instantiable "PluginChains$Best" (1 : Nat)) ∈ lw_all := lw_g (lw_at lw_m8 28 rfl) rfl
theorem q1790 : (Jvm.Cond.instanceMethod ({ cls := "PluginChains$Best", name := "<init>", desc := "()V" } : Jvm.MethodName)) ∈ lw_all := lw_g (lw_at lw_m8 30 rfl) rfl
theorem q1791 : (Jvm.Cond.code ({ cls := "PluginChains$Best", name := "<init>", desc := "()V" } : Jvm.MethodName) prog_5_method_1_code (1 : Nat) (Option.none : Option Jvm.ClassFile.FieldType)) ∈ lw_all := lw_g (lw_at lw_m8 31 rfl) rfl
theorem q1792 : (Jvm.Cond.methodLink "PluginChains$Best" (1 : Nat) ({ cls := "java/lang/Object", name := "<init>", desc := "()V" } : Jvm.MethodName)) ∈ lw_all := lw_g (lw_at lw_m8 32 rfl) rfl
theorem q1793 : (Jvm.Cond.fieldLink "PluginChains$Best" (7 : Nat) "PluginChains$Best" "best" "LPluginChains$Strong;") ∈ lw_all := lw_g (lw_at lw_m8 33 rfl) rfl
theorem q1794 : (Jvm.Cond.lays "PluginChains$Best" "PluginChains$Best" "best" "LPluginChains$Strong;") ∈ lw_all := lw_g (lw_at lw_m8 34 rfl) rfl
theorem q1795 : (Jvm.Cond.soleField "PluginChains$Best" "best") ∈ lw_all := lw_g (lw_at lw_m8 35 rfl) rfl
theorem q1796 : (Jvm.Cond.superclass "PluginChains$Best" "java/lang/Object") ∈ lw_all := lw_g (lw_at lw_m8 36 rfl) rfl
theorem q1826 : (Jvm.Cond.instanceMethod ({ cls := "PluginChains$Best", name := "offer", desc := "(LPluginChains$Strong;)V" } : Jvm.MethodName)) ∈ lw_all := lw_g (lw_at lw_m8 66 rfl) rfl
theorem q1827 : (Jvm.Cond.selects "PluginChains$Best" ({ cls := "PluginChains$Best", name := "offer", desc := "(LPluginChains$Strong;)V" } : Jvm.MethodName) ({ cls := "PluginChains$Best", name := "offer", desc := "(LPluginChains$Strong;)V" } : Jvm.MethodName)) ∈ lw_all := lw_g (lw_at lw_m8 67 rfl) rfl
theorem q1828 : (Jvm.Cond.code ({ cls := "PluginChains$Best", name := "offer", desc := "(LPluginChains$Strong;)V" } : Jvm.MethodName) prog_5_method_2_code (2 : Nat) (Option.none : Option Jvm.ClassFile.FieldType)) ∈ lw_all := lw_g (lw_at lw_m8 68 rfl) rfl
theorem q1829 : (Jvm.Cond.interfaceEntry "PluginChains$Best" (13 : Nat)) ∈ lw_tbl := lw_at lw_m8 69 rfl
theorem q1830 : (Jvm.Cond.methodLink "PluginChains$Best" (13 : Nat) ({ cls := "PluginChains$Strong", name := "isAbove", desc := "(LPluginChains$Strong;)Z" } : Jvm.MethodName)) ∈ lw_all := lw_g (lw_at lw_m8 70 rfl) rfl
theorem q1857 : (Jvm.Cond.instanceMethod ({ cls := "PluginChains$Best", name := "best", desc := "()LPluginChains$Strong;" } : Jvm.MethodName)) ∈ lw_all := lw_g (lw_at lw_m8 97 rfl) rfl
theorem q1858 : (Jvm.Cond.selects "PluginChains$Best" ({ cls := "PluginChains$Best", name := "best", desc := "()LPluginChains$Strong;" } : Jvm.MethodName) ({ cls := "PluginChains$Best", name := "best", desc := "()LPluginChains$Strong;" } : Jvm.MethodName)) ∈ lw_all := lw_g (lw_at lw_m8 98 rfl) rfl
theorem q1859 : (Jvm.Cond.code ({ cls := "PluginChains$Best", name := "best", desc := "()LPluginChains$Strong;" } : Jvm.MethodName) prog_5_method_3_code (1 : Nat) (Option.some (Jvm.ClassFile.FieldType.object "PluginChains$Strong"))) ∈ lw_all := lw_g (lw_at lw_m8 99 rfl) rfl
theorem q4072 : (Jvm.Cond.castable "PluginChains$Best" "java/lang/Object") ∈ lw_tbl := lw_at lw_m17 152 rfl
theorem in_X19 : ∀ w ∈ wsX190, w ∈ lw_all := lw_in wsX190 [1794] (by decide +kernel) (by decide +kernel)

/-! PluginChains$Runner -/
set_option maxRecDepth 100000
def RX20 : String := "PluginChains$Runner"
def TX20 : u_T := fun k => match k with
  | 0 => ("PluginChains$Runner", "index", "I", true)
  | 1 => ("PluginChains$Runner", "strength", "I", true)
  | _ => ("PluginChains$Runner", "age", "I", true)
def tyX20 : Nat → FieldType := fun k => match k with
  | 0 => .int
  | 1 => .int
  | _ => .int
abbrev wsX200 : List Cond := u_ws RX20 TX20 3
theorem nmX20 : ∀ a, a < 3 → ∀ b, b < 3 → a ≠ b → (TX20 a).2.1 ≠ (TX20 b).2.1 := by decide +kernel
theorem tyX20_ok : ∀ k, k < 3 → parseFieldDescriptor (TX20 k).2.2.1 = some (tyX20 k) := by decide +kernel
abbrev cX20_init : ByteArray := prog_28_method_1_code
def yX20_init : MethodName := ⟨RX20, "<init>", "(III)V"⟩
def dkwX20_init_0 : List UInt8 := [42, 183, 0, 1, 42, 27, 181, 0, 7, 42, 28, 181, 0, 13, 42, 29, 181, 0, 16, 177]
abbrev dktX20_init_0 : List UInt8 := dkwX20_init_0 ++ []
theorem dksX20_init_0 : cX20_init.data.toList.drop 0 = dktX20_init_0 := by decide +kernel
theorem dX20_init_0 : decode cX20_init 0 = .ok (.aload_n 0, 1) := dk_42 (dk_at dksX20_init_0 0 rfl rfl)
theorem dX20_init_1 : decode cX20_init 1 = .ok (.invokespecial 1, 3) := dk_183 0 1 (dk_at dksX20_init_0 1 rfl rfl)
theorem dX20_init_4 : decode cX20_init 4 = .ok (.aload_n 0, 1) := dk_42 (dk_at dksX20_init_0 4 rfl rfl)
theorem dX20_init_5 : decode cX20_init 5 = .ok (.iload_n 1, 1) := dk_27 (dk_at dksX20_init_0 5 rfl rfl)
theorem dX20_init_6 : decode cX20_init 6 = .ok (.putfield 7, 3) := dk_181 0 7 (dk_at dksX20_init_0 6 rfl rfl)
theorem dX20_init_9 : decode cX20_init 9 = .ok (.aload_n 0, 1) := dk_42 (dk_at dksX20_init_0 9 rfl rfl)
theorem dX20_init_10 : decode cX20_init 10 = .ok (.iload_n 2, 1) := dk_28 (dk_at dksX20_init_0 10 rfl rfl)
theorem dX20_init_11 : decode cX20_init 11 = .ok (.putfield 13, 3) := dk_181 0 13 (dk_at dksX20_init_0 11 rfl rfl)
theorem dX20_init_14 : decode cX20_init 14 = .ok (.aload_n 0, 1) := dk_42 (dk_at dksX20_init_0 14 rfl rfl)
theorem dX20_init_15 : decode cX20_init 15 = .ok (.iload_n 3, 1) := dk_29 (dk_at dksX20_init_0 15 rfl rfl)
theorem dX20_init_16 : decode cX20_init 16 = .ok (.putfield 16, 3) := dk_181 0 16 (dk_at dksX20_init_0 16 rfl rfl)
theorem dX20_init_19 : decode cX20_init 19 = .ok (.return_, 1) := dk_177 (dk_at dksX20_init_0 19 rfl rfl)
abbrev cX20_strength : ByteArray := prog_28_method_2_code
def yX20_strength : MethodName := ⟨RX20, "strength", "()I"⟩
theorem dX20_strength_0 : decode cX20_strength 0 = .ok (.aload_n 0, 1) := by decide +kernel
theorem dX20_strength_1 : decode cX20_strength 1 = .ok (.getfield 13, 3) := by decide +kernel
theorem dX20_strength_4 : decode cX20_strength 4 = .ok (.ireturn, 1) := by decide +kernel
abbrev cX20_tie : ByteArray := prog_28_method_3_code
def yX20_tie : MethodName := ⟨RX20, "tie", "()I"⟩
theorem dX20_tie_0 : decode cX20_tie 0 = .ok (.aload_n 0, 1) := by decide +kernel
theorem dX20_tie_1 : decode cX20_tie 1 = .ok (.getfield 16, 3) := by decide +kernel
theorem dX20_tie_4 : decode cX20_tie 4 = .ok (.ireturn, 1) := by decide +kernel
theorem q128 : (Jvm.Cond.initialized "PluginChains$Runner") ∈ lw_all := lw_g (lw_at lw_m1 48 rfl) rfl
theorem q1323 : (Jvm.Cond.selects "PluginChains$Runner" ({ cls := "java/lang/Object", name := "getClass", desc := "()Ljava/lang/Class;" } : Jvm.MethodName) ({ cls := "java/lang/Object", name := "getClass", desc := "()Ljava/lang/Class;" } : Jvm.MethodName)) ∈ lw_all := lw_g (lw_at lw_m6 43 rfl) rfl
theorem q1808 : (Jvm.Cond.instantiable "PluginChains$Runner" (3 : Nat)) ∈ lw_all := lw_g (lw_at lw_m8 48 rfl) rfl
theorem q1811 : (Jvm.Cond.instanceMethod ({ cls := "PluginChains$Runner", name := "<init>", desc := "(III)V" } : Jvm.MethodName)) ∈ lw_all := lw_g (lw_at lw_m8 51 rfl) rfl
theorem q1812 : (Jvm.Cond.code ({ cls := "PluginChains$Runner", name := "<init>", desc := "(III)V" } : Jvm.MethodName) prog_28_method_1_code (4 : Nat) (Option.none : Option Jvm.ClassFile.FieldType)) ∈ lw_all := lw_g (lw_at lw_m8 52 rfl) rfl
theorem q1813 : (Jvm.Cond.methodLink "PluginChains$Runner" (1 : Nat) ({ cls := "java/lang/Object", name := "<init>", desc := "()V" } : Jvm.MethodName)) ∈ lw_all := lw_g (lw_at lw_m8 53 rfl) rfl
theorem q1814 : (Jvm.Cond.fieldLink "PluginChains$Runner" (7 : Nat) "PluginChains$Runner" "index" "I") ∈ lw_all := lw_g (lw_at lw_m8 54 rfl) rfl
theorem q1816 : (Jvm.Cond.fieldLink "PluginChains$Runner" (13 : Nat) "PluginChains$Runner" "strength" "I") ∈ lw_all := lw_g (lw_at lw_m8 56 rfl) rfl
theorem q1817 : (Jvm.Cond.fieldLink "PluginChains$Runner" (16 : Nat) "PluginChains$Runner" "age" "I") ∈ lw_all := lw_g (lw_at lw_m8 57 rfl) rfl
theorem q1818 : (Jvm.Cond.laysFinal "PluginChains$Runner" "PluginChains$Runner" "index" "I") ∈ lw_all := lw_g (lw_at lw_m8 58 rfl) rfl
theorem q1819 : (Jvm.Cond.soleField "PluginChains$Runner" "index") ∈ lw_all := lw_g (lw_at lw_m8 59 rfl) rfl
theorem q1820 : (Jvm.Cond.laysFinal "PluginChains$Runner" "PluginChains$Runner" "strength" "I") ∈ lw_all := lw_g (lw_at lw_m8 60 rfl) rfl
theorem q1821 : (Jvm.Cond.soleField "PluginChains$Runner" "strength") ∈ lw_all := lw_g (lw_at lw_m8 61 rfl) rfl
theorem q1822 : (Jvm.Cond.laysFinal "PluginChains$Runner" "PluginChains$Runner" "age" "I") ∈ lw_all := lw_g (lw_at lw_m8 62 rfl) rfl
theorem q1823 : (Jvm.Cond.soleField "PluginChains$Runner" "age") ∈ lw_all := lw_g (lw_at lw_m8 63 rfl) rfl
theorem q1824 : (Jvm.Cond.superclass "PluginChains$Runner" "java/lang/Object") ∈ lw_all := lw_g (lw_at lw_m8 64 rfl) rfl
theorem q1833 : (Jvm.Cond.castable "PluginChains$Runner" "PluginChains$Strong") ∈ lw_tbl := lw_at lw_m8 73 rfl
theorem q1834 : (Jvm.Cond.unhidden "PluginChains$Runner" "isAbove" "(LPluginChains$Strong;)Z") ∈ lw_tbl := lw_at lw_m8 74 rfl
theorem q1842 : (Jvm.Cond.selects "PluginChains$Runner" ({ cls := "PluginChains$Strong", name := "strength", desc := "()I" } : Jvm.MethodName) ({ cls := "PluginChains$Runner", name := "strength", desc := "()I" } : Jvm.MethodName)) ∈ lw_all := lw_g (lw_at lw_m8 82 rfl) rfl
theorem q1843 : (Jvm.Cond.unhidden "PluginChains$Runner" "strength" "()I") ∈ lw_tbl := lw_at lw_m8 83 rfl
theorem q1844 : (Jvm.Cond.instanceMethod ({ cls := "PluginChains$Runner", name := "strength", desc := "()I" } : Jvm.MethodName)) ∈ lw_all := lw_g (lw_at lw_m8 84 rfl) rfl
theorem q1845 : (Jvm.Cond.publicMethod ({ cls := "PluginChains$Runner", name := "strength", desc := "()I" } : Jvm.MethodName)) ∈ lw_tbl := lw_at lw_m8 85 rfl
theorem q1846 : (Jvm.Cond.code ({ cls := "PluginChains$Runner", name := "strength", desc := "()I" } : Jvm.MethodName) prog_28_method_2_code (1 : Nat) (Option.some Jvm.ClassFile.FieldType.int)) ∈ lw_all := lw_g (lw_at lw_m8 86 rfl) rfl
theorem q1851 : (Jvm.Cond.selects "PluginChains$Runner" ({ cls := "PluginChains$Strong", name := "tie", desc := "()I" } : Jvm.MethodName) ({ cls := "PluginChains$Runner", name := "tie", desc := "()I" } : Jvm.MethodName)) ∈ lw_all := lw_g (lw_at lw_m8 91 rfl) rfl
theorem q1852 : (Jvm.Cond.unhidden "PluginChains$Runner" "tie" "()I") ∈ lw_tbl := lw_at lw_m8 92 rfl
theorem q1853 : (Jvm.Cond.instanceMethod ({ cls := "PluginChains$Runner", name := "tie", desc := "()I" } : Jvm.MethodName)) ∈ lw_all := lw_g (lw_at lw_m8 93 rfl) rfl
theorem q1854 : (Jvm.Cond.publicMethod ({ cls := "PluginChains$Runner", name := "tie", desc := "()I" } : Jvm.MethodName)) ∈ lw_tbl := lw_at lw_m8 94 rfl
theorem q1855 : (Jvm.Cond.code ({ cls := "PluginChains$Runner", name := "tie", desc := "()I" } : Jvm.MethodName) prog_28_method_3_code (1 : Nat) (Option.some Jvm.ClassFile.FieldType.int)) ∈ lw_all := lw_g (lw_at lw_m8 95 rfl) rfl
theorem q4073 : (Jvm.Cond.castable "PluginChains$Runner" "java/lang/Object") ∈ lw_tbl := lw_at lw_m17 153 rfl
theorem in_X20 : ∀ w ∈ wsX200, w ∈ lw_all := lw_in wsX200 [1818, 1820, 1822] (by decide +kernel) (by decide +kernel)

/-! PluginChains$Starter -/
set_option maxRecDepth 100000
def RX21 : String := "PluginChains$Starter"
def TX21 : u_T := fun k => match k with
  | 0 => ("PluginChains$Starter", "h", "LPluginChains$Host;", true)
  | 1 => ("PluginChains$Starter", "log", "LPluginChains$Log;", true)
  | 2 => ("PluginChains$Starter", "being", "[Z", true)
  | 3 => ("PluginChains$Starter", "done", "[I", true)
  | _ => ("PluginChains$Starter", "many", "I", false)
def tyX21 : Nat → FieldType := fun k => match k with
  | 0 => .object "PluginChains$Host"
  | 1 => .object "PluginChains$Log"
  | 2 => .array .boolean
  | 3 => .array .int
  | _ => .int
abbrev wsX210 : List Cond := u_ws RX21 TX21 5
theorem nmX21 : ∀ a, a < 5 → ∀ b, b < 5 → a ≠ b → (TX21 a).2.1 ≠ (TX21 b).2.1 := by decide +kernel
theorem tyX21_ok : ∀ k, k < 5 → parseFieldDescriptor (TX21 k).2.2.1 = some (tyX21 k) := by decide +kernel
abbrev cX21_init : ByteArray := prog_33_method_1_code
def yX21_init : MethodName := ⟨RX21, "<init>", "(LPluginChains$Host;LPluginChains$Log;)V"⟩
def dkwX21_init_1 : List UInt8 := [181, 0, 19, 42, 44, 181, 0, 23, 177]
abbrev dktX21_init_1 : List UInt8 := dkwX21_init_1 ++ []
def dkwX21_init_0 : List UInt8 := [42, 183, 0, 3, 42, 16, 12, 188, 4, 181, 0, 9, 42, 16, 12, 188, 10, 181, 0, 15, 42, 43]
abbrev dktX21_init_0 : List UInt8 := dkwX21_init_0 ++ dktX21_init_1
theorem dksX21_init_0 : cX21_init.data.toList.drop 0 = dktX21_init_0 := by decide +kernel
theorem dksX21_init_1 : cX21_init.data.toList.drop 22 = dktX21_init_1 := dk_seg dksX21_init_0 22 rfl rfl
theorem dX21_init_0 : decode cX21_init 0 = .ok (.aload_n 0, 1) := dk_42 (dk_at dksX21_init_0 0 rfl rfl)
theorem dX21_init_1 : decode cX21_init 1 = .ok (.invokespecial 3, 3) := dk_183 0 3 (dk_at dksX21_init_0 1 rfl rfl)
theorem dX21_init_4 : decode cX21_init 4 = .ok (.aload_n 0, 1) := dk_42 (dk_at dksX21_init_0 4 rfl rfl)
theorem dX21_init_5 : decode cX21_init 5 = .ok (.bipush 12, 2) := dk_16 12 (dk_at dksX21_init_0 5 rfl rfl)
theorem dX21_init_7 : decode cX21_init 7 = .ok (.newarray .boolean, 2) := dk_188_4 (dk_at dksX21_init_0 7 rfl rfl)
theorem dX21_init_9 : decode cX21_init 9 = .ok (.putfield 9, 3) := dk_181 0 9 (dk_at dksX21_init_0 9 rfl rfl)
theorem dX21_init_12 : decode cX21_init 12 = .ok (.aload_n 0, 1) := dk_42 (dk_at dksX21_init_0 12 rfl rfl)
theorem dX21_init_13 : decode cX21_init 13 = .ok (.bipush 12, 2) := dk_16 12 (dk_at dksX21_init_0 13 rfl rfl)
theorem dX21_init_15 : decode cX21_init 15 = .ok (.newarray .int, 2) := dk_188_10 (dk_at dksX21_init_0 15 rfl rfl)
theorem dX21_init_17 : decode cX21_init 17 = .ok (.putfield 15, 3) := dk_181 0 15 (dk_at dksX21_init_0 17 rfl rfl)
theorem dX21_init_20 : decode cX21_init 20 = .ok (.aload_n 0, 1) := dk_42 (dk_at dksX21_init_0 20 rfl rfl)
theorem dX21_init_21 : decode cX21_init 21 = .ok (.aload_n 1, 1) := dk_43 (dk_at dksX21_init_0 21 rfl rfl)
theorem dX21_init_22 : decode cX21_init 22 = .ok (.putfield 19, 3) := dk_181 0 19 (dk_at dksX21_init_1 0 rfl rfl)
theorem dX21_init_25 : decode cX21_init 25 = .ok (.aload_n 0, 1) := dk_42 (dk_at dksX21_init_1 3 rfl rfl)
theorem dX21_init_26 : decode cX21_init 26 = .ok (.aload_n 2, 1) := dk_44 (dk_at dksX21_init_1 4 rfl rfl)
theorem dX21_init_27 : decode cX21_init 27 = .ok (.putfield 23, 3) := dk_181 0 23 (dk_at dksX21_init_1 5 rfl rfl)
theorem dX21_init_30 : decode cX21_init 30 = .ok (.return_, 1) := dk_177 (dk_at dksX21_init_1 8 rfl rfl)
abbrev cX21_startWhole : ByteArray := prog_33_method_4_code
def yX21_startWhole : MethodName := ⟨RX21, "startWhole", "(I)V"⟩
def dkwX21_startWhole_4 : List UInt8 := [25, 4, 191, 177]
abbrev dktX21_startWhole_4 : List UInt8 := dkwX21_startWhole_4 ++ []
def dkwX21_startWhole_3 : List UInt8 := [180, 0, 19, 42, 180, 0, 15, 21, 5, 46, 42, 180, 0, 23, 182, 0, 83, 132, 5, 255, 167, 255, 226]
abbrev dktX21_startWhole_3 : List UInt8 := dkwX21_startWhole_3 ++ dktX21_startWhole_4
def dkwX21_startWhole_2 : List UInt8 := [167, 0, 49, 58, 4, 42, 180, 0, 80, 4, 100, 54, 5, 21, 5, 155, 0, 31, 28, 154, 0, 27, 42]
abbrev dktX21_startWhole_2 : List UInt8 := dkwX21_startWhole_2 ++ dktX21_startWhole_3
def dkwX21_startWhole_1 : List UInt8 := [42, 180, 0, 19, 42, 180, 0, 15, 29, 46, 42, 180, 0, 23, 182, 0, 83, 132, 3, 255, 167, 255, 228]
abbrev dktX21_startWhole_1 : List UInt8 := dkwX21_startWhole_1 ++ dktX21_startWhole_2
def dkwX21_startWhole_0 : List UInt8 := [3, 61, 42, 27, 182, 0, 38, 4, 61, 42, 180, 0, 80, 4, 100, 62, 29, 155, 0, 30, 28, 154, 0, 26]
abbrev dktX21_startWhole_0 : List UInt8 := dkwX21_startWhole_0 ++ dktX21_startWhole_1
theorem dksX21_startWhole_0 : cX21_startWhole.data.toList.drop 0 = dktX21_startWhole_0 := by decide +kernel
theorem dksX21_startWhole_1 : cX21_startWhole.data.toList.drop 24 = dktX21_startWhole_1 := dk_seg dksX21_startWhole_0 24 rfl rfl
theorem dksX21_startWhole_2 : cX21_startWhole.data.toList.drop 47 = dktX21_startWhole_2 := dk_seg dksX21_startWhole_1 23 rfl rfl
theorem dksX21_startWhole_3 : cX21_startWhole.data.toList.drop 70 = dktX21_startWhole_3 := dk_seg dksX21_startWhole_2 23 rfl rfl
theorem dksX21_startWhole_4 : cX21_startWhole.data.toList.drop 93 = dktX21_startWhole_4 := dk_seg dksX21_startWhole_3 23 rfl rfl
theorem dX21_startWhole_0 : decode cX21_startWhole 0 = .ok (.iconst 0, 1) := dk_3 (dk_at dksX21_startWhole_0 0 rfl rfl)
theorem dX21_startWhole_1 : decode cX21_startWhole 1 = .ok (.istore_n 2, 1) := dk_61 (dk_at dksX21_startWhole_0 1 rfl rfl)
theorem dX21_startWhole_2 : decode cX21_startWhole 2 = .ok (.aload_n 0, 1) := dk_42 (dk_at dksX21_startWhole_0 2 rfl rfl)
theorem dX21_startWhole_3 : decode cX21_startWhole 3 = .ok (.iload_n 1, 1) := dk_27 (dk_at dksX21_startWhole_0 3 rfl rfl)
theorem dX21_startWhole_4 : decode cX21_startWhole 4 = .ok (.invokevirtual 38, 3) := dk_182 0 38 (dk_at dksX21_startWhole_0 4 rfl rfl)
theorem dX21_startWhole_7 : decode cX21_startWhole 7 = .ok (.iconst 1, 1) := dk_4 (dk_at dksX21_startWhole_0 7 rfl rfl)
theorem dX21_startWhole_8 : decode cX21_startWhole 8 = .ok (.istore_n 2, 1) := dk_61 (dk_at dksX21_startWhole_0 8 rfl rfl)
theorem dX21_startWhole_9 : decode cX21_startWhole 9 = .ok (.aload_n 0, 1) := dk_42 (dk_at dksX21_startWhole_0 9 rfl rfl)
theorem dX21_startWhole_10 : decode cX21_startWhole 10 = .ok (.getfield 80, 3) := dk_180 0 80 (dk_at dksX21_startWhole_0 10 rfl rfl)
theorem dX21_startWhole_13 : decode cX21_startWhole 13 = .ok (.iconst 1, 1) := dk_4 (dk_at dksX21_startWhole_0 13 rfl rfl)
theorem dX21_startWhole_14 : decode cX21_startWhole 14 = .ok (.isub, 1) := dk_100 (dk_at dksX21_startWhole_0 14 rfl rfl)
theorem dX21_startWhole_15 : decode cX21_startWhole 15 = .ok (.istore_n 3, 1) := dk_62 (dk_at dksX21_startWhole_0 15 rfl rfl)
theorem dX21_startWhole_16 : decode cX21_startWhole 16 = .ok (.iload_n 3, 1) := dk_29 (dk_at dksX21_startWhole_0 16 rfl rfl)
theorem dX21_startWhole_17 : decode cX21_startWhole 17 = .ok (.ifCond .lt 30, 3) := dk_155 0 30 (dk_at dksX21_startWhole_0 17 rfl rfl)
theorem dX21_startWhole_20 : decode cX21_startWhole 20 = .ok (.iload_n 2, 1) := dk_28 (dk_at dksX21_startWhole_0 20 rfl rfl)
theorem dX21_startWhole_21 : decode cX21_startWhole 21 = .ok (.ifCond .ne 26, 3) := dk_154 0 26 (dk_at dksX21_startWhole_0 21 rfl rfl)
theorem dX21_startWhole_24 : decode cX21_startWhole 24 = .ok (.aload_n 0, 1) := dk_42 (dk_at dksX21_startWhole_1 0 rfl rfl)
theorem dX21_startWhole_25 : decode cX21_startWhole 25 = .ok (.getfield 19, 3) := dk_180 0 19 (dk_at dksX21_startWhole_1 1 rfl rfl)
theorem dX21_startWhole_28 : decode cX21_startWhole 28 = .ok (.aload_n 0, 1) := dk_42 (dk_at dksX21_startWhole_1 4 rfl rfl)
theorem dX21_startWhole_29 : decode cX21_startWhole 29 = .ok (.getfield 15, 3) := dk_180 0 15 (dk_at dksX21_startWhole_1 5 rfl rfl)
theorem dX21_startWhole_32 : decode cX21_startWhole 32 = .ok (.iload_n 3, 1) := dk_29 (dk_at dksX21_startWhole_1 8 rfl rfl)
theorem dX21_startWhole_33 : decode cX21_startWhole 33 = .ok (.iaload, 1) := dk_46 (dk_at dksX21_startWhole_1 9 rfl rfl)
theorem dX21_startWhole_34 : decode cX21_startWhole 34 = .ok (.aload_n 0, 1) := dk_42 (dk_at dksX21_startWhole_1 10 rfl rfl)
theorem dX21_startWhole_35 : decode cX21_startWhole 35 = .ok (.getfield 23, 3) := dk_180 0 23 (dk_at dksX21_startWhole_1 11 rfl rfl)
theorem dX21_startWhole_38 : decode cX21_startWhole 38 = .ok (.invokevirtual 83, 3) := dk_182 0 83 (dk_at dksX21_startWhole_1 14 rfl rfl)
theorem dX21_startWhole_41 : decode cX21_startWhole 41 = .ok (.iinc 3 (-1), 3) := dk_132 3 255 (dk_at dksX21_startWhole_1 17 rfl rfl)
theorem dX21_startWhole_44 : decode cX21_startWhole 44 = .ok (.goto (-28), 3) := dk_167 255 228 (dk_at dksX21_startWhole_1 20 rfl rfl)
theorem dX21_startWhole_47 : decode cX21_startWhole 47 = .ok (.goto 49, 3) := dk_167 0 49 (dk_at dksX21_startWhole_2 0 rfl rfl)
theorem dX21_startWhole_50 : decode cX21_startWhole 50 = .ok (.astore 4, 2) := dk_58 4 (dk_at dksX21_startWhole_2 3 rfl rfl)
theorem dX21_startWhole_52 : decode cX21_startWhole 52 = .ok (.aload_n 0, 1) := dk_42 (dk_at dksX21_startWhole_2 5 rfl rfl)
theorem dX21_startWhole_53 : decode cX21_startWhole 53 = .ok (.getfield 80, 3) := dk_180 0 80 (dk_at dksX21_startWhole_2 6 rfl rfl)
theorem dX21_startWhole_56 : decode cX21_startWhole 56 = .ok (.iconst 1, 1) := dk_4 (dk_at dksX21_startWhole_2 9 rfl rfl)
theorem dX21_startWhole_57 : decode cX21_startWhole 57 = .ok (.isub, 1) := dk_100 (dk_at dksX21_startWhole_2 10 rfl rfl)
theorem dX21_startWhole_58 : decode cX21_startWhole 58 = .ok (.istore 5, 2) := dk_54 5 (dk_at dksX21_startWhole_2 11 rfl rfl)
theorem dX21_startWhole_60 : decode cX21_startWhole 60 = .ok (.iload 5, 2) := dk_21 5 (dk_at dksX21_startWhole_2 13 rfl rfl)
theorem dX21_startWhole_62 : decode cX21_startWhole 62 = .ok (.ifCond .lt 31, 3) := dk_155 0 31 (dk_at dksX21_startWhole_2 15 rfl rfl)
theorem dX21_startWhole_65 : decode cX21_startWhole 65 = .ok (.iload_n 2, 1) := dk_28 (dk_at dksX21_startWhole_2 18 rfl rfl)
theorem dX21_startWhole_66 : decode cX21_startWhole 66 = .ok (.ifCond .ne 27, 3) := dk_154 0 27 (dk_at dksX21_startWhole_2 19 rfl rfl)
theorem dX21_startWhole_69 : decode cX21_startWhole 69 = .ok (.aload_n 0, 1) := dk_42 (dk_at dksX21_startWhole_2 22 rfl rfl)
theorem dX21_startWhole_70 : decode cX21_startWhole 70 = .ok (.getfield 19, 3) := dk_180 0 19 (dk_at dksX21_startWhole_3 0 rfl rfl)
theorem dX21_startWhole_73 : decode cX21_startWhole 73 = .ok (.aload_n 0, 1) := dk_42 (dk_at dksX21_startWhole_3 3 rfl rfl)
theorem dX21_startWhole_74 : decode cX21_startWhole 74 = .ok (.getfield 15, 3) := dk_180 0 15 (dk_at dksX21_startWhole_3 4 rfl rfl)
theorem dX21_startWhole_77 : decode cX21_startWhole 77 = .ok (.iload 5, 2) := dk_21 5 (dk_at dksX21_startWhole_3 7 rfl rfl)
theorem dX21_startWhole_79 : decode cX21_startWhole 79 = .ok (.iaload, 1) := dk_46 (dk_at dksX21_startWhole_3 9 rfl rfl)
theorem dX21_startWhole_80 : decode cX21_startWhole 80 = .ok (.aload_n 0, 1) := dk_42 (dk_at dksX21_startWhole_3 10 rfl rfl)
theorem dX21_startWhole_81 : decode cX21_startWhole 81 = .ok (.getfield 23, 3) := dk_180 0 23 (dk_at dksX21_startWhole_3 11 rfl rfl)
theorem dX21_startWhole_84 : decode cX21_startWhole 84 = .ok (.invokevirtual 83, 3) := dk_182 0 83 (dk_at dksX21_startWhole_3 14 rfl rfl)
theorem dX21_startWhole_87 : decode cX21_startWhole 87 = .ok (.iinc 5 (-1), 3) := dk_132 5 255 (dk_at dksX21_startWhole_3 17 rfl rfl)
theorem dX21_startWhole_90 : decode cX21_startWhole 90 = .ok (.goto (-30), 3) := dk_167 255 226 (dk_at dksX21_startWhole_3 20 rfl rfl)
theorem dX21_startWhole_93 : decode cX21_startWhole 93 = .ok (.aload 4, 2) := dk_25 4 (dk_at dksX21_startWhole_4 0 rfl rfl)
theorem dX21_startWhole_95 : decode cX21_startWhole 95 = .ok (.athrow, 1) := dk_191 (dk_at dksX21_startWhole_4 2 rfl rfl)
theorem dX21_startWhole_96 : decode cX21_startWhole 96 = .ok (.return_, 1) := dk_177 (dk_at dksX21_startWhole_4 3 rfl rfl)
abbrev cX21_start : ByteArray := prog_33_method_3_code
def yX21_start : MethodName := ⟨RX21, "start", "(I)V"⟩
def dkwX21_start_8 : List UInt8 := [180, 0, 15, 42, 89, 180, 0, 80, 90, 4, 96, 181, 0, 80, 27, 79, 177]
abbrev dktX21_start_8 : List UInt8 := dkwX21_start_8 ++ []
def dkwX21_start_7 : List UInt8 := [180, 0, 77, 90, 4, 96, 181, 0, 77, 79, 42, 180, 0, 23, 16, 100, 27, 96, 182, 0, 69, 42]
abbrev dktX21_start_7 : List UInt8 := dkwX21_start_7 ++ dktX21_start_8
def dkwX21_start_6 : List UInt8 := [180, 0, 19, 180, 0, 42, 27, 4, 79, 42, 180, 0, 19, 180, 0, 74, 27, 42, 180, 0, 19, 89]
abbrev dktX21_start_6 : List UInt8 := dkwX21_start_6 ++ dktX21_start_7
def dkwX21_start_5 : List UInt8 := [180, 0, 23, 17, 1, 44, 27, 96, 182, 0, 69, 187, 0, 33, 89, 27, 8, 2, 1, 183, 0, 35, 191, 42]
abbrev dktX21_start_5 : List UInt8 := dkwX21_start_5 ++ dktX21_start_6
def dkwX21_start_4 : List UInt8 := [180, 0, 19, 180, 0, 66, 27, 92, 46, 4, 100, 79, 42, 180, 0, 19, 180, 0, 42, 27, 5, 79, 42]
abbrev dktX21_start_4 : List UInt8 := dkwX21_start_4 ++ dktX21_start_5
def dkwX21_start_3 : List UInt8 := [27, 28, 182, 0, 62, 132, 2, 1, 167, 255, 209, 42, 180, 0, 19, 180, 0, 66, 27, 46, 158, 0, 50, 42]
abbrev dktX21_start_3 : List UInt8 := dkwX21_start_3 ++ dktX21_start_4
def dkwX21_start_2 : List UInt8 := [180, 0, 49, 28, 184, 0, 55, 153, 0, 22, 42, 180, 0, 19, 27, 28, 182, 0, 59, 2, 160, 0, 9, 42]
abbrev dktX21_start_2 : List UInt8 := dkwX21_start_2 ++ dktX21_start_3
def dkwX21_start_1 : List UInt8 := [42, 180, 0, 9, 27, 4, 84, 3, 61, 28, 16, 8, 162, 0, 47, 42, 180, 0, 19, 180, 0, 45, 27, 50]
abbrev dktX21_start_1 : List UInt8 := dkwX21_start_1 ++ dktX21_start_2
def dkwX21_start_0 : List UInt8 := [42, 180, 0, 19, 180, 0, 42, 27, 46, 153, 0, 15, 187, 0, 33, 89, 27, 4, 2, 1, 183, 0, 35, 191]
abbrev dktX21_start_0 : List UInt8 := dkwX21_start_0 ++ dktX21_start_1
theorem dksX21_start_0 : cX21_start.data.toList.drop 0 = dktX21_start_0 := by decide +kernel
theorem dksX21_start_1 : cX21_start.data.toList.drop 24 = dktX21_start_1 := dk_seg dksX21_start_0 24 rfl rfl
theorem dksX21_start_2 : cX21_start.data.toList.drop 48 = dktX21_start_2 := dk_seg dksX21_start_1 24 rfl rfl
theorem dksX21_start_3 : cX21_start.data.toList.drop 72 = dktX21_start_3 := dk_seg dksX21_start_2 24 rfl rfl
theorem dksX21_start_4 : cX21_start.data.toList.drop 96 = dktX21_start_4 := dk_seg dksX21_start_3 24 rfl rfl
theorem dksX21_start_5 : cX21_start.data.toList.drop 119 = dktX21_start_5 := dk_seg dksX21_start_4 23 rfl rfl
theorem dksX21_start_6 : cX21_start.data.toList.drop 143 = dktX21_start_6 := dk_seg dksX21_start_5 24 rfl rfl
theorem dksX21_start_7 : cX21_start.data.toList.drop 165 = dktX21_start_7 := dk_seg dksX21_start_6 22 rfl rfl
theorem dksX21_start_8 : cX21_start.data.toList.drop 187 = dktX21_start_8 := dk_seg dksX21_start_7 22 rfl rfl
theorem dX21_start_0 : decode cX21_start 0 = .ok (.aload_n 0, 1) := dk_42 (dk_at dksX21_start_0 0 rfl rfl)
theorem dX21_start_1 : decode cX21_start 1 = .ok (.getfield 19, 3) := dk_180 0 19 (dk_at dksX21_start_0 1 rfl rfl)
theorem dX21_start_4 : decode cX21_start 4 = .ok (.getfield 42, 3) := dk_180 0 42 (dk_at dksX21_start_0 4 rfl rfl)
theorem dX21_start_7 : decode cX21_start 7 = .ok (.iload_n 1, 1) := dk_27 (dk_at dksX21_start_0 7 rfl rfl)
theorem dX21_start_8 : decode cX21_start 8 = .ok (.iaload, 1) := dk_46 (dk_at dksX21_start_0 8 rfl rfl)
theorem dX21_start_9 : decode cX21_start 9 = .ok (.ifCond .eq 15, 3) := dk_153 0 15 (dk_at dksX21_start_0 9 rfl rfl)
theorem dX21_start_12 : decode cX21_start 12 = .ok (.new 33, 3) := dk_187 0 33 (dk_at dksX21_start_0 12 rfl rfl)
theorem dX21_start_15 : decode cX21_start 15 = .ok (.dup, 1) := dk_89 (dk_at dksX21_start_0 15 rfl rfl)
theorem dX21_start_16 : decode cX21_start 16 = .ok (.iload_n 1, 1) := dk_27 (dk_at dksX21_start_0 16 rfl rfl)
theorem dX21_start_17 : decode cX21_start 17 = .ok (.iconst 1, 1) := dk_4 (dk_at dksX21_start_0 17 rfl rfl)
theorem dX21_start_18 : decode cX21_start 18 = .ok (.iconst (-1), 1) := dk_2 (dk_at dksX21_start_0 18 rfl rfl)
theorem dX21_start_19 : decode cX21_start 19 = .ok (.aconst_null, 1) := dk_1 (dk_at dksX21_start_0 19 rfl rfl)
theorem dX21_start_20 : decode cX21_start 20 = .ok (.invokespecial 35, 3) := dk_183 0 35 (dk_at dksX21_start_0 20 rfl rfl)
theorem dX21_start_23 : decode cX21_start 23 = .ok (.athrow, 1) := dk_191 (dk_at dksX21_start_0 23 rfl rfl)
theorem dX21_start_24 : decode cX21_start 24 = .ok (.aload_n 0, 1) := dk_42 (dk_at dksX21_start_1 0 rfl rfl)
theorem dX21_start_25 : decode cX21_start 25 = .ok (.getfield 9, 3) := dk_180 0 9 (dk_at dksX21_start_1 1 rfl rfl)
theorem dX21_start_28 : decode cX21_start 28 = .ok (.iload_n 1, 1) := dk_27 (dk_at dksX21_start_1 4 rfl rfl)
theorem dX21_start_29 : decode cX21_start 29 = .ok (.iconst 1, 1) := dk_4 (dk_at dksX21_start_1 5 rfl rfl)
theorem dX21_start_30 : decode cX21_start 30 = .ok (.bastore, 1) := dk_84 (dk_at dksX21_start_1 6 rfl rfl)
theorem dX21_start_31 : decode cX21_start 31 = .ok (.iconst 0, 1) := dk_3 (dk_at dksX21_start_1 7 rfl rfl)
theorem dX21_start_32 : decode cX21_start 32 = .ok (.istore_n 2, 1) := dk_61 (dk_at dksX21_start_1 8 rfl rfl)
theorem dX21_start_33 : decode cX21_start 33 = .ok (.iload_n 2, 1) := dk_28 (dk_at dksX21_start_1 9 rfl rfl)
theorem dX21_start_34 : decode cX21_start 34 = .ok (.bipush 8, 2) := dk_16 8 (dk_at dksX21_start_1 10 rfl rfl)
theorem dX21_start_36 : decode cX21_start 36 = .ok (.if_icmp .ge 47, 3) := dk_162 0 47 (dk_at dksX21_start_1 12 rfl rfl)
theorem dX21_start_39 : decode cX21_start 39 = .ok (.aload_n 0, 1) := dk_42 (dk_at dksX21_start_1 15 rfl rfl)
theorem dX21_start_40 : decode cX21_start 40 = .ok (.getfield 19, 3) := dk_180 0 19 (dk_at dksX21_start_1 16 rfl rfl)
theorem dX21_start_43 : decode cX21_start 43 = .ok (.getfield 45, 3) := dk_180 0 45 (dk_at dksX21_start_1 19 rfl rfl)
theorem dX21_start_46 : decode cX21_start 46 = .ok (.iload_n 1, 1) := dk_27 (dk_at dksX21_start_1 22 rfl rfl)
theorem dX21_start_47 : decode cX21_start 47 = .ok (.aaload, 1) := dk_50 (dk_at dksX21_start_1 23 rfl rfl)
theorem dX21_start_48 : decode cX21_start 48 = .ok (.getfield 49, 3) := dk_180 0 49 (dk_at dksX21_start_2 0 rfl rfl)
theorem dX21_start_51 : decode cX21_start 51 = .ok (.iload_n 2, 1) := dk_28 (dk_at dksX21_start_2 3 rfl rfl)
theorem dX21_start_52 : decode cX21_start 52 = .ok (.invokestatic 55, 3) := dk_184 0 55 (dk_at dksX21_start_2 4 rfl rfl)
theorem dX21_start_55 : decode cX21_start 55 = .ok (.ifCond .eq 22, 3) := dk_153 0 22 (dk_at dksX21_start_2 7 rfl rfl)
theorem dX21_start_58 : decode cX21_start 58 = .ok (.aload_n 0, 1) := dk_42 (dk_at dksX21_start_2 10 rfl rfl)
theorem dX21_start_59 : decode cX21_start 59 = .ok (.getfield 19, 3) := dk_180 0 19 (dk_at dksX21_start_2 11 rfl rfl)
theorem dX21_start_62 : decode cX21_start 62 = .ok (.iload_n 1, 1) := dk_27 (dk_at dksX21_start_2 14 rfl rfl)
theorem dX21_start_63 : decode cX21_start 63 = .ok (.iload_n 2, 1) := dk_28 (dk_at dksX21_start_2 15 rfl rfl)
theorem dX21_start_64 : decode cX21_start 64 = .ok (.invokevirtual 59, 3) := dk_182 0 59 (dk_at dksX21_start_2 16 rfl rfl)
theorem dX21_start_67 : decode cX21_start 67 = .ok (.iconst (-1), 1) := dk_2 (dk_at dksX21_start_2 19 rfl rfl)
theorem dX21_start_68 : decode cX21_start 68 = .ok (.if_icmp .ne 9, 3) := dk_160 0 9 (dk_at dksX21_start_2 20 rfl rfl)
theorem dX21_start_71 : decode cX21_start 71 = .ok (.aload_n 0, 1) := dk_42 (dk_at dksX21_start_2 23 rfl rfl)
theorem dX21_start_72 : decode cX21_start 72 = .ok (.iload_n 1, 1) := dk_27 (dk_at dksX21_start_3 0 rfl rfl)
theorem dX21_start_73 : decode cX21_start 73 = .ok (.iload_n 2, 1) := dk_28 (dk_at dksX21_start_3 1 rfl rfl)
theorem dX21_start_74 : decode cX21_start 74 = .ok (.invokevirtual 62, 3) := dk_182 0 62 (dk_at dksX21_start_3 2 rfl rfl)
theorem dX21_start_77 : decode cX21_start 77 = .ok (.iinc 2 1, 3) := dk_132 2 1 (dk_at dksX21_start_3 5 rfl rfl)
theorem dX21_start_80 : decode cX21_start 80 = .ok (.goto (-47), 3) := dk_167 255 209 (dk_at dksX21_start_3 8 rfl rfl)
theorem dX21_start_83 : decode cX21_start 83 = .ok (.aload_n 0, 1) := dk_42 (dk_at dksX21_start_3 11 rfl rfl)
theorem dX21_start_84 : decode cX21_start 84 = .ok (.getfield 19, 3) := dk_180 0 19 (dk_at dksX21_start_3 12 rfl rfl)
theorem dX21_start_87 : decode cX21_start 87 = .ok (.getfield 66, 3) := dk_180 0 66 (dk_at dksX21_start_3 15 rfl rfl)
theorem dX21_start_90 : decode cX21_start 90 = .ok (.iload_n 1, 1) := dk_27 (dk_at dksX21_start_3 18 rfl rfl)
theorem dX21_start_91 : decode cX21_start 91 = .ok (.iaload, 1) := dk_46 (dk_at dksX21_start_3 19 rfl rfl)
theorem dX21_start_92 : decode cX21_start 92 = .ok (.ifCond .le 50, 3) := dk_158 0 50 (dk_at dksX21_start_3 20 rfl rfl)
theorem dX21_start_95 : decode cX21_start 95 = .ok (.aload_n 0, 1) := dk_42 (dk_at dksX21_start_3 23 rfl rfl)
theorem dX21_start_96 : decode cX21_start 96 = .ok (.getfield 19, 3) := dk_180 0 19 (dk_at dksX21_start_4 0 rfl rfl)
theorem dX21_start_99 : decode cX21_start 99 = .ok (.getfield 66, 3) := dk_180 0 66 (dk_at dksX21_start_4 3 rfl rfl)
theorem dX21_start_102 : decode cX21_start 102 = .ok (.iload_n 1, 1) := dk_27 (dk_at dksX21_start_4 6 rfl rfl)
theorem dX21_start_103 : decode cX21_start 103 = .ok (.dup2, 1) := dk_92 (dk_at dksX21_start_4 7 rfl rfl)
theorem dX21_start_104 : decode cX21_start 104 = .ok (.iaload, 1) := dk_46 (dk_at dksX21_start_4 8 rfl rfl)
theorem dX21_start_105 : decode cX21_start 105 = .ok (.iconst 1, 1) := dk_4 (dk_at dksX21_start_4 9 rfl rfl)
theorem dX21_start_106 : decode cX21_start 106 = .ok (.isub, 1) := dk_100 (dk_at dksX21_start_4 10 rfl rfl)
theorem dX21_start_107 : decode cX21_start 107 = .ok (.iastore, 1) := dk_79 (dk_at dksX21_start_4 11 rfl rfl)
theorem dX21_start_108 : decode cX21_start 108 = .ok (.aload_n 0, 1) := dk_42 (dk_at dksX21_start_4 12 rfl rfl)
theorem dX21_start_109 : decode cX21_start 109 = .ok (.getfield 19, 3) := dk_180 0 19 (dk_at dksX21_start_4 13 rfl rfl)
theorem dX21_start_112 : decode cX21_start 112 = .ok (.getfield 42, 3) := dk_180 0 42 (dk_at dksX21_start_4 16 rfl rfl)
theorem dX21_start_115 : decode cX21_start 115 = .ok (.iload_n 1, 1) := dk_27 (dk_at dksX21_start_4 19 rfl rfl)
theorem dX21_start_116 : decode cX21_start 116 = .ok (.iconst 2, 1) := dk_5 (dk_at dksX21_start_4 20 rfl rfl)
theorem dX21_start_117 : decode cX21_start 117 = .ok (.iastore, 1) := dk_79 (dk_at dksX21_start_4 21 rfl rfl)
theorem dX21_start_118 : decode cX21_start 118 = .ok (.aload_n 0, 1) := dk_42 (dk_at dksX21_start_4 22 rfl rfl)
theorem dX21_start_119 : decode cX21_start 119 = .ok (.getfield 23, 3) := dk_180 0 23 (dk_at dksX21_start_5 0 rfl rfl)
theorem dX21_start_122 : decode cX21_start 122 = .ok (.sipush 300, 3) := dk_17 1 44 (dk_at dksX21_start_5 3 rfl rfl)
theorem dX21_start_125 : decode cX21_start 125 = .ok (.iload_n 1, 1) := dk_27 (dk_at dksX21_start_5 6 rfl rfl)
theorem dX21_start_126 : decode cX21_start 126 = .ok (.iadd, 1) := dk_96 (dk_at dksX21_start_5 7 rfl rfl)
theorem dX21_start_127 : decode cX21_start 127 = .ok (.invokevirtual 69, 3) := dk_182 0 69 (dk_at dksX21_start_5 8 rfl rfl)
theorem dX21_start_130 : decode cX21_start 130 = .ok (.new 33, 3) := dk_187 0 33 (dk_at dksX21_start_5 11 rfl rfl)
theorem dX21_start_133 : decode cX21_start 133 = .ok (.dup, 1) := dk_89 (dk_at dksX21_start_5 14 rfl rfl)
theorem dX21_start_134 : decode cX21_start 134 = .ok (.iload_n 1, 1) := dk_27 (dk_at dksX21_start_5 15 rfl rfl)
theorem dX21_start_135 : decode cX21_start 135 = .ok (.iconst 5, 1) := dk_8 (dk_at dksX21_start_5 16 rfl rfl)
theorem dX21_start_136 : decode cX21_start 136 = .ok (.iconst (-1), 1) := dk_2 (dk_at dksX21_start_5 17 rfl rfl)
theorem dX21_start_137 : decode cX21_start 137 = .ok (.aconst_null, 1) := dk_1 (dk_at dksX21_start_5 18 rfl rfl)
theorem dX21_start_138 : decode cX21_start 138 = .ok (.invokespecial 35, 3) := dk_183 0 35 (dk_at dksX21_start_5 19 rfl rfl)
theorem dX21_start_141 : decode cX21_start 141 = .ok (.athrow, 1) := dk_191 (dk_at dksX21_start_5 22 rfl rfl)
theorem dX21_start_142 : decode cX21_start 142 = .ok (.aload_n 0, 1) := dk_42 (dk_at dksX21_start_5 23 rfl rfl)
theorem dX21_start_143 : decode cX21_start 143 = .ok (.getfield 19, 3) := dk_180 0 19 (dk_at dksX21_start_6 0 rfl rfl)
theorem dX21_start_146 : decode cX21_start 146 = .ok (.getfield 42, 3) := dk_180 0 42 (dk_at dksX21_start_6 3 rfl rfl)
theorem dX21_start_149 : decode cX21_start 149 = .ok (.iload_n 1, 1) := dk_27 (dk_at dksX21_start_6 6 rfl rfl)
theorem dX21_start_150 : decode cX21_start 150 = .ok (.iconst 1, 1) := dk_4 (dk_at dksX21_start_6 7 rfl rfl)
theorem dX21_start_151 : decode cX21_start 151 = .ok (.iastore, 1) := dk_79 (dk_at dksX21_start_6 8 rfl rfl)
theorem dX21_start_152 : decode cX21_start 152 = .ok (.aload_n 0, 1) := dk_42 (dk_at dksX21_start_6 9 rfl rfl)
theorem dX21_start_153 : decode cX21_start 153 = .ok (.getfield 19, 3) := dk_180 0 19 (dk_at dksX21_start_6 10 rfl rfl)
theorem dX21_start_156 : decode cX21_start 156 = .ok (.getfield 74, 3) := dk_180 0 74 (dk_at dksX21_start_6 13 rfl rfl)
theorem dX21_start_159 : decode cX21_start 159 = .ok (.iload_n 1, 1) := dk_27 (dk_at dksX21_start_6 16 rfl rfl)
theorem dX21_start_160 : decode cX21_start 160 = .ok (.aload_n 0, 1) := dk_42 (dk_at dksX21_start_6 17 rfl rfl)
theorem dX21_start_161 : decode cX21_start 161 = .ok (.getfield 19, 3) := dk_180 0 19 (dk_at dksX21_start_6 18 rfl rfl)
theorem dX21_start_164 : decode cX21_start 164 = .ok (.dup, 1) := dk_89 (dk_at dksX21_start_6 21 rfl rfl)
theorem dX21_start_165 : decode cX21_start 165 = .ok (.getfield 77, 3) := dk_180 0 77 (dk_at dksX21_start_7 0 rfl rfl)
theorem dX21_start_168 : decode cX21_start 168 = .ok (.dup_x1, 1) := dk_90 (dk_at dksX21_start_7 3 rfl rfl)
theorem dX21_start_169 : decode cX21_start 169 = .ok (.iconst 1, 1) := dk_4 (dk_at dksX21_start_7 4 rfl rfl)
theorem dX21_start_170 : decode cX21_start 170 = .ok (.iadd, 1) := dk_96 (dk_at dksX21_start_7 5 rfl rfl)
theorem dX21_start_171 : decode cX21_start 171 = .ok (.putfield 77, 3) := dk_181 0 77 (dk_at dksX21_start_7 6 rfl rfl)
theorem dX21_start_174 : decode cX21_start 174 = .ok (.iastore, 1) := dk_79 (dk_at dksX21_start_7 9 rfl rfl)
theorem dX21_start_175 : decode cX21_start 175 = .ok (.aload_n 0, 1) := dk_42 (dk_at dksX21_start_7 10 rfl rfl)
theorem dX21_start_176 : decode cX21_start 176 = .ok (.getfield 23, 3) := dk_180 0 23 (dk_at dksX21_start_7 11 rfl rfl)
theorem dX21_start_179 : decode cX21_start 179 = .ok (.bipush 100, 2) := dk_16 100 (dk_at dksX21_start_7 14 rfl rfl)
theorem dX21_start_181 : decode cX21_start 181 = .ok (.iload_n 1, 1) := dk_27 (dk_at dksX21_start_7 16 rfl rfl)
theorem dX21_start_182 : decode cX21_start 182 = .ok (.iadd, 1) := dk_96 (dk_at dksX21_start_7 17 rfl rfl)
theorem dX21_start_183 : decode cX21_start 183 = .ok (.invokevirtual 69, 3) := dk_182 0 69 (dk_at dksX21_start_7 18 rfl rfl)
theorem dX21_start_186 : decode cX21_start 186 = .ok (.aload_n 0, 1) := dk_42 (dk_at dksX21_start_7 21 rfl rfl)
theorem dX21_start_187 : decode cX21_start 187 = .ok (.getfield 15, 3) := dk_180 0 15 (dk_at dksX21_start_8 0 rfl rfl)
theorem dX21_start_190 : decode cX21_start 190 = .ok (.aload_n 0, 1) := dk_42 (dk_at dksX21_start_8 3 rfl rfl)
theorem dX21_start_191 : decode cX21_start 191 = .ok (.dup, 1) := dk_89 (dk_at dksX21_start_8 4 rfl rfl)
theorem dX21_start_192 : decode cX21_start 192 = .ok (.getfield 80, 3) := dk_180 0 80 (dk_at dksX21_start_8 5 rfl rfl)
theorem dX21_start_195 : decode cX21_start 195 = .ok (.dup_x1, 1) := dk_90 (dk_at dksX21_start_8 8 rfl rfl)
theorem dX21_start_196 : decode cX21_start 196 = .ok (.iconst 1, 1) := dk_4 (dk_at dksX21_start_8 9 rfl rfl)
theorem dX21_start_197 : decode cX21_start 197 = .ok (.iadd, 1) := dk_96 (dk_at dksX21_start_8 10 rfl rfl)
theorem dX21_start_198 : decode cX21_start 198 = .ok (.putfield 80, 3) := dk_181 0 80 (dk_at dksX21_start_8 11 rfl rfl)
theorem dX21_start_201 : decode cX21_start 201 = .ok (.iload_n 1, 1) := dk_27 (dk_at dksX21_start_8 14 rfl rfl)
theorem dX21_start_202 : decode cX21_start 202 = .ok (.iastore, 1) := dk_79 (dk_at dksX21_start_8 15 rfl rfl)
theorem dX21_start_203 : decode cX21_start 203 = .ok (.return_, 1) := dk_177 (dk_at dksX21_start_8 16 rfl rfl)
abbrev cX21_needed : ByteArray := prog_33_method_2_code
def yX21_needed : MethodName := ⟨RX21, "needed", "(II)V"⟩
def dkwX21_needed_3 : List UInt8 := [177]
abbrev dktX21_needed_3 : List UInt8 := dkwX21_needed_3 ++ []
def dkwX21_needed_2 : List UInt8 := [191, 42, 29, 182, 0, 38, 167, 0, 18, 58, 4, 187, 0, 33, 89, 27, 7, 28, 25, 4, 183, 0, 35, 191]
abbrev dktX21_needed_2 : List UInt8 := dkwX21_needed_2 ++ dktX21_needed_3
def dkwX21_needed_1 : List UInt8 := [183, 0, 35, 191, 42, 180, 0, 9, 29, 51, 153, 0, 15, 187, 0, 33, 89, 27, 6, 28, 1, 183, 0, 35]
abbrev dktX21_needed_1 : List UInt8 := dkwX21_needed_1 ++ dktX21_needed_2
def dkwX21_needed_0 : List UInt8 := [42, 180, 0, 19, 27, 28, 182, 0, 27, 62, 29, 2, 160, 0, 15, 187, 0, 33, 89, 27, 5, 28, 1]
abbrev dktX21_needed_0 : List UInt8 := dkwX21_needed_0 ++ dktX21_needed_1
theorem dksX21_needed_0 : cX21_needed.data.toList.drop 0 = dktX21_needed_0 := by decide +kernel
theorem dksX21_needed_1 : cX21_needed.data.toList.drop 23 = dktX21_needed_1 := dk_seg dksX21_needed_0 23 rfl rfl
theorem dksX21_needed_2 : cX21_needed.data.toList.drop 47 = dktX21_needed_2 := dk_seg dksX21_needed_1 24 rfl rfl
theorem dksX21_needed_3 : cX21_needed.data.toList.drop 71 = dktX21_needed_3 := dk_seg dksX21_needed_2 24 rfl rfl
theorem dX21_needed_0 : decode cX21_needed 0 = .ok (.aload_n 0, 1) := dk_42 (dk_at dksX21_needed_0 0 rfl rfl)
theorem dX21_needed_1 : decode cX21_needed 1 = .ok (.getfield 19, 3) := dk_180 0 19 (dk_at dksX21_needed_0 1 rfl rfl)
theorem dX21_needed_4 : decode cX21_needed 4 = .ok (.iload_n 1, 1) := dk_27 (dk_at dksX21_needed_0 4 rfl rfl)
theorem dX21_needed_5 : decode cX21_needed 5 = .ok (.iload_n 2, 1) := dk_28 (dk_at dksX21_needed_0 5 rfl rfl)
theorem dX21_needed_6 : decode cX21_needed 6 = .ok (.invokevirtual 27, 3) := dk_182 0 27 (dk_at dksX21_needed_0 6 rfl rfl)
theorem dX21_needed_9 : decode cX21_needed 9 = .ok (.istore_n 3, 1) := dk_62 (dk_at dksX21_needed_0 9 rfl rfl)
theorem dX21_needed_10 : decode cX21_needed 10 = .ok (.iload_n 3, 1) := dk_29 (dk_at dksX21_needed_0 10 rfl rfl)
theorem dX21_needed_11 : decode cX21_needed 11 = .ok (.iconst (-1), 1) := dk_2 (dk_at dksX21_needed_0 11 rfl rfl)
theorem dX21_needed_12 : decode cX21_needed 12 = .ok (.if_icmp .ne 15, 3) := dk_160 0 15 (dk_at dksX21_needed_0 12 rfl rfl)
theorem dX21_needed_15 : decode cX21_needed 15 = .ok (.new 33, 3) := dk_187 0 33 (dk_at dksX21_needed_0 15 rfl rfl)
theorem dX21_needed_18 : decode cX21_needed 18 = .ok (.dup, 1) := dk_89 (dk_at dksX21_needed_0 18 rfl rfl)
theorem dX21_needed_19 : decode cX21_needed 19 = .ok (.iload_n 1, 1) := dk_27 (dk_at dksX21_needed_0 19 rfl rfl)
theorem dX21_needed_20 : decode cX21_needed 20 = .ok (.iconst 2, 1) := dk_5 (dk_at dksX21_needed_0 20 rfl rfl)
theorem dX21_needed_21 : decode cX21_needed 21 = .ok (.iload_n 2, 1) := dk_28 (dk_at dksX21_needed_0 21 rfl rfl)
theorem dX21_needed_22 : decode cX21_needed 22 = .ok (.aconst_null, 1) := dk_1 (dk_at dksX21_needed_0 22 rfl rfl)
theorem dX21_needed_23 : decode cX21_needed 23 = .ok (.invokespecial 35, 3) := dk_183 0 35 (dk_at dksX21_needed_1 0 rfl rfl)
theorem dX21_needed_26 : decode cX21_needed 26 = .ok (.athrow, 1) := dk_191 (dk_at dksX21_needed_1 3 rfl rfl)
theorem dX21_needed_27 : decode cX21_needed 27 = .ok (.aload_n 0, 1) := dk_42 (dk_at dksX21_needed_1 4 rfl rfl)
theorem dX21_needed_28 : decode cX21_needed 28 = .ok (.getfield 9, 3) := dk_180 0 9 (dk_at dksX21_needed_1 5 rfl rfl)
theorem dX21_needed_31 : decode cX21_needed 31 = .ok (.iload_n 3, 1) := dk_29 (dk_at dksX21_needed_1 8 rfl rfl)
theorem dX21_needed_32 : decode cX21_needed 32 = .ok (.baload, 1) := dk_51 (dk_at dksX21_needed_1 9 rfl rfl)
theorem dX21_needed_33 : decode cX21_needed 33 = .ok (.ifCond .eq 15, 3) := dk_153 0 15 (dk_at dksX21_needed_1 10 rfl rfl)
theorem dX21_needed_36 : decode cX21_needed 36 = .ok (.new 33, 3) := dk_187 0 33 (dk_at dksX21_needed_1 13 rfl rfl)
theorem dX21_needed_39 : decode cX21_needed 39 = .ok (.dup, 1) := dk_89 (dk_at dksX21_needed_1 16 rfl rfl)
theorem dX21_needed_40 : decode cX21_needed 40 = .ok (.iload_n 1, 1) := dk_27 (dk_at dksX21_needed_1 17 rfl rfl)
theorem dX21_needed_41 : decode cX21_needed 41 = .ok (.iconst 3, 1) := dk_6 (dk_at dksX21_needed_1 18 rfl rfl)
theorem dX21_needed_42 : decode cX21_needed 42 = .ok (.iload_n 2, 1) := dk_28 (dk_at dksX21_needed_1 19 rfl rfl)
theorem dX21_needed_43 : decode cX21_needed 43 = .ok (.aconst_null, 1) := dk_1 (dk_at dksX21_needed_1 20 rfl rfl)
theorem dX21_needed_44 : decode cX21_needed 44 = .ok (.invokespecial 35, 3) := dk_183 0 35 (dk_at dksX21_needed_1 21 rfl rfl)
theorem dX21_needed_47 : decode cX21_needed 47 = .ok (.athrow, 1) := dk_191 (dk_at dksX21_needed_2 0 rfl rfl)
theorem dX21_needed_48 : decode cX21_needed 48 = .ok (.aload_n 0, 1) := dk_42 (dk_at dksX21_needed_2 1 rfl rfl)
theorem dX21_needed_49 : decode cX21_needed 49 = .ok (.iload_n 3, 1) := dk_29 (dk_at dksX21_needed_2 2 rfl rfl)
theorem dX21_needed_50 : decode cX21_needed 50 = .ok (.invokevirtual 38, 3) := dk_182 0 38 (dk_at dksX21_needed_2 3 rfl rfl)
theorem dX21_needed_53 : decode cX21_needed 53 = .ok (.goto 18, 3) := dk_167 0 18 (dk_at dksX21_needed_2 6 rfl rfl)
theorem dX21_needed_56 : decode cX21_needed 56 = .ok (.astore 4, 2) := dk_58 4 (dk_at dksX21_needed_2 9 rfl rfl)
theorem dX21_needed_58 : decode cX21_needed 58 = .ok (.new 33, 3) := dk_187 0 33 (dk_at dksX21_needed_2 11 rfl rfl)
theorem dX21_needed_61 : decode cX21_needed 61 = .ok (.dup, 1) := dk_89 (dk_at dksX21_needed_2 14 rfl rfl)
theorem dX21_needed_62 : decode cX21_needed 62 = .ok (.iload_n 1, 1) := dk_27 (dk_at dksX21_needed_2 15 rfl rfl)
theorem dX21_needed_63 : decode cX21_needed 63 = .ok (.iconst 4, 1) := dk_7 (dk_at dksX21_needed_2 16 rfl rfl)
theorem dX21_needed_64 : decode cX21_needed 64 = .ok (.iload_n 2, 1) := dk_28 (dk_at dksX21_needed_2 17 rfl rfl)
theorem dX21_needed_65 : decode cX21_needed 65 = .ok (.aload 4, 2) := dk_25 4 (dk_at dksX21_needed_2 18 rfl rfl)
theorem dX21_needed_67 : decode cX21_needed 67 = .ok (.invokespecial 35, 3) := dk_183 0 35 (dk_at dksX21_needed_2 20 rfl rfl)
theorem dX21_needed_70 : decode cX21_needed 70 = .ok (.athrow, 1) := dk_191 (dk_at dksX21_needed_2 23 rfl rfl)
theorem dX21_needed_71 : decode cX21_needed 71 = .ok (.return_, 1) := dk_177 (dk_at dksX21_needed_3 0 rfl rfl)
theorem q129 : (Jvm.Cond.initialized "PluginChains$Starter") ∈ lw_all := lw_g (lw_at lw_m1 49 rfl) rfl
theorem q258 : (Jvm.Cond.fieldLink "PluginChains$Starter" (77 : Nat) "PluginChains$Host" "clock" "I") ∈ lw_all := lw_g (lw_at lw_m1 178 rfl) rfl
theorem q263 : (Jvm.Cond.fieldLink "PluginChains$Starter" (45 : Nat) "PluginChains$Host" "plugs" "[LPluginChains$Plain;") ∈ lw_all := lw_g (lw_at lw_m1 183 rfl) rfl
theorem q266 : (Jvm.Cond.fieldLink "PluginChains$Starter" (42 : Nat) "PluginChains$Host" "state" "[I") ∈ lw_all := lw_g (lw_at lw_m1 186 rfl) rfl
theorem q269 : (Jvm.Cond.fieldLink "PluginChains$Starter" (66 : Nat) "PluginChains$Host" "faults" "[I") ∈ lw_all := lw_g (lw_at lw_m1 189 rfl) rfl
theorem q278 : (Jvm.Cond.fieldLink "PluginChains$Starter" (74 : Nat) "PluginChains$Host" "age" "[I") ∈ lw_all := lw_g (lw_at lw_m1 198 rfl) rfl
theorem q1328 : (Jvm.Cond.selects "PluginChains$Starter" ({ cls := "java/lang/Object", name := "getClass", desc := "()Ljava/lang/Class;" } : Jvm.MethodName) ({ cls := "java/lang/Object", name := "getClass", desc := "()Ljava/lang/Class;" } : Jvm.MethodName)) ∈ lw_all := lw_g (lw_at lw_m6 48 rfl) rfl
theorem q1427 : (Jvm.Cond.fieldLink "PluginChains$Starter" (49 : Nat) "PluginChains$Plain" "needs" "I") ∈ lw_all := lw_g (lw_at lw_m6 147 rfl) rfl
theorem q1865 : (Jvm.Cond.instantiable "PluginChains$Starter" (5 : Nat)) ∈ lw_all := lw_g (lw_at lw_m8 105 rfl) rfl
theorem q1867 : (Jvm.Cond.instanceMethod ({ cls := "PluginChains$Starter", name := "<init>", desc := "(LPluginChains$Host;LPluginChains$Log;)V" } : Jvm.MethodName)) ∈ lw_all := lw_g (lw_at lw_m8 107 rfl) rfl
theorem q1868 : (Jvm.Cond.code ({ cls := "PluginChains$Starter", name := "<init>", desc := "(LPluginChains$Host;LPluginChains$Log;)V" } : Jvm.MethodName) prog_33_method_1_code (3 : Nat) (Option.none : Option Jvm.ClassFile.FieldType)) ∈ lw_all := lw_g (lw_at lw_m8 108 rfl) rfl
theorem q1869 : (Jvm.Cond.methodLink "PluginChains$Starter" (3 : Nat) ({ cls := "java/lang/Object", name := "<init>", desc := "()V" } : Jvm.MethodName)) ∈ lw_all := lw_g (lw_at lw_m8 109 rfl) rfl
theorem q1870 : (Jvm.Cond.fieldLink "PluginChains$Starter" (19 : Nat) "PluginChains$Starter" "h" "LPluginChains$Host;") ∈ lw_all := lw_g (lw_at lw_m8 110 rfl) rfl
theorem q1871 : (Jvm.Cond.fieldLink "PluginChains$Starter" (23 : Nat) "PluginChains$Starter" "log" "LPluginChains$Log;") ∈ lw_all := lw_g (lw_at lw_m8 111 rfl) rfl
theorem q1872 : (Jvm.Cond.fieldLink "PluginChains$Starter" (9 : Nat) "PluginChains$Starter" "being" "[Z") ∈ lw_all := lw_g (lw_at lw_m8 112 rfl) rfl
theorem q1873 : (Jvm.Cond.fieldLink "PluginChains$Starter" (15 : Nat) "PluginChains$Starter" "done" "[I") ∈ lw_all := lw_g (lw_at lw_m8 113 rfl) rfl
theorem q1875 : (Jvm.Cond.fieldLink "PluginChains$Starter" (80 : Nat) "PluginChains$Starter" "many" "I") ∈ lw_all := lw_g (lw_at lw_m8 115 rfl) rfl
theorem q1877 : (Jvm.Cond.laysFinal "PluginChains$Starter" "PluginChains$Starter" "h" "LPluginChains$Host;") ∈ lw_all := lw_g (lw_at lw_m8 117 rfl) rfl
theorem q1878 : (Jvm.Cond.soleField "PluginChains$Starter" "h") ∈ lw_all := lw_g (lw_at lw_m8 118 rfl) rfl
theorem q1879 : (Jvm.Cond.laysFinal "PluginChains$Starter" "PluginChains$Starter" "log" "LPluginChains$Log;") ∈ lw_all := lw_g (lw_at lw_m8 119 rfl) rfl
theorem q1880 : (Jvm.Cond.soleField "PluginChains$Starter" "log") ∈ lw_all := lw_g (lw_at lw_m8 120 rfl) rfl
theorem q1881 : (Jvm.Cond.laysFinal "PluginChains$Starter" "PluginChains$Starter" "being" "[Z") ∈ lw_all := lw_g (lw_at lw_m8 121 rfl) rfl
theorem q1882 : (Jvm.Cond.soleField "PluginChains$Starter" "being") ∈ lw_all := lw_g (lw_at lw_m8 122 rfl) rfl
theorem q1883 : (Jvm.Cond.laysFinal "PluginChains$Starter" "PluginChains$Starter" "done" "[I") ∈ lw_all := lw_g (lw_at lw_m8 123 rfl) rfl
theorem q1884 : (Jvm.Cond.soleField "PluginChains$Starter" "done") ∈ lw_all := lw_g (lw_at lw_m8 124 rfl) rfl
theorem q1885 : (Jvm.Cond.lays "PluginChains$Starter" "PluginChains$Starter" "many" "I") ∈ lw_all := lw_g (lw_at lw_m8 125 rfl) rfl
theorem q1886 : (Jvm.Cond.soleField "PluginChains$Starter" "many") ∈ lw_all := lw_g (lw_at lw_m8 126 rfl) rfl
theorem q1887 : (Jvm.Cond.superclass "PluginChains$Starter" "java/lang/Object") ∈ lw_all := lw_g (lw_at lw_m8 127 rfl) rfl
theorem q1890 : (Jvm.Cond.instanceMethod ({ cls := "PluginChains$Starter", name := "startWhole", desc := "(I)V" } : Jvm.MethodName)) ∈ lw_all := lw_g (lw_at lw_m8 130 rfl) rfl
theorem q1891 : (Jvm.Cond.selects "PluginChains$Starter" ({ cls := "PluginChains$Starter", name := "startWhole", desc := "(I)V" } : Jvm.MethodName) ({ cls := "PluginChains$Starter", name := "startWhole", desc := "(I)V" } : Jvm.MethodName)) ∈ lw_all := lw_g (lw_at lw_m8 131 rfl) rfl
theorem q1892 : (Jvm.Cond.codeWith ({ cls := "PluginChains$Starter", name := "startWhole", desc := "(I)V" } : Jvm.MethodName) prog_33_method_4_code (6 : Nat) (Option.none : Option Jvm.ClassFile.FieldType) [((2 : Nat), (9 : Nat), (50 : Nat), (0 : Nat)), ((50 : Nat), (52 : Nat), (50 : Nat), (0 : Nat))]) ∈ lw_all := lw_g (lw_at lw_m8 132 rfl) rfl
theorem q1893 : (Jvm.Cond.methodLink "PluginChains$Starter" (38 : Nat) ({ cls := "PluginChains$Starter", name := "start", desc := "(I)V" } : Jvm.MethodName)) ∈ lw_all := lw_g (lw_at lw_m8 133 rfl) rfl
theorem q1894 : (Jvm.Cond.privateMethod ({ cls := "PluginChains$Starter", name := "start", desc := "(I)V" } : Jvm.MethodName)) ∈ lw_tbl := lw_at lw_m8 134 rfl
theorem q1895 : (Jvm.Cond.instanceMethod ({ cls := "PluginChains$Starter", name := "start", desc := "(I)V" } : Jvm.MethodName)) ∈ lw_all := lw_g (lw_at lw_m8 135 rfl) rfl
theorem q1896 : (Jvm.Cond.code ({ cls := "PluginChains$Starter", name := "start", desc := "(I)V" } : Jvm.MethodName) prog_33_method_3_code (3 : Nat) (Option.none : Option Jvm.ClassFile.FieldType)) ∈ lw_all := lw_g (lw_at lw_m8 136 rfl) rfl
theorem q1897 : (Jvm.Cond.classLink "PluginChains$Starter" (33 : Nat) "PluginChains$StartFailed") ∈ lw_all := lw_g (lw_at lw_m8 137 rfl) rfl
theorem q1906 : (Jvm.Cond.methodLink "PluginChains$Starter" (35 : Nat) ({ cls := "PluginChains$StartFailed", name := "<init>", desc := "(IIILPluginChains$StartFailed;)V" } : Jvm.MethodName)) ∈ lw_all := lw_g (lw_at lw_m8 146 rfl) rfl
theorem q1924 : (Jvm.Cond.methodLink "PluginChains$Starter" (55 : Nat) ({ cls := "PluginChains", name := "has", desc := "(II)Z" } : Jvm.MethodName)) ∈ lw_all := lw_g (lw_at lw_m8 164 rfl) rfl
theorem q1925 : (Jvm.Cond.methodLink "PluginChains$Starter" (59 : Nat) ({ cls := "PluginChains$Host", name := "provider", desc := "(II)I" } : Jvm.MethodName)) ∈ lw_all := lw_g (lw_at lw_m8 165 rfl) rfl
theorem q1926 : (Jvm.Cond.methodLink "PluginChains$Starter" (62 : Nat) ({ cls := "PluginChains$Starter", name := "needed", desc := "(II)V" } : Jvm.MethodName)) ∈ lw_all := lw_g (lw_at lw_m8 166 rfl) rfl
theorem q1927 : (Jvm.Cond.privateMethod ({ cls := "PluginChains$Starter", name := "needed", desc := "(II)V" } : Jvm.MethodName)) ∈ lw_tbl := lw_at lw_m8 167 rfl
theorem q1928 : (Jvm.Cond.instanceMethod ({ cls := "PluginChains$Starter", name := "needed", desc := "(II)V" } : Jvm.MethodName)) ∈ lw_all := lw_g (lw_at lw_m8 168 rfl) rfl
theorem q1929 : (Jvm.Cond.codeWith ({ cls := "PluginChains$Starter", name := "needed", desc := "(II)V" } : Jvm.MethodName) prog_33_method_2_code (5 : Nat) (Option.none : Option Jvm.ClassFile.FieldType) [((48 : Nat), (53 : Nat), (56 : Nat), (33 : Nat))]) ∈ lw_all := lw_g (lw_at lw_m8 169 rfl) rfl
theorem q1930 : (Jvm.Cond.methodLink "PluginChains$Starter" (27 : Nat) ({ cls := "PluginChains$Host", name := "candidate", desc := "(II)I" } : Jvm.MethodName)) ∈ lw_all := lw_g (lw_at lw_m8 170 rfl) rfl
theorem q2436 : (Jvm.Cond.methodLink "PluginChains$Starter" (69 : Nat) ({ cls := "PluginChains$Log", name := "add", desc := "(I)V" } : Jvm.MethodName)) ∈ lw_all := lw_g (lw_at lw_m10 196 rfl) rfl
theorem q2440 : (Jvm.Cond.methodLink "PluginChains$Starter" (83 : Nat) ({ cls := "PluginChains$Host", name := "stop", desc := "(ILPluginChains$Log;)V" } : Jvm.MethodName)) ∈ lw_all := lw_g (lw_at lw_m10 200 rfl) rfl
theorem q4074 : (Jvm.Cond.castable "PluginChains$Starter" "java/lang/Object") ∈ lw_tbl := lw_at lw_m17 154 rfl
theorem in_X21 : ∀ w ∈ wsX210, w ∈ lw_all := lw_in wsX210 [1877, 1879, 1881, 1883, 1885] (by decide +kernel) (by decide +kernel)

/-! PluginChains$StartFailed -/
set_option maxRecDepth 100000
def RX22 : String := "PluginChains$StartFailed"
def TX22 : u_T := fun k => match k with
  | 0 => ("java/lang/Throwable", "cause", "Ljava/lang/Throwable;", false)
  | 1 => ("java/lang/Throwable", "stackTrace", "[Ljava/lang/StackTraceElement;", false)
  | 2 => ("java/lang/Throwable", "suppressedExceptions", "Ljava/util/List;", false)
  | 3 => ("java/lang/Throwable", "detailMessage", "Ljava/lang/String;", false)
  | 4 => ("java/lang/Throwable", "backtrace", "Ljava/lang/Object;", false)
  | 5 => ("java/lang/Throwable", "depth", "I", false)
  | 6 => ("PluginChains$StartFailed", "plug", "I", true)
  | 7 => ("PluginChains$StartFailed", "why", "I", true)
  | _ => ("PluginChains$StartFailed", "service", "I", true)
def tyX22 : Nat → FieldType := fun k => match k with
  | 0 => .object "java/lang/Throwable"
  | 1 => .array (.object "java/lang/StackTraceElement")
  | 2 => .object "java/util/List"
  | 3 => .object "java/lang/String"
  | 4 => .object "java/lang/Object"
  | 5 => .int
  | 6 => .int
  | 7 => .int
  | _ => .int
abbrev wsX220 : List Cond := u_ws RX22 TX22 9
theorem nmX22 : ∀ a, a < 9 → ∀ b, b < 9 → a ≠ b → (TX22 a).2.1 ≠ (TX22 b).2.1 := by decide +kernel
theorem tyX22_ok : ∀ k, k < 9 → parseFieldDescriptor (TX22 k).2.2.1 = some (tyX22 k) := by decide +kernel
abbrev cX22_init : ByteArray := prog_32_method_1_code
def yX22_init : MethodName := ⟨RX22, "<init>", "(IIILPluginChains$StartFailed;)V"⟩
def dkwX22_init_1 : List UInt8 := [177]
abbrev dktX22_init_1 : List UInt8 := dkwX22_init_1 ++ []
def dkwX22_init_0 : List UInt8 := [42, 1, 25, 4, 3, 3, 183, 0, 1, 42, 27, 181, 0, 7, 42, 28, 181, 0, 13, 42, 29, 181, 0, 16]
abbrev dktX22_init_0 : List UInt8 := dkwX22_init_0 ++ dktX22_init_1
theorem dksX22_init_0 : cX22_init.data.toList.drop 0 = dktX22_init_0 := by decide +kernel
theorem dksX22_init_1 : cX22_init.data.toList.drop 24 = dktX22_init_1 := dk_seg dksX22_init_0 24 rfl rfl
theorem dX22_init_0 : decode cX22_init 0 = .ok (.aload_n 0, 1) := dk_42 (dk_at dksX22_init_0 0 rfl rfl)
theorem dX22_init_1 : decode cX22_init 1 = .ok (.aconst_null, 1) := dk_1 (dk_at dksX22_init_0 1 rfl rfl)
theorem dX22_init_2 : decode cX22_init 2 = .ok (.aload 4, 2) := dk_25 4 (dk_at dksX22_init_0 2 rfl rfl)
theorem dX22_init_4 : decode cX22_init 4 = .ok (.iconst 0, 1) := dk_3 (dk_at dksX22_init_0 4 rfl rfl)
theorem dX22_init_5 : decode cX22_init 5 = .ok (.iconst 0, 1) := dk_3 (dk_at dksX22_init_0 5 rfl rfl)
theorem dX22_init_6 : decode cX22_init 6 = .ok (.invokespecial 1, 3) := dk_183 0 1 (dk_at dksX22_init_0 6 rfl rfl)
theorem dX22_init_9 : decode cX22_init 9 = .ok (.aload_n 0, 1) := dk_42 (dk_at dksX22_init_0 9 rfl rfl)
theorem dX22_init_10 : decode cX22_init 10 = .ok (.iload_n 1, 1) := dk_27 (dk_at dksX22_init_0 10 rfl rfl)
theorem dX22_init_11 : decode cX22_init 11 = .ok (.putfield 7, 3) := dk_181 0 7 (dk_at dksX22_init_0 11 rfl rfl)
theorem dX22_init_14 : decode cX22_init 14 = .ok (.aload_n 0, 1) := dk_42 (dk_at dksX22_init_0 14 rfl rfl)
theorem dX22_init_15 : decode cX22_init 15 = .ok (.iload_n 2, 1) := dk_28 (dk_at dksX22_init_0 15 rfl rfl)
theorem dX22_init_16 : decode cX22_init 16 = .ok (.putfield 13, 3) := dk_181 0 13 (dk_at dksX22_init_0 16 rfl rfl)
theorem dX22_init_19 : decode cX22_init 19 = .ok (.aload_n 0, 1) := dk_42 (dk_at dksX22_init_0 19 rfl rfl)
theorem dX22_init_20 : decode cX22_init 20 = .ok (.iload_n 3, 1) := dk_29 (dk_at dksX22_init_0 20 rfl rfl)
theorem dX22_init_21 : decode cX22_init 21 = .ok (.putfield 16, 3) := dk_181 0 16 (dk_at dksX22_init_0 21 rfl rfl)
theorem dX22_init_24 : decode cX22_init 24 = .ok (.return_, 1) := dk_177 (dk_at dksX22_init_1 0 rfl rfl)
theorem q130 : (Jvm.Cond.initialized "PluginChains$StartFailed") ∈ lw_all := lw_g (lw_at lw_m1 50 rfl) rfl
theorem q447 : (Jvm.Cond.selects "PluginChains$StartFailed" ({ cls := "java/lang/Throwable", name := "fillInStackTrace", desc := "()Ljava/lang/Throwable;" } : Jvm.MethodName) ({ cls := "java/lang/Throwable", name := "fillInStackTrace", desc := "()Ljava/lang/Throwable;" } : Jvm.MethodName)) ∈ lw_all := lw_g (lw_at lw_m2 127 rfl) rfl
theorem q1327 : (Jvm.Cond.selects "PluginChains$StartFailed" ({ cls := "java/lang/Object", name := "getClass", desc := "()Ljava/lang/Class;" } : Jvm.MethodName) ({ cls := "java/lang/Object", name := "getClass", desc := "()Ljava/lang/Class;" } : Jvm.MethodName)) ∈ lw_all := lw_g (lw_at lw_m6 47 rfl) rfl
theorem q1898 : (Jvm.Cond.instantiable "PluginChains$StartFailed" (9 : Nat)) ∈ lw_all := lw_g (lw_at lw_m8 138 rfl) rfl
theorem q1899 : (Jvm.Cond.castable "PluginChains$StartFailed" "PluginChains$StartFailed") ∈ lw_tbl := lw_at lw_m8 139 rfl
theorem q1900 : (Jvm.Cond.selects "PluginChains$StartFailed" ({ cls := "java/lang/Throwable", name := "fillInStackTrace", desc := "(I)Ljava/lang/Throwable;" } : Jvm.MethodName) ({ cls := "java/lang/Throwable", name := "fillInStackTrace", desc := "(I)Ljava/lang/Throwable;" } : Jvm.MethodName)) ∈ lw_all := lw_g (lw_at lw_m8 140 rfl) rfl
theorem q1901 : (Jvm.Cond.lays "PluginChains$StartFailed" "java/lang/Throwable" "cause" "Ljava/lang/Throwable;") ∈ lw_all := lw_g (lw_at lw_m8 141 rfl) rfl
theorem q1902 : (Jvm.Cond.lays "PluginChains$StartFailed" "java/lang/Throwable" "stackTrace" "[Ljava/lang/StackTraceElement;") ∈ lw_all := lw_g (lw_at lw_m8 142 rfl) rfl
theorem q1903 : (Jvm.Cond.lays "PluginChains$StartFailed" "java/lang/Throwable" "suppressedExceptions" "Ljava/util/List;") ∈ lw_all := lw_g (lw_at lw_m8 143 rfl) rfl
theorem q1904 : (Jvm.Cond.lays "PluginChains$StartFailed" "java/lang/Throwable" "detailMessage" "Ljava/lang/String;") ∈ lw_all := lw_g (lw_at lw_m8 144 rfl) rfl
theorem q1905 : (Jvm.Cond.lays "PluginChains$StartFailed" "java/lang/Throwable" "backtrace" "Ljava/lang/Object;") ∈ lw_all := lw_g (lw_at lw_m8 145 rfl) rfl
theorem q1907 : (Jvm.Cond.instanceMethod ({ cls := "PluginChains$StartFailed", name := "<init>", desc := "(IIILPluginChains$StartFailed;)V" } : Jvm.MethodName)) ∈ lw_all := lw_g (lw_at lw_m8 147 rfl) rfl
theorem q1908 : (Jvm.Cond.code ({ cls := "PluginChains$StartFailed", name := "<init>", desc := "(IIILPluginChains$StartFailed;)V" } : Jvm.MethodName) prog_32_method_1_code (5 : Nat) (Option.none : Option Jvm.ClassFile.FieldType)) ∈ lw_all := lw_g (lw_at lw_m8 148 rfl) rfl
theorem q1909 : (Jvm.Cond.methodLink "PluginChains$StartFailed" (1 : Nat) ({ cls := "java/lang/Exception", name := "<init>", desc := "(Ljava/lang/String;Ljava/lang/Throwable;ZZ)V" } : Jvm.MethodName)) ∈ lw_all := lw_g (lw_at lw_m8 149 rfl) rfl
theorem q1910 : (Jvm.Cond.fieldLink "PluginChains$StartFailed" (7 : Nat) "PluginChains$StartFailed" "plug" "I") ∈ lw_all := lw_g (lw_at lw_m8 150 rfl) rfl
theorem q1912 : (Jvm.Cond.fieldLink "PluginChains$StartFailed" (13 : Nat) "PluginChains$StartFailed" "why" "I") ∈ lw_all := lw_g (lw_at lw_m8 152 rfl) rfl
theorem q1914 : (Jvm.Cond.fieldLink "PluginChains$StartFailed" (16 : Nat) "PluginChains$StartFailed" "service" "I") ∈ lw_all := lw_g (lw_at lw_m8 154 rfl) rfl
theorem q1916 : (Jvm.Cond.laysFinal "PluginChains$StartFailed" "PluginChains$StartFailed" "plug" "I") ∈ lw_all := lw_g (lw_at lw_m8 156 rfl) rfl
theorem q1917 : (Jvm.Cond.soleField "PluginChains$StartFailed" "plug") ∈ lw_all := lw_g (lw_at lw_m8 157 rfl) rfl
theorem q1918 : (Jvm.Cond.laysFinal "PluginChains$StartFailed" "PluginChains$StartFailed" "why" "I") ∈ lw_all := lw_g (lw_at lw_m8 158 rfl) rfl
theorem q1919 : (Jvm.Cond.soleField "PluginChains$StartFailed" "why") ∈ lw_all := lw_g (lw_at lw_m8 159 rfl) rfl
theorem q1920 : (Jvm.Cond.laysFinal "PluginChains$StartFailed" "PluginChains$StartFailed" "service" "I") ∈ lw_all := lw_g (lw_at lw_m8 160 rfl) rfl
theorem q1921 : (Jvm.Cond.soleField "PluginChains$StartFailed" "service") ∈ lw_all := lw_g (lw_at lw_m8 161 rfl) rfl
theorem q1922 : (Jvm.Cond.lays "PluginChains$StartFailed" "java/lang/Throwable" "depth" "I") ∈ lw_all := lw_g (lw_at lw_m8 162 rfl) rfl
theorem q1923 : (Jvm.Cond.superclass "PluginChains$StartFailed" "java/lang/Exception") ∈ lw_all := lw_g (lw_at lw_m8 163 rfl) rfl
theorem q2450 : (Jvm.Cond.sameMethod "PluginChains$StartFailed" "java/lang/Throwable" "getCause" "()Ljava/lang/Throwable;") ∈ lw_all := lw_g (lw_at lw_m10 210 rfl) rfl
theorem q2452 : (Jvm.Cond.selects "PluginChains$StartFailed" ({ cls := "PluginChains$StartFailed", name := "getCause", desc := "()Ljava/lang/Throwable;" } : Jvm.MethodName) ({ cls := "java/lang/Throwable", name := "getCause", desc := "()Ljava/lang/Throwable;" } : Jvm.MethodName)) ∈ lw_all := lw_g (lw_at lw_m10 212 rfl) rfl
theorem q4045 : (Jvm.Cond.castable "PluginChains$StartFailed" "java/lang/Object") ∈ lw_tbl := lw_at lw_m17 125 rfl
theorem in_X22 : ∀ w ∈ wsX220, w ∈ lw_all := lw_in wsX220 [1901, 1902, 1903, 1904, 1905, 1922, 1916, 1918, 1920] (by decide +kernel) (by decide +kernel)

/-! PluginChains$ByStrength -/
set_option maxRecDepth 100000
def RX23 : String := "PluginChains$ByStrength"
abbrev cX23_compare : ByteArray := prog_7_method_3_code
def yX23_compare : MethodName := ⟨RX23, "compare", "(Ljava/lang/Object;Ljava/lang/Object;)I"⟩
def dkwX23_compare_0 : List UInt8 := [42, 43, 192, 0, 8, 44, 192, 0, 8, 182, 0, 17, 172]
abbrev dktX23_compare_0 : List UInt8 := dkwX23_compare_0 ++ []
theorem dksX23_compare_0 : cX23_compare.data.toList.drop 0 = dktX23_compare_0 := by decide +kernel
theorem dX23_compare_0 : decode cX23_compare 0 = .ok (.aload_n 0, 1) := dk_42 (dk_at dksX23_compare_0 0 rfl rfl)
theorem dX23_compare_1 : decode cX23_compare 1 = .ok (.aload_n 1, 1) := dk_43 (dk_at dksX23_compare_0 1 rfl rfl)
theorem dX23_compare_2 : decode cX23_compare 2 = .ok (.checkcast 8, 3) := dk_192 0 8 (dk_at dksX23_compare_0 2 rfl rfl)
theorem dX23_compare_5 : decode cX23_compare 5 = .ok (.aload_n 2, 1) := dk_44 (dk_at dksX23_compare_0 5 rfl rfl)
theorem dX23_compare_6 : decode cX23_compare 6 = .ok (.checkcast 8, 3) := dk_192 0 8 (dk_at dksX23_compare_0 6 rfl rfl)
theorem dX23_compare_9 : decode cX23_compare 9 = .ok (.invokevirtual 17, 3) := dk_182 0 17 (dk_at dksX23_compare_0 9 rfl rfl)
theorem dX23_compare_12 : decode cX23_compare 12 = .ok (.ireturn, 1) := dk_172 (dk_at dksX23_compare_0 12 rfl rfl)
abbrev cX23_compare_2 : ByteArray := prog_7_method_2_code
def yX23_compare_2 : MethodName := ⟨RX23, "compare", "(LPluginChains$Plain;LPluginChains$Plain;)I"⟩
def dkwX23_compare_2_1 : List UInt8 := [44, 182, 0, 13, 172]
abbrev dktX23_compare_2_1 : List UInt8 := dkwX23_compare_2_1 ++ []
def dkwX23_compare_2_0 : List UInt8 := [43, 182, 0, 7, 44, 182, 0, 7, 159, 0, 15, 44, 182, 0, 7, 43, 182, 0, 7, 100, 167, 0, 8, 43]
abbrev dktX23_compare_2_0 : List UInt8 := dkwX23_compare_2_0 ++ dktX23_compare_2_1
theorem dksX23_compare_2_0 : cX23_compare_2.data.toList.drop 0 = dktX23_compare_2_0 := by decide +kernel
theorem dksX23_compare_2_1 : cX23_compare_2.data.toList.drop 24 = dktX23_compare_2_1 := dk_seg dksX23_compare_2_0 24 rfl rfl
theorem dX23_compare_2_0 : decode cX23_compare_2 0 = .ok (.aload_n 1, 1) := dk_43 (dk_at dksX23_compare_2_0 0 rfl rfl)
theorem dX23_compare_2_1 : decode cX23_compare_2 1 = .ok (.invokevirtual 7, 3) := dk_182 0 7 (dk_at dksX23_compare_2_0 1 rfl rfl)
theorem dX23_compare_2_4 : decode cX23_compare_2 4 = .ok (.aload_n 2, 1) := dk_44 (dk_at dksX23_compare_2_0 4 rfl rfl)
theorem dX23_compare_2_5 : decode cX23_compare_2 5 = .ok (.invokevirtual 7, 3) := dk_182 0 7 (dk_at dksX23_compare_2_0 5 rfl rfl)
theorem dX23_compare_2_8 : decode cX23_compare_2 8 = .ok (.if_icmp .eq 15, 3) := dk_159 0 15 (dk_at dksX23_compare_2_0 8 rfl rfl)
theorem dX23_compare_2_11 : decode cX23_compare_2 11 = .ok (.aload_n 2, 1) := dk_44 (dk_at dksX23_compare_2_0 11 rfl rfl)
theorem dX23_compare_2_12 : decode cX23_compare_2 12 = .ok (.invokevirtual 7, 3) := dk_182 0 7 (dk_at dksX23_compare_2_0 12 rfl rfl)
theorem dX23_compare_2_15 : decode cX23_compare_2 15 = .ok (.aload_n 1, 1) := dk_43 (dk_at dksX23_compare_2_0 15 rfl rfl)
theorem dX23_compare_2_16 : decode cX23_compare_2 16 = .ok (.invokevirtual 7, 3) := dk_182 0 7 (dk_at dksX23_compare_2_0 16 rfl rfl)
theorem dX23_compare_2_19 : decode cX23_compare_2 19 = .ok (.isub, 1) := dk_100 (dk_at dksX23_compare_2_0 19 rfl rfl)
theorem dX23_compare_2_20 : decode cX23_compare_2 20 = .ok (.goto 8, 3) := dk_167 0 8 (dk_at dksX23_compare_2_0 20 rfl rfl)
theorem dX23_compare_2_23 : decode cX23_compare_2 23 = .ok (.aload_n 1, 1) := dk_43 (dk_at dksX23_compare_2_0 23 rfl rfl)
theorem dX23_compare_2_24 : decode cX23_compare_2 24 = .ok (.aload_n 2, 1) := dk_44 (dk_at dksX23_compare_2_1 0 rfl rfl)
theorem dX23_compare_2_25 : decode cX23_compare_2 25 = .ok (.invokevirtual 13, 3) := dk_182 0 13 (dk_at dksX23_compare_2_1 1 rfl rfl)
theorem dX23_compare_2_28 : decode cX23_compare_2 28 = .ok (.ireturn, 1) := dk_172 (dk_at dksX23_compare_2_1 4 rfl rfl)
abbrev cX23_init : ByteArray := prog_7_method_1_code
def yX23_init : MethodName := ⟨RX23, "<init>", "()V"⟩
theorem dX23_init_0 : decode cX23_init 0 = .ok (.aload_n 0, 1) := by decide +kernel
theorem dX23_init_1 : decode cX23_init 1 = .ok (.invokespecial 1, 3) := by decide +kernel
theorem dX23_init_4 : decode cX23_init 4 = .ok (.return_, 1) := by decide +kernel
theorem q134 : (Jvm.Cond.initialized "PluginChains$ByStrength") ∈ lw_all := lw_g (lw_at lw_m1 54 rfl) rfl
theorem q1013 : (Jvm.Cond.castable "PluginChains$ByStrength" "java/util/Comparator") ∈ lw_tbl := lw_at lw_m4 213 rfl
theorem q1014 : (Jvm.Cond.selects "PluginChains$ByStrength" ({ cls := "java/util/Comparator", name := "compare", desc := "(Ljava/lang/Object;Ljava/lang/Object;)I" } : Jvm.MethodName) ({ cls := "PluginChains$ByStrength", name := "compare", desc := "(Ljava/lang/Object;Ljava/lang/Object;)I" } : Jvm.MethodName)) ∈ lw_all := lw_g (lw_at lw_m4 214 rfl) rfl
theorem q1015 : (Jvm.Cond.unhidden "PluginChains$ByStrength" "compare" "(Ljava/lang/Object;Ljava/lang/Object;)I") ∈ lw_tbl := lw_at lw_m4 215 rfl
theorem q1016 : (Jvm.Cond.instanceMethod ({ cls := "PluginChains$ByStrength", name := "compare", desc := "(Ljava/lang/Object;Ljava/lang/Object;)I" } : Jvm.MethodName)) ∈ lw_all := lw_g (lw_at lw_m4 216 rfl) rfl
theorem q1017 : (Jvm.Cond.publicMethod ({ cls := "PluginChains$ByStrength", name := "compare", desc := "(Ljava/lang/Object;Ljava/lang/Object;)I" } : Jvm.MethodName)) ∈ lw_tbl := lw_at lw_m4 217 rfl
theorem q1018 : (Jvm.Cond.code ({ cls := "PluginChains$ByStrength", name := "compare", desc := "(Ljava/lang/Object;Ljava/lang/Object;)I" } : Jvm.MethodName) prog_7_method_3_code (3 : Nat) (Option.some Jvm.ClassFile.FieldType.int)) ∈ lw_all := lw_g (lw_at lw_m4 218 rfl) rfl
theorem q1019 : (Jvm.Cond.classLink "PluginChains$ByStrength" (8 : Nat) "PluginChains$Plain") ∈ lw_all := lw_g (lw_at lw_m4 219 rfl) rfl
theorem q1020 : (Jvm.Cond.methodLink "PluginChains$ByStrength" (17 : Nat) ({ cls := "PluginChains$ByStrength", name := "compare", desc := "(LPluginChains$Plain;LPluginChains$Plain;)I" } : Jvm.MethodName)) ∈ lw_all := lw_g (lw_at lw_m4 220 rfl) rfl
theorem q1021 : (Jvm.Cond.instanceMethod ({ cls := "PluginChains$ByStrength", name := "compare", desc := "(LPluginChains$Plain;LPluginChains$Plain;)I" } : Jvm.MethodName)) ∈ lw_all := lw_g (lw_at lw_m4 221 rfl) rfl
theorem q1022 : (Jvm.Cond.selects "PluginChains$ByStrength" ({ cls := "PluginChains$ByStrength", name := "compare", desc := "(LPluginChains$Plain;LPluginChains$Plain;)I" } : Jvm.MethodName) ({ cls := "PluginChains$ByStrength", name := "compare", desc := "(LPluginChains$Plain;LPluginChains$Plain;)I" } : Jvm.MethodName)) ∈ lw_all := lw_g (lw_at lw_m4 222 rfl) rfl
theorem q1023 : (Jvm.Cond.code ({ cls := "PluginChains$ByStrength", name := "compare", desc := "(LPluginChains$Plain;LPluginChains$Plain;)I" } : Jvm.MethodName) prog_7_method_2_code (3 : Nat) (Option.some Jvm.ClassFile.FieldType.int)) ∈ lw_all := lw_g (lw_at lw_m4 223 rfl) rfl
theorem q1024 : (Jvm.Cond.methodLink "PluginChains$ByStrength" (7 : Nat) ({ cls := "PluginChains$Plain", name := "strength", desc := "()I" } : Jvm.MethodName)) ∈ lw_all := lw_g (lw_at lw_m4 224 rfl) rfl
theorem q1034 : (Jvm.Cond.methodLink "PluginChains$ByStrength" (13 : Nat) ({ cls := "PluginChains$Plain", name := "compareTo", desc := "(LPluginChains$Plain;)I" } : Jvm.MethodName)) ∈ lw_all := lw_g (lw_at lw_m4 234 rfl) rfl
theorem q1305 : (Jvm.Cond.selects "PluginChains$ByStrength" ({ cls := "java/lang/Object", name := "getClass", desc := "()Ljava/lang/Class;" } : Jvm.MethodName) ({ cls := "java/lang/Object", name := "getClass", desc := "()Ljava/lang/Class;" } : Jvm.MethodName)) ∈ lw_all := lw_g (lw_at lw_m6 25 rfl) rfl
theorem q1937 : (Jvm.Cond.instantiable "PluginChains$ByStrength" (0 : Nat)) ∈ lw_all := lw_g (lw_at lw_m8 177 rfl) rfl
theorem q1939 : (Jvm.Cond.instanceMethod ({ cls := "PluginChains$ByStrength", name := "<init>", desc := "()V" } : Jvm.MethodName)) ∈ lw_all := lw_g (lw_at lw_m8 179 rfl) rfl
theorem q1940 : (Jvm.Cond.code ({ cls := "PluginChains$ByStrength", name := "<init>", desc := "()V" } : Jvm.MethodName) prog_7_method_1_code (1 : Nat) (Option.none : Option Jvm.ClassFile.FieldType)) ∈ lw_all := lw_g (lw_at lw_m8 180 rfl) rfl
theorem q1941 : (Jvm.Cond.methodLink "PluginChains$ByStrength" (1 : Nat) ({ cls := "java/lang/Object", name := "<init>", desc := "()V" } : Jvm.MethodName)) ∈ lw_all := lw_g (lw_at lw_m8 181 rfl) rfl
theorem q1942 : (Jvm.Cond.superclass "PluginChains$ByStrength" "java/lang/Object") ∈ lw_all := lw_g (lw_at lw_m8 182 rfl) rfl
theorem q4076 : (Jvm.Cond.castable "PluginChains$ByStrength" "java/lang/Object") ∈ lw_tbl := lw_at lw_m17 156 rfl

/-! PluginChains$Youngest -/
set_option maxRecDepth 100000
def RX24 : String := "PluginChains$Youngest"
def TX24 : u_T := fun k => match k with
  | _ => ("PluginChains$Youngest", "h", "LPluginChains$Host;", true)
def tyX24 : Nat → FieldType := fun k => match k with
  | _ => .object "PluginChains$Host"
abbrev wsX240 : List Cond := u_ws RX24 TX24 1
theorem nmX24 : ∀ a, a < 1 → ∀ b, b < 1 → a ≠ b → (TX24 a).2.1 ≠ (TX24 b).2.1 := by decide +kernel
theorem tyX24_ok : ∀ k, k < 1 → parseFieldDescriptor (TX24 k).2.2.1 = some (tyX24 k) := by decide +kernel
abbrev cX24_compare : ByteArray := prog_38_method_3_code
def yX24_compare : MethodName := ⟨RX24, "compare", "(Ljava/lang/Object;Ljava/lang/Object;)I"⟩
def dkwX24_compare_0 : List UInt8 := [42, 43, 192, 0, 20, 44, 192, 0, 20, 182, 0, 25, 172]
abbrev dktX24_compare_0 : List UInt8 := dkwX24_compare_0 ++ []
theorem dksX24_compare_0 : cX24_compare.data.toList.drop 0 = dktX24_compare_0 := by decide +kernel
theorem dX24_compare_0 : decode cX24_compare 0 = .ok (.aload_n 0, 1) := dk_42 (dk_at dksX24_compare_0 0 rfl rfl)
theorem dX24_compare_1 : decode cX24_compare 1 = .ok (.aload_n 1, 1) := dk_43 (dk_at dksX24_compare_0 1 rfl rfl)
theorem dX24_compare_2 : decode cX24_compare 2 = .ok (.checkcast 20, 3) := dk_192 0 20 (dk_at dksX24_compare_0 2 rfl rfl)
theorem dX24_compare_5 : decode cX24_compare 5 = .ok (.aload_n 2, 1) := dk_44 (dk_at dksX24_compare_0 5 rfl rfl)
theorem dX24_compare_6 : decode cX24_compare 6 = .ok (.checkcast 20, 3) := dk_192 0 20 (dk_at dksX24_compare_0 6 rfl rfl)
theorem dX24_compare_9 : decode cX24_compare 9 = .ok (.invokevirtual 25, 3) := dk_182 0 25 (dk_at dksX24_compare_0 9 rfl rfl)
theorem dX24_compare_12 : decode cX24_compare 12 = .ok (.ireturn, 1) := dk_172 (dk_at dksX24_compare_0 12 rfl rfl)
abbrev cX24_compare_2 : ByteArray := prog_38_method_2_code
def yX24_compare_2 : MethodName := ⟨RX24, "compare", "(Ljava/lang/Integer;Ljava/lang/Integer;)I"⟩
def dkwX24_compare_2_1 : List UInt8 := [100, 172]
abbrev dktX24_compare_2_1 : List UInt8 := dkwX24_compare_2_1 ++ []
def dkwX24_compare_2_0 : List UInt8 := [42, 180, 0, 7, 180, 0, 13, 44, 182, 0, 19, 46, 42, 180, 0, 7, 180, 0, 13, 43, 182, 0, 19, 46]
abbrev dktX24_compare_2_0 : List UInt8 := dkwX24_compare_2_0 ++ dktX24_compare_2_1
theorem dksX24_compare_2_0 : cX24_compare_2.data.toList.drop 0 = dktX24_compare_2_0 := by decide +kernel
theorem dksX24_compare_2_1 : cX24_compare_2.data.toList.drop 24 = dktX24_compare_2_1 := dk_seg dksX24_compare_2_0 24 rfl rfl
theorem dX24_compare_2_0 : decode cX24_compare_2 0 = .ok (.aload_n 0, 1) := dk_42 (dk_at dksX24_compare_2_0 0 rfl rfl)
theorem dX24_compare_2_1 : decode cX24_compare_2 1 = .ok (.getfield 7, 3) := dk_180 0 7 (dk_at dksX24_compare_2_0 1 rfl rfl)
theorem dX24_compare_2_4 : decode cX24_compare_2 4 = .ok (.getfield 13, 3) := dk_180 0 13 (dk_at dksX24_compare_2_0 4 rfl rfl)
theorem dX24_compare_2_7 : decode cX24_compare_2 7 = .ok (.aload_n 2, 1) := dk_44 (dk_at dksX24_compare_2_0 7 rfl rfl)
theorem dX24_compare_2_8 : decode cX24_compare_2 8 = .ok (.invokevirtual 19, 3) := dk_182 0 19 (dk_at dksX24_compare_2_0 8 rfl rfl)
theorem dX24_compare_2_11 : decode cX24_compare_2 11 = .ok (.iaload, 1) := dk_46 (dk_at dksX24_compare_2_0 11 rfl rfl)
theorem dX24_compare_2_12 : decode cX24_compare_2 12 = .ok (.aload_n 0, 1) := dk_42 (dk_at dksX24_compare_2_0 12 rfl rfl)
theorem dX24_compare_2_13 : decode cX24_compare_2 13 = .ok (.getfield 7, 3) := dk_180 0 7 (dk_at dksX24_compare_2_0 13 rfl rfl)
theorem dX24_compare_2_16 : decode cX24_compare_2 16 = .ok (.getfield 13, 3) := dk_180 0 13 (dk_at dksX24_compare_2_0 16 rfl rfl)
theorem dX24_compare_2_19 : decode cX24_compare_2 19 = .ok (.aload_n 1, 1) := dk_43 (dk_at dksX24_compare_2_0 19 rfl rfl)
theorem dX24_compare_2_20 : decode cX24_compare_2 20 = .ok (.invokevirtual 19, 3) := dk_182 0 19 (dk_at dksX24_compare_2_0 20 rfl rfl)
theorem dX24_compare_2_23 : decode cX24_compare_2 23 = .ok (.iaload, 1) := dk_46 (dk_at dksX24_compare_2_0 23 rfl rfl)
theorem dX24_compare_2_24 : decode cX24_compare_2 24 = .ok (.isub, 1) := dk_100 (dk_at dksX24_compare_2_1 0 rfl rfl)
theorem dX24_compare_2_25 : decode cX24_compare_2 25 = .ok (.ireturn, 1) := dk_172 (dk_at dksX24_compare_2_1 1 rfl rfl)
abbrev cX24_init : ByteArray := prog_38_method_1_code
def yX24_init : MethodName := ⟨RX24, "<init>", "(LPluginChains$Host;)V"⟩
def dkwX24_init_0 : List UInt8 := [42, 183, 0, 1, 42, 43, 181, 0, 7, 177]
abbrev dktX24_init_0 : List UInt8 := dkwX24_init_0 ++ []
theorem dksX24_init_0 : cX24_init.data.toList.drop 0 = dktX24_init_0 := by decide +kernel
theorem dX24_init_0 : decode cX24_init 0 = .ok (.aload_n 0, 1) := dk_42 (dk_at dksX24_init_0 0 rfl rfl)
theorem dX24_init_1 : decode cX24_init 1 = .ok (.invokespecial 1, 3) := dk_183 0 1 (dk_at dksX24_init_0 1 rfl rfl)
theorem dX24_init_4 : decode cX24_init 4 = .ok (.aload_n 0, 1) := dk_42 (dk_at dksX24_init_0 4 rfl rfl)
theorem dX24_init_5 : decode cX24_init 5 = .ok (.aload_n 1, 1) := dk_43 (dk_at dksX24_init_0 5 rfl rfl)
theorem dX24_init_6 : decode cX24_init 6 = .ok (.putfield 7, 3) := dk_181 0 7 (dk_at dksX24_init_0 6 rfl rfl)
theorem dX24_init_9 : decode cX24_init 9 = .ok (.return_, 1) := dk_177 (dk_at dksX24_init_0 9 rfl rfl)
theorem q153 : (Jvm.Cond.initialized "PluginChains$Youngest") ∈ lw_all := lw_g (lw_at lw_m1 73 rfl) rfl
theorem q276 : (Jvm.Cond.fieldLink "PluginChains$Youngest" (13 : Nat) "PluginChains$Host" "age" "[I") ∈ lw_all := lw_g (lw_at lw_m1 196 rfl) rfl
theorem q1183 : (Jvm.Cond.castable "PluginChains$Youngest" "java/util/Comparator") ∈ lw_tbl := lw_at lw_m5 143 rfl
theorem q1184 : (Jvm.Cond.selects "PluginChains$Youngest" ({ cls := "java/util/Comparator", name := "compare", desc := "(Ljava/lang/Object;Ljava/lang/Object;)I" } : Jvm.MethodName) ({ cls := "PluginChains$Youngest", name := "compare", desc := "(Ljava/lang/Object;Ljava/lang/Object;)I" } : Jvm.MethodName)) ∈ lw_all := lw_g (lw_at lw_m5 144 rfl) rfl
theorem q1185 : (Jvm.Cond.unhidden "PluginChains$Youngest" "compare" "(Ljava/lang/Object;Ljava/lang/Object;)I") ∈ lw_tbl := lw_at lw_m5 145 rfl
theorem q1186 : (Jvm.Cond.instanceMethod ({ cls := "PluginChains$Youngest", name := "compare", desc := "(Ljava/lang/Object;Ljava/lang/Object;)I" } : Jvm.MethodName)) ∈ lw_all := lw_g (lw_at lw_m5 146 rfl) rfl
theorem q1187 : (Jvm.Cond.publicMethod ({ cls := "PluginChains$Youngest", name := "compare", desc := "(Ljava/lang/Object;Ljava/lang/Object;)I" } : Jvm.MethodName)) ∈ lw_tbl := lw_at lw_m5 147 rfl
theorem q1188 : (Jvm.Cond.code ({ cls := "PluginChains$Youngest", name := "compare", desc := "(Ljava/lang/Object;Ljava/lang/Object;)I" } : Jvm.MethodName) prog_38_method_3_code (3 : Nat) (Option.some Jvm.ClassFile.FieldType.int)) ∈ lw_all := lw_g (lw_at lw_m5 148 rfl) rfl
theorem q1189 : (Jvm.Cond.classLink "PluginChains$Youngest" (20 : Nat) "java/lang/Integer") ∈ lw_all := lw_g (lw_at lw_m5 149 rfl) rfl
theorem q1190 : (Jvm.Cond.methodLink "PluginChains$Youngest" (25 : Nat) ({ cls := "PluginChains$Youngest", name := "compare", desc := "(Ljava/lang/Integer;Ljava/lang/Integer;)I" } : Jvm.MethodName)) ∈ lw_all := lw_g (lw_at lw_m5 150 rfl) rfl
theorem q1191 : (Jvm.Cond.instanceMethod ({ cls := "PluginChains$Youngest", name := "compare", desc := "(Ljava/lang/Integer;Ljava/lang/Integer;)I" } : Jvm.MethodName)) ∈ lw_all := lw_g (lw_at lw_m5 151 rfl) rfl
theorem q1192 : (Jvm.Cond.selects "PluginChains$Youngest" ({ cls := "PluginChains$Youngest", name := "compare", desc := "(Ljava/lang/Integer;Ljava/lang/Integer;)I" } : Jvm.MethodName) ({ cls := "PluginChains$Youngest", name := "compare", desc := "(Ljava/lang/Integer;Ljava/lang/Integer;)I" } : Jvm.MethodName)) ∈ lw_all := lw_g (lw_at lw_m5 152 rfl) rfl
theorem q1193 : (Jvm.Cond.code ({ cls := "PluginChains$Youngest", name := "compare", desc := "(Ljava/lang/Integer;Ljava/lang/Integer;)I" } : Jvm.MethodName) prog_38_method_2_code (3 : Nat) (Option.some Jvm.ClassFile.FieldType.int)) ∈ lw_all := lw_g (lw_at lw_m5 153 rfl) rfl
theorem q1194 : (Jvm.Cond.methodLink "PluginChains$Youngest" (19 : Nat) ({ cls := "java/lang/Integer", name := "intValue", desc := "()I" } : Jvm.MethodName)) ∈ lw_all := lw_g (lw_at lw_m5 154 rfl) rfl
theorem q1332 : (Jvm.Cond.selects "PluginChains$Youngest" ({ cls := "java/lang/Object", name := "getClass", desc := "()Ljava/lang/Class;" } : Jvm.MethodName) ({ cls := "java/lang/Object", name := "getClass", desc := "()Ljava/lang/Class;" } : Jvm.MethodName)) ∈ lw_all := lw_g (lw_at lw_m6 52 rfl) rfl
theorem q2960 : (Jvm.Cond.instantiable "PluginChains$Youngest" (1 : Nat)) ∈ lw_all := lw_g (lw_at lw_m13 0 rfl) rfl
theorem q2962 : (Jvm.Cond.instanceMethod ({ cls := "PluginChains$Youngest", name := "<init>", desc := "(LPluginChains$Host;)V" } : Jvm.MethodName)) ∈ lw_all := lw_g (lw_at lw_m13 2 rfl) rfl
theorem q2963 : (Jvm.Cond.code ({ cls := "PluginChains$Youngest", name := "<init>", desc := "(LPluginChains$Host;)V" } : Jvm.MethodName) prog_38_method_1_code (2 : Nat) (Option.none : Option Jvm.ClassFile.FieldType)) ∈ lw_all := lw_g (lw_at lw_m13 3 rfl) rfl
theorem q2964 : (Jvm.Cond.methodLink "PluginChains$Youngest" (1 : Nat) ({ cls := "java/lang/Object", name := "<init>", desc := "()V" } : Jvm.MethodName)) ∈ lw_all := lw_g (lw_at lw_m13 4 rfl) rfl
theorem q2965 : (Jvm.Cond.fieldLink "PluginChains$Youngest" (7 : Nat) "PluginChains$Youngest" "h" "LPluginChains$Host;") ∈ lw_all := lw_g (lw_at lw_m13 5 rfl) rfl
theorem q2966 : (Jvm.Cond.laysFinal "PluginChains$Youngest" "PluginChains$Youngest" "h" "LPluginChains$Host;") ∈ lw_all := lw_g (lw_at lw_m13 6 rfl) rfl
theorem q2967 : (Jvm.Cond.soleField "PluginChains$Youngest" "h") ∈ lw_all := lw_g (lw_at lw_m13 7 rfl) rfl
theorem q2968 : (Jvm.Cond.superclass "PluginChains$Youngest" "java/lang/Object") ∈ lw_all := lw_g (lw_at lw_m13 8 rfl) rfl
theorem q4081 : (Jvm.Cond.castable "PluginChains$Youngest" "java/lang/Object") ∈ lw_tbl := lw_at lw_m17 161 rfl
theorem in_X24 : ∀ w ∈ wsX240, w ∈ lw_all := lw_in wsX240 [2966] (by decide +kernel) (by decide +kernel)

/-! PluginChains$Ages -/
set_option maxRecDepth 100000
def RX25 : String := "PluginChains$Ages"
def TX25 : u_T := fun k => match k with
  | _ => ("PluginChains$Ages", "byAge", "Ljava/util/TreeMap;", true)
def tyX25 : Nat → FieldType := fun k => match k with
  | _ => .object "java/util/TreeMap"
abbrev wsX250 : List Cond := u_ws RX25 TX25 1
theorem nmX25 : ∀ a, a < 1 → ∀ b, b < 1 → a ≠ b → (TX25 a).2.1 ≠ (TX25 b).2.1 := by decide +kernel
theorem tyX25_ok : ∀ k, k < 1 → parseFieldDescriptor (TX25 k).2.2.1 = some (tyX25 k) := by decide +kernel
abbrev cX25_init : ByteArray := prog_3_method_1_code
def yX25_init : MethodName := ⟨RX25, "<init>", "(LPluginChains$Host;)V"⟩
def dkwX25_init_2 : List UInt8 := [28, 184, 0, 30, 182, 0, 36, 87, 132, 2, 1, 167, 255, 216, 177]
abbrev dktX25_init_2 : List UInt8 := dkwX25_init_2 ++ []
def dkwX25_init_1 : List UInt8 := [162, 0, 38, 43, 28, 182, 0, 22, 153, 0, 24, 42, 180, 0, 10, 43, 180, 0, 26, 28, 46, 184, 0, 30]
abbrev dktX25_init_1 : List UInt8 := dkwX25_init_1 ++ dktX25_init_2
def dkwX25_init_0 : List UInt8 := [42, 183, 0, 1, 42, 187, 0, 7, 89, 183, 0, 9, 181, 0, 10, 3, 61, 28, 43, 180, 0, 16]
abbrev dktX25_init_0 : List UInt8 := dkwX25_init_0 ++ dktX25_init_1
theorem dksX25_init_0 : cX25_init.data.toList.drop 0 = dktX25_init_0 := by decide +kernel
theorem dksX25_init_1 : cX25_init.data.toList.drop 22 = dktX25_init_1 := dk_seg dksX25_init_0 22 rfl rfl
theorem dksX25_init_2 : cX25_init.data.toList.drop 46 = dktX25_init_2 := dk_seg dksX25_init_1 24 rfl rfl
theorem dX25_init_0 : decode cX25_init 0 = .ok (.aload_n 0, 1) := dk_42 (dk_at dksX25_init_0 0 rfl rfl)
theorem dX25_init_1 : decode cX25_init 1 = .ok (.invokespecial 1, 3) := dk_183 0 1 (dk_at dksX25_init_0 1 rfl rfl)
theorem dX25_init_4 : decode cX25_init 4 = .ok (.aload_n 0, 1) := dk_42 (dk_at dksX25_init_0 4 rfl rfl)
theorem dX25_init_5 : decode cX25_init 5 = .ok (.new 7, 3) := dk_187 0 7 (dk_at dksX25_init_0 5 rfl rfl)
theorem dX25_init_8 : decode cX25_init 8 = .ok (.dup, 1) := dk_89 (dk_at dksX25_init_0 8 rfl rfl)
theorem dX25_init_9 : decode cX25_init 9 = .ok (.invokespecial 9, 3) := dk_183 0 9 (dk_at dksX25_init_0 9 rfl rfl)
theorem dX25_init_12 : decode cX25_init 12 = .ok (.putfield 10, 3) := dk_181 0 10 (dk_at dksX25_init_0 12 rfl rfl)
theorem dX25_init_15 : decode cX25_init 15 = .ok (.iconst 0, 1) := dk_3 (dk_at dksX25_init_0 15 rfl rfl)
theorem dX25_init_16 : decode cX25_init 16 = .ok (.istore_n 2, 1) := dk_61 (dk_at dksX25_init_0 16 rfl rfl)
theorem dX25_init_17 : decode cX25_init 17 = .ok (.iload_n 2, 1) := dk_28 (dk_at dksX25_init_0 17 rfl rfl)
theorem dX25_init_18 : decode cX25_init 18 = .ok (.aload_n 1, 1) := dk_43 (dk_at dksX25_init_0 18 rfl rfl)
theorem dX25_init_19 : decode cX25_init 19 = .ok (.getfield 16, 3) := dk_180 0 16 (dk_at dksX25_init_0 19 rfl rfl)
theorem dX25_init_22 : decode cX25_init 22 = .ok (.if_icmp .ge 38, 3) := dk_162 0 38 (dk_at dksX25_init_1 0 rfl rfl)
theorem dX25_init_25 : decode cX25_init 25 = .ok (.aload_n 1, 1) := dk_43 (dk_at dksX25_init_1 3 rfl rfl)
theorem dX25_init_26 : decode cX25_init 26 = .ok (.iload_n 2, 1) := dk_28 (dk_at dksX25_init_1 4 rfl rfl)
theorem dX25_init_27 : decode cX25_init 27 = .ok (.invokevirtual 22, 3) := dk_182 0 22 (dk_at dksX25_init_1 5 rfl rfl)
theorem dX25_init_30 : decode cX25_init 30 = .ok (.ifCond .eq 24, 3) := dk_153 0 24 (dk_at dksX25_init_1 8 rfl rfl)
theorem dX25_init_33 : decode cX25_init 33 = .ok (.aload_n 0, 1) := dk_42 (dk_at dksX25_init_1 11 rfl rfl)
theorem dX25_init_34 : decode cX25_init 34 = .ok (.getfield 10, 3) := dk_180 0 10 (dk_at dksX25_init_1 12 rfl rfl)
theorem dX25_init_37 : decode cX25_init 37 = .ok (.aload_n 1, 1) := dk_43 (dk_at dksX25_init_1 15 rfl rfl)
theorem dX25_init_38 : decode cX25_init 38 = .ok (.getfield 26, 3) := dk_180 0 26 (dk_at dksX25_init_1 16 rfl rfl)
theorem dX25_init_41 : decode cX25_init 41 = .ok (.iload_n 2, 1) := dk_28 (dk_at dksX25_init_1 19 rfl rfl)
theorem dX25_init_42 : decode cX25_init 42 = .ok (.iaload, 1) := dk_46 (dk_at dksX25_init_1 20 rfl rfl)
theorem dX25_init_43 : decode cX25_init 43 = .ok (.invokestatic 30, 3) := dk_184 0 30 (dk_at dksX25_init_1 21 rfl rfl)
theorem dX25_init_46 : decode cX25_init 46 = .ok (.iload_n 2, 1) := dk_28 (dk_at dksX25_init_2 0 rfl rfl)
theorem dX25_init_47 : decode cX25_init 47 = .ok (.invokestatic 30, 3) := dk_184 0 30 (dk_at dksX25_init_2 1 rfl rfl)
theorem dX25_init_50 : decode cX25_init 50 = .ok (.invokevirtual 36, 3) := dk_182 0 36 (dk_at dksX25_init_2 4 rfl rfl)
theorem dX25_init_53 : decode cX25_init 53 = .ok (.pop, 1) := dk_87 (dk_at dksX25_init_2 7 rfl rfl)
theorem dX25_init_54 : decode cX25_init 54 = .ok (.iinc 2 1, 3) := dk_132 2 1 (dk_at dksX25_init_2 8 rfl rfl)
theorem dX25_init_57 : decode cX25_init 57 = .ok (.goto (-40), 3) := dk_167 255 216 (dk_at dksX25_init_2 11 rfl rfl)
theorem dX25_init_60 : decode cX25_init 60 = .ok (.return_, 1) := dk_177 (dk_at dksX25_init_2 14 rfl rfl)
abbrev cX25_iterator : ByteArray := prog_3_method_3_code
def yX25_iterator : MethodName := ⟨RX25, "iterator", "()Ljava/util/Iterator;"⟩
def dkwX25_iterator_0 : List UInt8 := [187, 0, 44, 89, 42, 183, 0, 46, 176]
abbrev dktX25_iterator_0 : List UInt8 := dkwX25_iterator_0 ++ []
theorem dksX25_iterator_0 : cX25_iterator.data.toList.drop 0 = dktX25_iterator_0 := by decide +kernel
theorem dX25_iterator_0 : decode cX25_iterator 0 = .ok (.new 44, 3) := dk_187 0 44 (dk_at dksX25_iterator_0 0 rfl rfl)
theorem dX25_iterator_3 : decode cX25_iterator 3 = .ok (.dup, 1) := dk_89 (dk_at dksX25_iterator_0 3 rfl rfl)
theorem dX25_iterator_4 : decode cX25_iterator 4 = .ok (.aload_n 0, 1) := dk_42 (dk_at dksX25_iterator_0 4 rfl rfl)
theorem dX25_iterator_5 : decode cX25_iterator 5 = .ok (.invokespecial 46, 3) := dk_183 0 46 (dk_at dksX25_iterator_0 5 rfl rfl)
theorem dX25_iterator_8 : decode cX25_iterator 8 = .ok (.areturn, 1) := dk_176 (dk_at dksX25_iterator_0 8 rfl rfl)
abbrev cX25_many : ByteArray := prog_3_method_2_code
def yX25_many : MethodName := ⟨RX25, "many", "()I"⟩
def dkwX25_many_0 : List UInt8 := [42, 180, 0, 10, 182, 0, 40, 172]
abbrev dktX25_many_0 : List UInt8 := dkwX25_many_0 ++ []
theorem dksX25_many_0 : cX25_many.data.toList.drop 0 = dktX25_many_0 := by decide +kernel
theorem dX25_many_0 : decode cX25_many 0 = .ok (.aload_n 0, 1) := dk_42 (dk_at dksX25_many_0 0 rfl rfl)
theorem dX25_many_1 : decode cX25_many 1 = .ok (.getfield 10, 3) := dk_180 0 10 (dk_at dksX25_many_0 1 rfl rfl)
theorem dX25_many_4 : decode cX25_many 4 = .ok (.invokevirtual 40, 3) := dk_182 0 40 (dk_at dksX25_many_0 4 rfl rfl)
theorem dX25_many_7 : decode cX25_many 7 = .ok (.ireturn, 1) := dk_172 (dk_at dksX25_many_0 7 rfl rfl)
theorem q154 : (Jvm.Cond.initialized "PluginChains$Ages") ∈ lw_all := lw_g (lw_at lw_m1 74 rfl) rfl
theorem q250 : (Jvm.Cond.fieldLink "PluginChains$Ages" (16 : Nat) "PluginChains$Host" "many" "I") ∈ lw_all := lw_g (lw_at lw_m1 170 rfl) rfl
theorem q274 : (Jvm.Cond.fieldLink "PluginChains$Ages" (26 : Nat) "PluginChains$Host" "age" "[I") ∈ lw_all := lw_g (lw_at lw_m1 194 rfl) rfl
theorem q1301 : (Jvm.Cond.selects "PluginChains$Ages" ({ cls := "java/lang/Object", name := "getClass", desc := "()Ljava/lang/Class;" } : Jvm.MethodName) ({ cls := "java/lang/Object", name := "getClass", desc := "()Ljava/lang/Class;" } : Jvm.MethodName)) ∈ lw_all := lw_g (lw_at lw_m6 21 rfl) rfl
theorem q3004 : (Jvm.Cond.instantiable "PluginChains$Ages" (1 : Nat)) ∈ lw_all := lw_g (lw_at lw_m13 44 rfl) rfl
theorem q3006 : (Jvm.Cond.instanceMethod ({ cls := "PluginChains$Ages", name := "<init>", desc := "(LPluginChains$Host;)V" } : Jvm.MethodName)) ∈ lw_all := lw_g (lw_at lw_m13 46 rfl) rfl
theorem q3007 : (Jvm.Cond.code ({ cls := "PluginChains$Ages", name := "<init>", desc := "(LPluginChains$Host;)V" } : Jvm.MethodName) prog_3_method_1_code (3 : Nat) (Option.none : Option Jvm.ClassFile.FieldType)) ∈ lw_all := lw_g (lw_at lw_m13 47 rfl) rfl
theorem q3008 : (Jvm.Cond.methodLink "PluginChains$Ages" (1 : Nat) ({ cls := "java/lang/Object", name := "<init>", desc := "()V" } : Jvm.MethodName)) ∈ lw_all := lw_g (lw_at lw_m13 48 rfl) rfl
theorem q3009 : (Jvm.Cond.classLink "PluginChains$Ages" (7 : Nat) "java/util/TreeMap") ∈ lw_all := lw_g (lw_at lw_m13 49 rfl) rfl
theorem q3010 : (Jvm.Cond.methodLink "PluginChains$Ages" (9 : Nat) ({ cls := "java/util/TreeMap", name := "<init>", desc := "()V" } : Jvm.MethodName)) ∈ lw_all := lw_g (lw_at lw_m13 50 rfl) rfl
theorem q3011 : (Jvm.Cond.methodLink "PluginChains$Ages" (22 : Nat) ({ cls := "PluginChains$Host", name := "runs", desc := "(I)Z" } : Jvm.MethodName)) ∈ lw_all := lw_g (lw_at lw_m13 51 rfl) rfl
theorem q3012 : (Jvm.Cond.methodLink "PluginChains$Ages" (30 : Nat) ({ cls := "java/lang/Integer", name := "valueOf", desc := "(I)Ljava/lang/Integer;" } : Jvm.MethodName)) ∈ lw_all := lw_g (lw_at lw_m13 52 rfl) rfl
theorem q3013 : (Jvm.Cond.methodLink "PluginChains$Ages" (36 : Nat) ({ cls := "java/util/TreeMap", name := "put", desc := "(Ljava/lang/Object;Ljava/lang/Object;)Ljava/lang/Object;" } : Jvm.MethodName)) ∈ lw_all := lw_g (lw_at lw_m13 53 rfl) rfl
theorem q3014 : (Jvm.Cond.fieldLink "PluginChains$Ages" (10 : Nat) "PluginChains$Ages" "byAge" "Ljava/util/TreeMap;") ∈ lw_all := lw_g (lw_at lw_m13 54 rfl) rfl
theorem q3016 : (Jvm.Cond.laysFinal "PluginChains$Ages" "PluginChains$Ages" "byAge" "Ljava/util/TreeMap;") ∈ lw_all := lw_g (lw_at lw_m13 56 rfl) rfl
theorem q3017 : (Jvm.Cond.soleField "PluginChains$Ages" "byAge") ∈ lw_all := lw_g (lw_at lw_m13 57 rfl) rfl
theorem q3018 : (Jvm.Cond.superclass "PluginChains$Ages" "java/lang/Object") ∈ lw_all := lw_g (lw_at lw_m13 58 rfl) rfl
theorem q3020 : (Jvm.Cond.instanceMethod ({ cls := "PluginChains$Ages", name := "iterator", desc := "()Ljava/util/Iterator;" } : Jvm.MethodName)) ∈ lw_all := lw_g (lw_at lw_m13 60 rfl) rfl
theorem q3021 : (Jvm.Cond.selects "PluginChains$Ages" ({ cls := "PluginChains$Ages", name := "iterator", desc := "()Ljava/util/Iterator;" } : Jvm.MethodName) ({ cls := "PluginChains$Ages", name := "iterator", desc := "()Ljava/util/Iterator;" } : Jvm.MethodName)) ∈ lw_all := lw_g (lw_at lw_m13 61 rfl) rfl
theorem q3022 : (Jvm.Cond.code ({ cls := "PluginChains$Ages", name := "iterator", desc := "()Ljava/util/Iterator;" } : Jvm.MethodName) prog_3_method_3_code (1 : Nat) (Option.some (Jvm.ClassFile.FieldType.object "java/util/Iterator"))) ∈ lw_all := lw_g (lw_at lw_m13 62 rfl) rfl
theorem q3023 : (Jvm.Cond.classLink "PluginChains$Ages" (44 : Nat) "PluginChains$Ages$Walk") ∈ lw_all := lw_g (lw_at lw_m13 63 rfl) rfl
theorem q3025 : (Jvm.Cond.methodLink "PluginChains$Ages" (46 : Nat) ({ cls := "PluginChains$Ages$Walk", name := "<init>", desc := "(LPluginChains$Ages;)V" } : Jvm.MethodName)) ∈ lw_all := lw_g (lw_at lw_m13 65 rfl) rfl
theorem q3485 : (Jvm.Cond.instanceMethod ({ cls := "PluginChains$Ages", name := "many", desc := "()I" } : Jvm.MethodName)) ∈ lw_all := lw_g (lw_at lw_m15 45 rfl) rfl
theorem q3486 : (Jvm.Cond.selects "PluginChains$Ages" ({ cls := "PluginChains$Ages", name := "many", desc := "()I" } : Jvm.MethodName) ({ cls := "PluginChains$Ages", name := "many", desc := "()I" } : Jvm.MethodName)) ∈ lw_all := lw_g (lw_at lw_m15 46 rfl) rfl
theorem q3487 : (Jvm.Cond.code ({ cls := "PluginChains$Ages", name := "many", desc := "()I" } : Jvm.MethodName) prog_3_method_2_code (1 : Nat) (Option.some Jvm.ClassFile.FieldType.int)) ∈ lw_all := lw_g (lw_at lw_m15 47 rfl) rfl
theorem q3488 : (Jvm.Cond.methodLink "PluginChains$Ages" (40 : Nat) ({ cls := "java/util/TreeMap", name := "size", desc := "()I" } : Jvm.MethodName)) ∈ lw_all := lw_g (lw_at lw_m15 48 rfl) rfl
theorem q4082 : (Jvm.Cond.castable "PluginChains$Ages" "java/lang/Object") ∈ lw_tbl := lw_at lw_m17 162 rfl
theorem in_X25 : ∀ w ∈ wsX250, w ∈ lw_all := lw_in wsX250 [3016] (by decide +kernel) (by decide +kernel)

/-! PluginChains$Ages$Walk -/
set_option maxRecDepth 100000
def RX26 : String := "PluginChains$Ages$Walk"
def TX26 : u_T := fun k => match k with
  | 0 => ("PluginChains$Ages$Walk", "left", "I", false)
  | 1 => ("PluginChains$Ages$Walk", "at", "I", false)
  | _ => ("PluginChains$Ages$Walk", "this$0", "LPluginChains$Ages;", true)
def tyX26 : Nat → FieldType := fun k => match k with
  | 0 => .int
  | 1 => .int
  | _ => .object "PluginChains$Ages"
abbrev wsX260 : List Cond := u_ws RX26 TX26 3
theorem nmX26 : ∀ a, a < 3 → ∀ b, b < 3 → a ≠ b → (TX26 a).2.1 ≠ (TX26 b).2.1 := by decide +kernel
theorem tyX26_ok : ∀ k, k < 3 → parseFieldDescriptor (TX26 k).2.2.1 = some (tyX26 k) := by decide +kernel
abbrev cX26_hasNext : ByteArray := prog_4_method_2_code
def yX26_hasNext : MethodName := ⟨RX26, "hasNext", "()Z"⟩
def dkwX26_hasNext_0 : List UInt8 := [42, 180, 0, 27, 158, 0, 7, 4, 167, 0, 4, 3, 172]
abbrev dktX26_hasNext_0 : List UInt8 := dkwX26_hasNext_0 ++ []
theorem dksX26_hasNext_0 : cX26_hasNext.data.toList.drop 0 = dktX26_hasNext_0 := by decide +kernel
theorem dX26_hasNext_0 : decode cX26_hasNext 0 = .ok (.aload_n 0, 1) := dk_42 (dk_at dksX26_hasNext_0 0 rfl rfl)
theorem dX26_hasNext_1 : decode cX26_hasNext 1 = .ok (.getfield 27, 3) := dk_180 0 27 (dk_at dksX26_hasNext_0 1 rfl rfl)
theorem dX26_hasNext_4 : decode cX26_hasNext 4 = .ok (.ifCond .le 7, 3) := dk_158 0 7 (dk_at dksX26_hasNext_0 4 rfl rfl)
theorem dX26_hasNext_7 : decode cX26_hasNext 7 = .ok (.iconst 1, 1) := dk_4 (dk_at dksX26_hasNext_0 7 rfl rfl)
theorem dX26_hasNext_8 : decode cX26_hasNext 8 = .ok (.goto 4, 3) := dk_167 0 4 (dk_at dksX26_hasNext_0 8 rfl rfl)
theorem dX26_hasNext_11 : decode cX26_hasNext 11 = .ok (.iconst 0, 1) := dk_3 (dk_at dksX26_hasNext_0 11 rfl rfl)
theorem dX26_hasNext_12 : decode cX26_hasNext 12 = .ok (.ireturn, 1) := dk_172 (dk_at dksX26_hasNext_0 12 rfl rfl)
abbrev cX26_next : ByteArray := prog_4_method_4_code
def yX26_next : MethodName := ⟨RX26, "next", "()Ljava/lang/Object;"⟩
theorem dX26_next_0 : decode cX26_next 0 = .ok (.aload_n 0, 1) := by decide +kernel
theorem dX26_next_1 : decode cX26_next 1 = .ok (.invokevirtual 50, 3) := by decide +kernel
theorem dX26_next_4 : decode cX26_next 4 = .ok (.areturn, 1) := by decide +kernel
abbrev cX26_next_2 : ByteArray := prog_4_method_3_code
def yX26_next_2 : MethodName := ⟨RX26, "next", "()Ljava/lang/Integer;"⟩
def dkwX26_next_2_2 : List UInt8 := [184, 0, 34, 182, 0, 47, 192, 0, 35, 176]
abbrev dktX26_next_2_2 : List UInt8 := dkwX26_next_2_2 ++ []
def dkwX26_next_2_1 : List UInt8 := [181, 0, 31, 42, 89, 180, 0, 27, 4, 100, 181, 0, 27, 42, 180, 0, 3, 180, 0, 15, 42, 180, 0, 31]
abbrev dktX26_next_2_1 : List UInt8 := dkwX26_next_2_1 ++ dktX26_next_2_2
def dkwX26_next_2_0 : List UInt8 := [42, 42, 180, 0, 3, 180, 0, 15, 42, 180, 0, 31, 184, 0, 34, 182, 0, 40, 192, 0, 35, 182, 0, 44]
abbrev dktX26_next_2_0 : List UInt8 := dkwX26_next_2_0 ++ dktX26_next_2_1
theorem dksX26_next_2_0 : cX26_next_2.data.toList.drop 0 = dktX26_next_2_0 := by decide +kernel
theorem dksX26_next_2_1 : cX26_next_2.data.toList.drop 24 = dktX26_next_2_1 := dk_seg dksX26_next_2_0 24 rfl rfl
theorem dksX26_next_2_2 : cX26_next_2.data.toList.drop 48 = dktX26_next_2_2 := dk_seg dksX26_next_2_1 24 rfl rfl
theorem dX26_next_2_0 : decode cX26_next_2 0 = .ok (.aload_n 0, 1) := dk_42 (dk_at dksX26_next_2_0 0 rfl rfl)
theorem dX26_next_2_1 : decode cX26_next_2 1 = .ok (.aload_n 0, 1) := dk_42 (dk_at dksX26_next_2_0 1 rfl rfl)
theorem dX26_next_2_2 : decode cX26_next_2 2 = .ok (.getfield 3, 3) := dk_180 0 3 (dk_at dksX26_next_2_0 2 rfl rfl)
theorem dX26_next_2_5 : decode cX26_next_2 5 = .ok (.getfield 15, 3) := dk_180 0 15 (dk_at dksX26_next_2_0 5 rfl rfl)
theorem dX26_next_2_8 : decode cX26_next_2 8 = .ok (.aload_n 0, 1) := dk_42 (dk_at dksX26_next_2_0 8 rfl rfl)
theorem dX26_next_2_9 : decode cX26_next_2 9 = .ok (.getfield 31, 3) := dk_180 0 31 (dk_at dksX26_next_2_0 9 rfl rfl)
theorem dX26_next_2_12 : decode cX26_next_2 12 = .ok (.invokestatic 34, 3) := dk_184 0 34 (dk_at dksX26_next_2_0 12 rfl rfl)
theorem dX26_next_2_15 : decode cX26_next_2 15 = .ok (.invokevirtual 40, 3) := dk_182 0 40 (dk_at dksX26_next_2_0 15 rfl rfl)
theorem dX26_next_2_18 : decode cX26_next_2 18 = .ok (.checkcast 35, 3) := dk_192 0 35 (dk_at dksX26_next_2_0 18 rfl rfl)
theorem dX26_next_2_21 : decode cX26_next_2 21 = .ok (.invokevirtual 44, 3) := dk_182 0 44 (dk_at dksX26_next_2_0 21 rfl rfl)
theorem dX26_next_2_24 : decode cX26_next_2 24 = .ok (.putfield 31, 3) := dk_181 0 31 (dk_at dksX26_next_2_1 0 rfl rfl)
theorem dX26_next_2_27 : decode cX26_next_2 27 = .ok (.aload_n 0, 1) := dk_42 (dk_at dksX26_next_2_1 3 rfl rfl)
theorem dX26_next_2_28 : decode cX26_next_2 28 = .ok (.dup, 1) := dk_89 (dk_at dksX26_next_2_1 4 rfl rfl)
theorem dX26_next_2_29 : decode cX26_next_2 29 = .ok (.getfield 27, 3) := dk_180 0 27 (dk_at dksX26_next_2_1 5 rfl rfl)
theorem dX26_next_2_32 : decode cX26_next_2 32 = .ok (.iconst 1, 1) := dk_4 (dk_at dksX26_next_2_1 8 rfl rfl)
theorem dX26_next_2_33 : decode cX26_next_2 33 = .ok (.isub, 1) := dk_100 (dk_at dksX26_next_2_1 9 rfl rfl)
theorem dX26_next_2_34 : decode cX26_next_2 34 = .ok (.putfield 27, 3) := dk_181 0 27 (dk_at dksX26_next_2_1 10 rfl rfl)
theorem dX26_next_2_37 : decode cX26_next_2 37 = .ok (.aload_n 0, 1) := dk_42 (dk_at dksX26_next_2_1 13 rfl rfl)
theorem dX26_next_2_38 : decode cX26_next_2 38 = .ok (.getfield 3, 3) := dk_180 0 3 (dk_at dksX26_next_2_1 14 rfl rfl)
theorem dX26_next_2_41 : decode cX26_next_2 41 = .ok (.getfield 15, 3) := dk_180 0 15 (dk_at dksX26_next_2_1 17 rfl rfl)
theorem dX26_next_2_44 : decode cX26_next_2 44 = .ok (.aload_n 0, 1) := dk_42 (dk_at dksX26_next_2_1 20 rfl rfl)
theorem dX26_next_2_45 : decode cX26_next_2 45 = .ok (.getfield 31, 3) := dk_180 0 31 (dk_at dksX26_next_2_1 21 rfl rfl)
theorem dX26_next_2_48 : decode cX26_next_2 48 = .ok (.invokestatic 34, 3) := dk_184 0 34 (dk_at dksX26_next_2_2 0 rfl rfl)
theorem dX26_next_2_51 : decode cX26_next_2 51 = .ok (.invokevirtual 47, 3) := dk_182 0 47 (dk_at dksX26_next_2_2 3 rfl rfl)
theorem dX26_next_2_54 : decode cX26_next_2 54 = .ok (.checkcast 35, 3) := dk_192 0 35 (dk_at dksX26_next_2_2 6 rfl rfl)
theorem dX26_next_2_57 : decode cX26_next_2 57 = .ok (.areturn, 1) := dk_176 (dk_at dksX26_next_2_2 9 rfl rfl)
abbrev cX26_init : ByteArray := prog_4_method_1_code
def yX26_init : MethodName := ⟨RX26, "<init>", "(LPluginChains$Ages;)V"⟩
def dkwX26_init_1 : List UInt8 := [2, 181, 0, 31, 177]
abbrev dktX26_init_1 : List UInt8 := dkwX26_init_1 ++ []
def dkwX26_init_0 : List UInt8 := [42, 43, 181, 0, 3, 42, 183, 0, 9, 42, 42, 180, 0, 3, 180, 0, 15, 182, 0, 21, 181, 0, 27, 42]
abbrev dktX26_init_0 : List UInt8 := dkwX26_init_0 ++ dktX26_init_1
theorem dksX26_init_0 : cX26_init.data.toList.drop 0 = dktX26_init_0 := by decide +kernel
theorem dksX26_init_1 : cX26_init.data.toList.drop 24 = dktX26_init_1 := dk_seg dksX26_init_0 24 rfl rfl
theorem dX26_init_0 : decode cX26_init 0 = .ok (.aload_n 0, 1) := dk_42 (dk_at dksX26_init_0 0 rfl rfl)
theorem dX26_init_1 : decode cX26_init 1 = .ok (.aload_n 1, 1) := dk_43 (dk_at dksX26_init_0 1 rfl rfl)
theorem dX26_init_2 : decode cX26_init 2 = .ok (.putfield 3, 3) := dk_181 0 3 (dk_at dksX26_init_0 2 rfl rfl)
theorem dX26_init_5 : decode cX26_init 5 = .ok (.aload_n 0, 1) := dk_42 (dk_at dksX26_init_0 5 rfl rfl)
theorem dX26_init_6 : decode cX26_init 6 = .ok (.invokespecial 9, 3) := dk_183 0 9 (dk_at dksX26_init_0 6 rfl rfl)
theorem dX26_init_9 : decode cX26_init 9 = .ok (.aload_n 0, 1) := dk_42 (dk_at dksX26_init_0 9 rfl rfl)
theorem dX26_init_10 : decode cX26_init 10 = .ok (.aload_n 0, 1) := dk_42 (dk_at dksX26_init_0 10 rfl rfl)
theorem dX26_init_11 : decode cX26_init 11 = .ok (.getfield 3, 3) := dk_180 0 3 (dk_at dksX26_init_0 11 rfl rfl)
theorem dX26_init_14 : decode cX26_init 14 = .ok (.getfield 15, 3) := dk_180 0 15 (dk_at dksX26_init_0 14 rfl rfl)
theorem dX26_init_17 : decode cX26_init 17 = .ok (.invokevirtual 21, 3) := dk_182 0 21 (dk_at dksX26_init_0 17 rfl rfl)
theorem dX26_init_20 : decode cX26_init 20 = .ok (.putfield 27, 3) := dk_181 0 27 (dk_at dksX26_init_0 20 rfl rfl)
theorem dX26_init_23 : decode cX26_init 23 = .ok (.aload_n 0, 1) := dk_42 (dk_at dksX26_init_0 23 rfl rfl)
theorem dX26_init_24 : decode cX26_init 24 = .ok (.iconst (-1), 1) := dk_2 (dk_at dksX26_init_1 0 rfl rfl)
theorem dX26_init_25 : decode cX26_init 25 = .ok (.putfield 31, 3) := dk_181 0 31 (dk_at dksX26_init_1 1 rfl rfl)
theorem dX26_init_28 : decode cX26_init 28 = .ok (.return_, 1) := dk_177 (dk_at dksX26_init_1 4 rfl rfl)
theorem q155 : (Jvm.Cond.initialized "PluginChains$Ages$Walk") ∈ lw_all := lw_g (lw_at lw_m1 75 rfl) rfl
theorem q1302 : (Jvm.Cond.selects "PluginChains$Ages$Walk" ({ cls := "java/lang/Object", name := "getClass", desc := "()Ljava/lang/Class;" } : Jvm.MethodName) ({ cls := "java/lang/Object", name := "getClass", desc := "()Ljava/lang/Class;" } : Jvm.MethodName)) ∈ lw_all := lw_g (lw_at lw_m6 22 rfl) rfl
theorem q2149 : (Jvm.Cond.castable "PluginChains$Ages$Walk" "java/util/Iterator") ∈ lw_tbl := lw_at lw_m9 149 rfl
theorem q2150 : (Jvm.Cond.selects "PluginChains$Ages$Walk" ({ cls := "java/util/Iterator", name := "hasNext", desc := "()Z" } : Jvm.MethodName) ({ cls := "PluginChains$Ages$Walk", name := "hasNext", desc := "()Z" } : Jvm.MethodName)) ∈ lw_all := lw_g (lw_at lw_m9 150 rfl) rfl
theorem q2151 : (Jvm.Cond.unhidden "PluginChains$Ages$Walk" "hasNext" "()Z") ∈ lw_tbl := lw_at lw_m9 151 rfl
theorem q2152 : (Jvm.Cond.instanceMethod ({ cls := "PluginChains$Ages$Walk", name := "hasNext", desc := "()Z" } : Jvm.MethodName)) ∈ lw_all := lw_g (lw_at lw_m9 152 rfl) rfl
theorem q2153 : (Jvm.Cond.publicMethod ({ cls := "PluginChains$Ages$Walk", name := "hasNext", desc := "()Z" } : Jvm.MethodName)) ∈ lw_tbl := lw_at lw_m9 153 rfl
theorem q2154 : (Jvm.Cond.code ({ cls := "PluginChains$Ages$Walk", name := "hasNext", desc := "()Z" } : Jvm.MethodName) prog_4_method_2_code (1 : Nat) (Option.some Jvm.ClassFile.FieldType.boolean)) ∈ lw_all := lw_g (lw_at lw_m9 154 rfl) rfl
theorem q2199 : (Jvm.Cond.selects "PluginChains$Ages$Walk" ({ cls := "java/util/Iterator", name := "next", desc := "()Ljava/lang/Object;" } : Jvm.MethodName) ({ cls := "PluginChains$Ages$Walk", name := "next", desc := "()Ljava/lang/Object;" } : Jvm.MethodName)) ∈ lw_all := lw_g (lw_at lw_m9 199 rfl) rfl
theorem q2200 : (Jvm.Cond.unhidden "PluginChains$Ages$Walk" "next" "()Ljava/lang/Object;") ∈ lw_tbl := lw_at lw_m9 200 rfl
theorem q2201 : (Jvm.Cond.instanceMethod ({ cls := "PluginChains$Ages$Walk", name := "next", desc := "()Ljava/lang/Object;" } : Jvm.MethodName)) ∈ lw_all := lw_g (lw_at lw_m9 201 rfl) rfl
theorem q2202 : (Jvm.Cond.publicMethod ({ cls := "PluginChains$Ages$Walk", name := "next", desc := "()Ljava/lang/Object;" } : Jvm.MethodName)) ∈ lw_tbl := lw_at lw_m9 202 rfl
theorem q2203 : (Jvm.Cond.code ({ cls := "PluginChains$Ages$Walk", name := "next", desc := "()Ljava/lang/Object;" } : Jvm.MethodName) prog_4_method_4_code (1 : Nat) (Option.some (Jvm.ClassFile.FieldType.object "java/lang/Object"))) ∈ lw_all := lw_g (lw_at lw_m9 203 rfl) rfl
theorem q2204 : (Jvm.Cond.methodLink "PluginChains$Ages$Walk" (50 : Nat) ({ cls := "PluginChains$Ages$Walk", name := "next", desc := "()Ljava/lang/Integer;" } : Jvm.MethodName)) ∈ lw_all := lw_g (lw_at lw_m9 204 rfl) rfl
theorem q2205 : (Jvm.Cond.instanceMethod ({ cls := "PluginChains$Ages$Walk", name := "next", desc := "()Ljava/lang/Integer;" } : Jvm.MethodName)) ∈ lw_all := lw_g (lw_at lw_m9 205 rfl) rfl
theorem q2206 : (Jvm.Cond.selects "PluginChains$Ages$Walk" ({ cls := "PluginChains$Ages$Walk", name := "next", desc := "()Ljava/lang/Integer;" } : Jvm.MethodName) ({ cls := "PluginChains$Ages$Walk", name := "next", desc := "()Ljava/lang/Integer;" } : Jvm.MethodName)) ∈ lw_all := lw_g (lw_at lw_m9 206 rfl) rfl
theorem q2207 : (Jvm.Cond.code ({ cls := "PluginChains$Ages$Walk", name := "next", desc := "()Ljava/lang/Integer;" } : Jvm.MethodName) prog_4_method_3_code (1 : Nat) (Option.some (Jvm.ClassFile.FieldType.object "java/lang/Integer"))) ∈ lw_all := lw_g (lw_at lw_m9 207 rfl) rfl
theorem q2208 : (Jvm.Cond.methodLink "PluginChains$Ages$Walk" (34 : Nat) ({ cls := "java/lang/Integer", name := "valueOf", desc := "(I)Ljava/lang/Integer;" } : Jvm.MethodName)) ∈ lw_all := lw_g (lw_at lw_m9 208 rfl) rfl
theorem q2209 : (Jvm.Cond.methodLink "PluginChains$Ages$Walk" (40 : Nat) ({ cls := "java/util/TreeMap", name := "higherKey", desc := "(Ljava/lang/Object;)Ljava/lang/Object;" } : Jvm.MethodName)) ∈ lw_all := lw_g (lw_at lw_m9 209 rfl) rfl
theorem q2217 : (Jvm.Cond.classLink "PluginChains$Ages$Walk" (35 : Nat) "java/lang/Integer") ∈ lw_all := lw_g (lw_at lw_m9 217 rfl) rfl
theorem q2218 : (Jvm.Cond.methodLink "PluginChains$Ages$Walk" (44 : Nat) ({ cls := "java/lang/Integer", name := "intValue", desc := "()I" } : Jvm.MethodName)) ∈ lw_all := lw_g (lw_at lw_m9 218 rfl) rfl
theorem q2219 : (Jvm.Cond.methodLink "PluginChains$Ages$Walk" (47 : Nat) ({ cls := "java/util/TreeMap", name := "get", desc := "(Ljava/lang/Object;)Ljava/lang/Object;" } : Jvm.MethodName)) ∈ lw_all := lw_g (lw_at lw_m9 219 rfl) rfl
theorem q2795 : (Jvm.Cond.unhidden "PluginChains$Ages$Walk" "remove" "()V") ∈ lw_tbl := lw_at lw_m12 75 rfl
theorem q3015 : (Jvm.Cond.fieldLinkNest "PluginChains$Ages$Walk" (15 : Nat) "PluginChains$Ages" "byAge" "Ljava/util/TreeMap;" "PluginChains") ∈ lw_tbl := lw_at lw_m13 55 rfl
theorem q3024 : (Jvm.Cond.instantiable "PluginChains$Ages$Walk" (3 : Nat)) ∈ lw_all := lw_g (lw_at lw_m13 64 rfl) rfl
theorem q3026 : (Jvm.Cond.instanceMethod ({ cls := "PluginChains$Ages$Walk", name := "<init>", desc := "(LPluginChains$Ages;)V" } : Jvm.MethodName)) ∈ lw_all := lw_g (lw_at lw_m13 66 rfl) rfl
theorem q3027 : (Jvm.Cond.code ({ cls := "PluginChains$Ages$Walk", name := "<init>", desc := "(LPluginChains$Ages;)V" } : Jvm.MethodName) prog_4_method_1_code (2 : Nat) (Option.none : Option Jvm.ClassFile.FieldType)) ∈ lw_all := lw_g (lw_at lw_m13 67 rfl) rfl
theorem q3028 : (Jvm.Cond.methodLink "PluginChains$Ages$Walk" (9 : Nat) ({ cls := "java/lang/Object", name := "<init>", desc := "()V" } : Jvm.MethodName)) ∈ lw_all := lw_g (lw_at lw_m13 68 rfl) rfl
theorem q3029 : (Jvm.Cond.methodLink "PluginChains$Ages$Walk" (21 : Nat) ({ cls := "java/util/TreeMap", name := "size", desc := "()I" } : Jvm.MethodName)) ∈ lw_all := lw_g (lw_at lw_m13 69 rfl) rfl
theorem q3030 : (Jvm.Cond.fieldLink "PluginChains$Ages$Walk" (27 : Nat) "PluginChains$Ages$Walk" "left" "I") ∈ lw_all := lw_g (lw_at lw_m13 70 rfl) rfl
theorem q3031 : (Jvm.Cond.fieldLink "PluginChains$Ages$Walk" (31 : Nat) "PluginChains$Ages$Walk" "at" "I") ∈ lw_all := lw_g (lw_at lw_m13 71 rfl) rfl
theorem q3032 : (Jvm.Cond.fieldLink "PluginChains$Ages$Walk" (3 : Nat) "PluginChains$Ages$Walk" "this$0" "LPluginChains$Ages;") ∈ lw_all := lw_g (lw_at lw_m13 72 rfl) rfl
theorem q3033 : (Jvm.Cond.lays "PluginChains$Ages$Walk" "PluginChains$Ages$Walk" "left" "I") ∈ lw_all := lw_g (lw_at lw_m13 73 rfl) rfl
theorem q3034 : (Jvm.Cond.soleField "PluginChains$Ages$Walk" "left") ∈ lw_all := lw_g (lw_at lw_m13 74 rfl) rfl
theorem q3035 : (Jvm.Cond.lays "PluginChains$Ages$Walk" "PluginChains$Ages$Walk" "at" "I") ∈ lw_all := lw_g (lw_at lw_m13 75 rfl) rfl
theorem q3036 : (Jvm.Cond.soleField "PluginChains$Ages$Walk" "at") ∈ lw_all := lw_g (lw_at lw_m13 76 rfl) rfl
theorem q3037 : (Jvm.Cond.laysFinal "PluginChains$Ages$Walk" "PluginChains$Ages$Walk" "this$0" "LPluginChains$Ages;") ∈ lw_all := lw_g (lw_at lw_m13 77 rfl) rfl
theorem q3038 : (Jvm.Cond.soleField "PluginChains$Ages$Walk" "this$0") ∈ lw_all := lw_g (lw_at lw_m13 78 rfl) rfl
theorem q3039 : (Jvm.Cond.superclass "PluginChains$Ages$Walk" "java/lang/Object") ∈ lw_all := lw_g (lw_at lw_m13 79 rfl) rfl
theorem q4083 : (Jvm.Cond.castable "PluginChains$Ages$Walk" "java/lang/Object") ∈ lw_tbl := lw_at lw_m17 163 rfl
theorem in_X26 : ∀ w ∈ wsX260, w ∈ lw_all := lw_in wsX260 [3033, 3035, 3037] (by decide +kernel) (by decide +kernel)

/-! PluginChains$Hook -/
set_option maxRecDepth 100000
def RX27 : String := "PluginChains$Hook"
def TX27 : u_T := fun k => match k with
  | 0 => ("PluginChains$Hook", "index", "I", true)
  | 1 => ("PluginChains$Hook", "plug", "I", true)
  | 2 => ("PluginChains$Hook", "point", "I", true)
  | 3 => ("PluginChains$Hook", "priority", "I", true)
  | 4 => ("PluginChains$Hook", "function", "I", true)
  | _ => ("PluginChains$Hook", "k", "I", true)
def tyX27 : Nat → FieldType := fun k => match k with
  | 0 => .int
  | 1 => .int
  | 2 => .int
  | 3 => .int
  | 4 => .int
  | _ => .int
abbrev wsX270 : List Cond := u_ws RX27 TX27 6
theorem nmX27 : ∀ a, a < 6 → ∀ b, b < 6 → a ≠ b → (TX27 a).2.1 ≠ (TX27 b).2.1 := by decide +kernel
theorem tyX27_ok : ∀ k, k < 6 → parseFieldDescriptor (TX27 k).2.2.1 = some (tyX27 k) := by decide +kernel
abbrev cX27_init : ByteArray := prog_15_method_1_code
def yX27_init : MethodName := ⟨RX27, "<init>", "(IIIIII)V"⟩
def dkwX27_init_1 : List UInt8 := [181, 0, 19, 42, 21, 5, 181, 0, 22, 42, 21, 6, 181, 0, 25, 177]
abbrev dktX27_init_1 : List UInt8 := dkwX27_init_1 ++ []
def dkwX27_init_0 : List UInt8 := [42, 183, 0, 1, 42, 27, 181, 0, 7, 42, 28, 181, 0, 13, 42, 29, 181, 0, 16, 42, 21, 4]
abbrev dktX27_init_0 : List UInt8 := dkwX27_init_0 ++ dktX27_init_1
theorem dksX27_init_0 : cX27_init.data.toList.drop 0 = dktX27_init_0 := by decide +kernel
theorem dksX27_init_1 : cX27_init.data.toList.drop 22 = dktX27_init_1 := dk_seg dksX27_init_0 22 rfl rfl
theorem dX27_init_0 : decode cX27_init 0 = .ok (.aload_n 0, 1) := dk_42 (dk_at dksX27_init_0 0 rfl rfl)
theorem dX27_init_1 : decode cX27_init 1 = .ok (.invokespecial 1, 3) := dk_183 0 1 (dk_at dksX27_init_0 1 rfl rfl)
theorem dX27_init_4 : decode cX27_init 4 = .ok (.aload_n 0, 1) := dk_42 (dk_at dksX27_init_0 4 rfl rfl)
theorem dX27_init_5 : decode cX27_init 5 = .ok (.iload_n 1, 1) := dk_27 (dk_at dksX27_init_0 5 rfl rfl)
theorem dX27_init_6 : decode cX27_init 6 = .ok (.putfield 7, 3) := dk_181 0 7 (dk_at dksX27_init_0 6 rfl rfl)
theorem dX27_init_9 : decode cX27_init 9 = .ok (.aload_n 0, 1) := dk_42 (dk_at dksX27_init_0 9 rfl rfl)
theorem dX27_init_10 : decode cX27_init 10 = .ok (.iload_n 2, 1) := dk_28 (dk_at dksX27_init_0 10 rfl rfl)
theorem dX27_init_11 : decode cX27_init 11 = .ok (.putfield 13, 3) := dk_181 0 13 (dk_at dksX27_init_0 11 rfl rfl)
theorem dX27_init_14 : decode cX27_init 14 = .ok (.aload_n 0, 1) := dk_42 (dk_at dksX27_init_0 14 rfl rfl)
theorem dX27_init_15 : decode cX27_init 15 = .ok (.iload_n 3, 1) := dk_29 (dk_at dksX27_init_0 15 rfl rfl)
theorem dX27_init_16 : decode cX27_init 16 = .ok (.putfield 16, 3) := dk_181 0 16 (dk_at dksX27_init_0 16 rfl rfl)
theorem dX27_init_19 : decode cX27_init 19 = .ok (.aload_n 0, 1) := dk_42 (dk_at dksX27_init_0 19 rfl rfl)
theorem dX27_init_20 : decode cX27_init 20 = .ok (.iload 4, 2) := dk_21 4 (dk_at dksX27_init_0 20 rfl rfl)
theorem dX27_init_22 : decode cX27_init 22 = .ok (.putfield 19, 3) := dk_181 0 19 (dk_at dksX27_init_1 0 rfl rfl)
theorem dX27_init_25 : decode cX27_init 25 = .ok (.aload_n 0, 1) := dk_42 (dk_at dksX27_init_1 3 rfl rfl)
theorem dX27_init_26 : decode cX27_init 26 = .ok (.iload 5, 2) := dk_21 5 (dk_at dksX27_init_1 4 rfl rfl)
theorem dX27_init_28 : decode cX27_init 28 = .ok (.putfield 22, 3) := dk_181 0 22 (dk_at dksX27_init_1 6 rfl rfl)
theorem dX27_init_31 : decode cX27_init 31 = .ok (.aload_n 0, 1) := dk_42 (dk_at dksX27_init_1 9 rfl rfl)
theorem dX27_init_32 : decode cX27_init 32 = .ok (.iload 6, 2) := dk_21 6 (dk_at dksX27_init_1 10 rfl rfl)
theorem dX27_init_34 : decode cX27_init 34 = .ok (.putfield 25, 3) := dk_181 0 25 (dk_at dksX27_init_1 12 rfl rfl)
theorem dX27_init_37 : decode cX27_init 37 = .ok (.return_, 1) := dk_177 (dk_at dksX27_init_1 15 rfl rfl)
theorem q156 : (Jvm.Cond.initialized "PluginChains$Hook") ∈ lw_all := lw_g (lw_at lw_m1 76 rfl) rfl
theorem q1313 : (Jvm.Cond.selects "PluginChains$Hook" ({ cls := "java/lang/Object", name := "getClass", desc := "()Ljava/lang/Class;" } : Jvm.MethodName) ({ cls := "java/lang/Object", name := "getClass", desc := "()Ljava/lang/Class;" } : Jvm.MethodName)) ∈ lw_all := lw_g (lw_at lw_m6 33 rfl) rfl
theorem q3060 : (Jvm.Cond.instantiable "PluginChains$Hook" (6 : Nat)) ∈ lw_all := lw_g (lw_at lw_m13 100 rfl) rfl
theorem q3062 : (Jvm.Cond.instanceMethod ({ cls := "PluginChains$Hook", name := "<init>", desc := "(IIIIII)V" } : Jvm.MethodName)) ∈ lw_all := lw_g (lw_at lw_m13 102 rfl) rfl
theorem q3063 : (Jvm.Cond.code ({ cls := "PluginChains$Hook", name := "<init>", desc := "(IIIIII)V" } : Jvm.MethodName) prog_15_method_1_code (7 : Nat) (Option.none : Option Jvm.ClassFile.FieldType)) ∈ lw_all := lw_g (lw_at lw_m13 103 rfl) rfl
theorem q3064 : (Jvm.Cond.methodLink "PluginChains$Hook" (1 : Nat) ({ cls := "java/lang/Object", name := "<init>", desc := "()V" } : Jvm.MethodName)) ∈ lw_all := lw_g (lw_at lw_m13 104 rfl) rfl
theorem q3065 : (Jvm.Cond.fieldLink "PluginChains$Hook" (7 : Nat) "PluginChains$Hook" "index" "I") ∈ lw_all := lw_g (lw_at lw_m13 105 rfl) rfl
theorem q3069 : (Jvm.Cond.fieldLink "PluginChains$Hook" (13 : Nat) "PluginChains$Hook" "plug" "I") ∈ lw_all := lw_g (lw_at lw_m13 109 rfl) rfl
theorem q3073 : (Jvm.Cond.fieldLink "PluginChains$Hook" (16 : Nat) "PluginChains$Hook" "point" "I") ∈ lw_all := lw_g (lw_at lw_m13 113 rfl) rfl
theorem q3075 : (Jvm.Cond.fieldLink "PluginChains$Hook" (19 : Nat) "PluginChains$Hook" "priority" "I") ∈ lw_all := lw_g (lw_at lw_m13 115 rfl) rfl
theorem q3078 : (Jvm.Cond.fieldLink "PluginChains$Hook" (22 : Nat) "PluginChains$Hook" "function" "I") ∈ lw_all := lw_g (lw_at lw_m13 118 rfl) rfl
theorem q3081 : (Jvm.Cond.fieldLink "PluginChains$Hook" (25 : Nat) "PluginChains$Hook" "k" "I") ∈ lw_all := lw_g (lw_at lw_m13 121 rfl) rfl
theorem q3083 : (Jvm.Cond.laysFinal "PluginChains$Hook" "PluginChains$Hook" "index" "I") ∈ lw_all := lw_g (lw_at lw_m13 123 rfl) rfl
theorem q3084 : (Jvm.Cond.soleField "PluginChains$Hook" "index") ∈ lw_all := lw_g (lw_at lw_m13 124 rfl) rfl
theorem q3085 : (Jvm.Cond.laysFinal "PluginChains$Hook" "PluginChains$Hook" "plug" "I") ∈ lw_all := lw_g (lw_at lw_m13 125 rfl) rfl
theorem q3086 : (Jvm.Cond.soleField "PluginChains$Hook" "plug") ∈ lw_all := lw_g (lw_at lw_m13 126 rfl) rfl
theorem q3087 : (Jvm.Cond.laysFinal "PluginChains$Hook" "PluginChains$Hook" "point" "I") ∈ lw_all := lw_g (lw_at lw_m13 127 rfl) rfl
theorem q3088 : (Jvm.Cond.soleField "PluginChains$Hook" "point") ∈ lw_all := lw_g (lw_at lw_m13 128 rfl) rfl
theorem q3089 : (Jvm.Cond.laysFinal "PluginChains$Hook" "PluginChains$Hook" "priority" "I") ∈ lw_all := lw_g (lw_at lw_m13 129 rfl) rfl
theorem q3090 : (Jvm.Cond.soleField "PluginChains$Hook" "priority") ∈ lw_all := lw_g (lw_at lw_m13 130 rfl) rfl
theorem q3091 : (Jvm.Cond.laysFinal "PluginChains$Hook" "PluginChains$Hook" "function" "I") ∈ lw_all := lw_g (lw_at lw_m13 131 rfl) rfl
theorem q3092 : (Jvm.Cond.soleField "PluginChains$Hook" "function") ∈ lw_all := lw_g (lw_at lw_m13 132 rfl) rfl
theorem q3093 : (Jvm.Cond.laysFinal "PluginChains$Hook" "PluginChains$Hook" "k" "I") ∈ lw_all := lw_g (lw_at lw_m13 133 rfl) rfl
theorem q3094 : (Jvm.Cond.soleField "PluginChains$Hook" "k") ∈ lw_all := lw_g (lw_at lw_m13 134 rfl) rfl
theorem q3095 : (Jvm.Cond.superclass "PluginChains$Hook" "java/lang/Object") ∈ lw_all := lw_g (lw_at lw_m13 135 rfl) rfl
theorem q4047 : (Jvm.Cond.castable "PluginChains$Hook" "java/lang/Object") ∈ lw_tbl := lw_at lw_m17 127 rfl
theorem in_X27 : ∀ w ∈ wsX270, w ∈ lw_all := lw_in wsX270 [3083, 3085, 3087, 3089, 3091, 3093] (by decide +kernel) (by decide +kernel)

/-! PluginChains$ByPriority -/
set_option maxRecDepth 100000
def RX28 : String := "PluginChains$ByPriority"
def TX28 : u_T := fun k => match k with
  | _ => ("PluginChains$ByPriority", "h", "LPluginChains$Host;", true)
def tyX28 : Nat → FieldType := fun k => match k with
  | _ => .object "PluginChains$Host"
abbrev wsX280 : List Cond := u_ws RX28 TX28 1
theorem nmX28 : ∀ a, a < 1 → ∀ b, b < 1 → a ≠ b → (TX28 a).2.1 ≠ (TX28 b).2.1 := by decide +kernel
theorem tyX28_ok : ∀ k, k < 1 → parseFieldDescriptor (TX28 k).2.2.1 = some (tyX28 k) := by decide +kernel
abbrev cX28_compare : ByteArray := prog_6_method_3_code
def yX28_compare : MethodName := ⟨RX28, "compare", "(Ljava/lang/Object;Ljava/lang/Object;)I"⟩
def dkwX28_compare_0 : List UInt8 := [42, 43, 192, 0, 14, 44, 192, 0, 14, 182, 0, 31, 172]
abbrev dktX28_compare_0 : List UInt8 := dkwX28_compare_0 ++ []
theorem dksX28_compare_0 : cX28_compare.data.toList.drop 0 = dktX28_compare_0 := by decide +kernel
theorem dX28_compare_0 : decode cX28_compare 0 = .ok (.aload_n 0, 1) := dk_42 (dk_at dksX28_compare_0 0 rfl rfl)
theorem dX28_compare_1 : decode cX28_compare 1 = .ok (.aload_n 1, 1) := dk_43 (dk_at dksX28_compare_0 1 rfl rfl)
theorem dX28_compare_2 : decode cX28_compare 2 = .ok (.checkcast 14, 3) := dk_192 0 14 (dk_at dksX28_compare_0 2 rfl rfl)
theorem dX28_compare_5 : decode cX28_compare 5 = .ok (.aload_n 2, 1) := dk_44 (dk_at dksX28_compare_0 5 rfl rfl)
theorem dX28_compare_6 : decode cX28_compare 6 = .ok (.checkcast 14, 3) := dk_192 0 14 (dk_at dksX28_compare_0 6 rfl rfl)
theorem dX28_compare_9 : decode cX28_compare 9 = .ok (.invokevirtual 31, 3) := dk_182 0 31 (dk_at dksX28_compare_0 9 rfl rfl)
theorem dX28_compare_12 : decode cX28_compare 12 = .ok (.ireturn, 1) := dk_172 (dk_at dksX28_compare_0 12 rfl rfl)
abbrev cX28_compare_2 : ByteArray := prog_6_method_2_code
def yX28_compare_2 : MethodName := ⟨RX28, "compare", "(LPluginChains$Hook;LPluginChains$Hook;)I"⟩
def dkwX28_compare_2_2 : List UInt8 := [62, 29, 153, 0, 7, 29, 167, 0, 12, 43, 180, 0, 28, 44, 180, 0, 28, 100, 172]
abbrev dktX28_compare_2_2 : List UInt8 := dkwX28_compare_2_2 ++ []
def dkwX28_compare_2_1 : List UInt8 := [180, 0, 7, 180, 0, 19, 43, 180, 0, 25, 46, 42, 180, 0, 7, 180, 0, 19, 44, 180, 0, 25, 46, 100]
abbrev dktX28_compare_2_1 : List UInt8 := dkwX28_compare_2_1 ++ dktX28_compare_2_2
def dkwX28_compare_2_0 : List UInt8 := [43, 180, 0, 13, 44, 180, 0, 13, 159, 0, 13, 44, 180, 0, 13, 43, 180, 0, 13, 100, 172, 42]
abbrev dktX28_compare_2_0 : List UInt8 := dkwX28_compare_2_0 ++ dktX28_compare_2_1
theorem dksX28_compare_2_0 : cX28_compare_2.data.toList.drop 0 = dktX28_compare_2_0 := by decide +kernel
theorem dksX28_compare_2_1 : cX28_compare_2.data.toList.drop 22 = dktX28_compare_2_1 := dk_seg dksX28_compare_2_0 22 rfl rfl
theorem dksX28_compare_2_2 : cX28_compare_2.data.toList.drop 46 = dktX28_compare_2_2 := dk_seg dksX28_compare_2_1 24 rfl rfl
theorem dX28_compare_2_0 : decode cX28_compare_2 0 = .ok (.aload_n 1, 1) := dk_43 (dk_at dksX28_compare_2_0 0 rfl rfl)
theorem dX28_compare_2_1 : decode cX28_compare_2 1 = .ok (.getfield 13, 3) := dk_180 0 13 (dk_at dksX28_compare_2_0 1 rfl rfl)
theorem dX28_compare_2_4 : decode cX28_compare_2 4 = .ok (.aload_n 2, 1) := dk_44 (dk_at dksX28_compare_2_0 4 rfl rfl)
theorem dX28_compare_2_5 : decode cX28_compare_2 5 = .ok (.getfield 13, 3) := dk_180 0 13 (dk_at dksX28_compare_2_0 5 rfl rfl)
theorem dX28_compare_2_8 : decode cX28_compare_2 8 = .ok (.if_icmp .eq 13, 3) := dk_159 0 13 (dk_at dksX28_compare_2_0 8 rfl rfl)
theorem dX28_compare_2_11 : decode cX28_compare_2 11 = .ok (.aload_n 2, 1) := dk_44 (dk_at dksX28_compare_2_0 11 rfl rfl)
theorem dX28_compare_2_12 : decode cX28_compare_2 12 = .ok (.getfield 13, 3) := dk_180 0 13 (dk_at dksX28_compare_2_0 12 rfl rfl)
theorem dX28_compare_2_15 : decode cX28_compare_2 15 = .ok (.aload_n 1, 1) := dk_43 (dk_at dksX28_compare_2_0 15 rfl rfl)
theorem dX28_compare_2_16 : decode cX28_compare_2 16 = .ok (.getfield 13, 3) := dk_180 0 13 (dk_at dksX28_compare_2_0 16 rfl rfl)
theorem dX28_compare_2_19 : decode cX28_compare_2 19 = .ok (.isub, 1) := dk_100 (dk_at dksX28_compare_2_0 19 rfl rfl)
theorem dX28_compare_2_20 : decode cX28_compare_2 20 = .ok (.ireturn, 1) := dk_172 (dk_at dksX28_compare_2_0 20 rfl rfl)
theorem dX28_compare_2_21 : decode cX28_compare_2 21 = .ok (.aload_n 0, 1) := dk_42 (dk_at dksX28_compare_2_0 21 rfl rfl)
theorem dX28_compare_2_22 : decode cX28_compare_2 22 = .ok (.getfield 7, 3) := dk_180 0 7 (dk_at dksX28_compare_2_1 0 rfl rfl)
theorem dX28_compare_2_25 : decode cX28_compare_2 25 = .ok (.getfield 19, 3) := dk_180 0 19 (dk_at dksX28_compare_2_1 3 rfl rfl)
theorem dX28_compare_2_28 : decode cX28_compare_2 28 = .ok (.aload_n 1, 1) := dk_43 (dk_at dksX28_compare_2_1 6 rfl rfl)
theorem dX28_compare_2_29 : decode cX28_compare_2 29 = .ok (.getfield 25, 3) := dk_180 0 25 (dk_at dksX28_compare_2_1 7 rfl rfl)
theorem dX28_compare_2_32 : decode cX28_compare_2 32 = .ok (.iaload, 1) := dk_46 (dk_at dksX28_compare_2_1 10 rfl rfl)
theorem dX28_compare_2_33 : decode cX28_compare_2 33 = .ok (.aload_n 0, 1) := dk_42 (dk_at dksX28_compare_2_1 11 rfl rfl)
theorem dX28_compare_2_34 : decode cX28_compare_2 34 = .ok (.getfield 7, 3) := dk_180 0 7 (dk_at dksX28_compare_2_1 12 rfl rfl)
theorem dX28_compare_2_37 : decode cX28_compare_2 37 = .ok (.getfield 19, 3) := dk_180 0 19 (dk_at dksX28_compare_2_1 15 rfl rfl)
theorem dX28_compare_2_40 : decode cX28_compare_2 40 = .ok (.aload_n 2, 1) := dk_44 (dk_at dksX28_compare_2_1 18 rfl rfl)
theorem dX28_compare_2_41 : decode cX28_compare_2 41 = .ok (.getfield 25, 3) := dk_180 0 25 (dk_at dksX28_compare_2_1 19 rfl rfl)
theorem dX28_compare_2_44 : decode cX28_compare_2 44 = .ok (.iaload, 1) := dk_46 (dk_at dksX28_compare_2_1 22 rfl rfl)
theorem dX28_compare_2_45 : decode cX28_compare_2 45 = .ok (.isub, 1) := dk_100 (dk_at dksX28_compare_2_1 23 rfl rfl)
theorem dX28_compare_2_46 : decode cX28_compare_2 46 = .ok (.istore_n 3, 1) := dk_62 (dk_at dksX28_compare_2_2 0 rfl rfl)
theorem dX28_compare_2_47 : decode cX28_compare_2 47 = .ok (.iload_n 3, 1) := dk_29 (dk_at dksX28_compare_2_2 1 rfl rfl)
theorem dX28_compare_2_48 : decode cX28_compare_2 48 = .ok (.ifCond .eq 7, 3) := dk_153 0 7 (dk_at dksX28_compare_2_2 2 rfl rfl)
theorem dX28_compare_2_51 : decode cX28_compare_2 51 = .ok (.iload_n 3, 1) := dk_29 (dk_at dksX28_compare_2_2 5 rfl rfl)
theorem dX28_compare_2_52 : decode cX28_compare_2 52 = .ok (.goto 12, 3) := dk_167 0 12 (dk_at dksX28_compare_2_2 6 rfl rfl)
theorem dX28_compare_2_55 : decode cX28_compare_2 55 = .ok (.aload_n 1, 1) := dk_43 (dk_at dksX28_compare_2_2 9 rfl rfl)
theorem dX28_compare_2_56 : decode cX28_compare_2 56 = .ok (.getfield 28, 3) := dk_180 0 28 (dk_at dksX28_compare_2_2 10 rfl rfl)
theorem dX28_compare_2_59 : decode cX28_compare_2 59 = .ok (.aload_n 2, 1) := dk_44 (dk_at dksX28_compare_2_2 13 rfl rfl)
theorem dX28_compare_2_60 : decode cX28_compare_2 60 = .ok (.getfield 28, 3) := dk_180 0 28 (dk_at dksX28_compare_2_2 14 rfl rfl)
theorem dX28_compare_2_63 : decode cX28_compare_2 63 = .ok (.isub, 1) := dk_100 (dk_at dksX28_compare_2_2 17 rfl rfl)
theorem dX28_compare_2_64 : decode cX28_compare_2 64 = .ok (.ireturn, 1) := dk_172 (dk_at dksX28_compare_2_2 18 rfl rfl)
abbrev cX28_init : ByteArray := prog_6_method_1_code
def yX28_init : MethodName := ⟨RX28, "<init>", "(LPluginChains$Host;)V"⟩
def dkwX28_init_0 : List UInt8 := [42, 183, 0, 1, 42, 43, 181, 0, 7, 177]
abbrev dktX28_init_0 : List UInt8 := dkwX28_init_0 ++ []
theorem dksX28_init_0 : cX28_init.data.toList.drop 0 = dktX28_init_0 := by decide +kernel
theorem dX28_init_0 : decode cX28_init 0 = .ok (.aload_n 0, 1) := dk_42 (dk_at dksX28_init_0 0 rfl rfl)
theorem dX28_init_1 : decode cX28_init 1 = .ok (.invokespecial 1, 3) := dk_183 0 1 (dk_at dksX28_init_0 1 rfl rfl)
theorem dX28_init_4 : decode cX28_init 4 = .ok (.aload_n 0, 1) := dk_42 (dk_at dksX28_init_0 4 rfl rfl)
theorem dX28_init_5 : decode cX28_init 5 = .ok (.aload_n 1, 1) := dk_43 (dk_at dksX28_init_0 5 rfl rfl)
theorem dX28_init_6 : decode cX28_init 6 = .ok (.putfield 7, 3) := dk_181 0 7 (dk_at dksX28_init_0 6 rfl rfl)
theorem dX28_init_9 : decode cX28_init 9 = .ok (.return_, 1) := dk_177 (dk_at dksX28_init_0 9 rfl rfl)
theorem q157 : (Jvm.Cond.initialized "PluginChains$ByPriority") ∈ lw_all := lw_g (lw_at lw_m1 77 rfl) rfl
theorem q277 : (Jvm.Cond.fieldLink "PluginChains$ByPriority" (19 : Nat) "PluginChains$Host" "age" "[I") ∈ lw_all := lw_g (lw_at lw_m1 197 rfl) rfl
theorem q1002 : (Jvm.Cond.castable "PluginChains$ByPriority" "java/util/Comparator") ∈ lw_tbl := lw_at lw_m4 202 rfl
theorem q1003 : (Jvm.Cond.selects "PluginChains$ByPriority" ({ cls := "java/util/Comparator", name := "compare", desc := "(Ljava/lang/Object;Ljava/lang/Object;)I" } : Jvm.MethodName) ({ cls := "PluginChains$ByPriority", name := "compare", desc := "(Ljava/lang/Object;Ljava/lang/Object;)I" } : Jvm.MethodName)) ∈ lw_all := lw_g (lw_at lw_m4 203 rfl) rfl
theorem q1004 : (Jvm.Cond.unhidden "PluginChains$ByPriority" "compare" "(Ljava/lang/Object;Ljava/lang/Object;)I") ∈ lw_tbl := lw_at lw_m4 204 rfl
theorem q1005 : (Jvm.Cond.instanceMethod ({ cls := "PluginChains$ByPriority", name := "compare", desc := "(Ljava/lang/Object;Ljava/lang/Object;)I" } : Jvm.MethodName)) ∈ lw_all := lw_g (lw_at lw_m4 205 rfl) rfl
theorem q1006 : (Jvm.Cond.publicMethod ({ cls := "PluginChains$ByPriority", name := "compare", desc := "(Ljava/lang/Object;Ljava/lang/Object;)I" } : Jvm.MethodName)) ∈ lw_tbl := lw_at lw_m4 206 rfl
theorem q1007 : (Jvm.Cond.code ({ cls := "PluginChains$ByPriority", name := "compare", desc := "(Ljava/lang/Object;Ljava/lang/Object;)I" } : Jvm.MethodName) prog_6_method_3_code (3 : Nat) (Option.some Jvm.ClassFile.FieldType.int)) ∈ lw_all := lw_g (lw_at lw_m4 207 rfl) rfl
theorem q1008 : (Jvm.Cond.classLink "PluginChains$ByPriority" (14 : Nat) "PluginChains$Hook") ∈ lw_all := lw_g (lw_at lw_m4 208 rfl) rfl
theorem q1009 : (Jvm.Cond.methodLink "PluginChains$ByPriority" (31 : Nat) ({ cls := "PluginChains$ByPriority", name := "compare", desc := "(LPluginChains$Hook;LPluginChains$Hook;)I" } : Jvm.MethodName)) ∈ lw_all := lw_g (lw_at lw_m4 209 rfl) rfl
theorem q1010 : (Jvm.Cond.instanceMethod ({ cls := "PluginChains$ByPriority", name := "compare", desc := "(LPluginChains$Hook;LPluginChains$Hook;)I" } : Jvm.MethodName)) ∈ lw_all := lw_g (lw_at lw_m4 210 rfl) rfl
theorem q1011 : (Jvm.Cond.selects "PluginChains$ByPriority" ({ cls := "PluginChains$ByPriority", name := "compare", desc := "(LPluginChains$Hook;LPluginChains$Hook;)I" } : Jvm.MethodName) ({ cls := "PluginChains$ByPriority", name := "compare", desc := "(LPluginChains$Hook;LPluginChains$Hook;)I" } : Jvm.MethodName)) ∈ lw_all := lw_g (lw_at lw_m4 211 rfl) rfl
theorem q1012 : (Jvm.Cond.code ({ cls := "PluginChains$ByPriority", name := "compare", desc := "(LPluginChains$Hook;LPluginChains$Hook;)I" } : Jvm.MethodName) prog_6_method_2_code (4 : Nat) (Option.some Jvm.ClassFile.FieldType.int)) ∈ lw_all := lw_g (lw_at lw_m4 212 rfl) rfl
theorem q1304 : (Jvm.Cond.selects "PluginChains$ByPriority" ({ cls := "java/lang/Object", name := "getClass", desc := "()Ljava/lang/Class;" } : Jvm.MethodName) ({ cls := "java/lang/Object", name := "getClass", desc := "()Ljava/lang/Class;" } : Jvm.MethodName)) ∈ lw_all := lw_g (lw_at lw_m6 24 rfl) rfl
theorem q3066 : (Jvm.Cond.fieldLink "PluginChains$ByPriority" (28 : Nat) "PluginChains$Hook" "index" "I") ∈ lw_all := lw_g (lw_at lw_m13 106 rfl) rfl
theorem q3070 : (Jvm.Cond.fieldLink "PluginChains$ByPriority" (25 : Nat) "PluginChains$Hook" "plug" "I") ∈ lw_all := lw_g (lw_at lw_m13 110 rfl) rfl
theorem q3076 : (Jvm.Cond.fieldLink "PluginChains$ByPriority" (13 : Nat) "PluginChains$Hook" "priority" "I") ∈ lw_all := lw_g (lw_at lw_m13 116 rfl) rfl
theorem q3109 : (Jvm.Cond.instantiable "PluginChains$ByPriority" (1 : Nat)) ∈ lw_all := lw_g (lw_at lw_m13 149 rfl) rfl
theorem q3111 : (Jvm.Cond.instanceMethod ({ cls := "PluginChains$ByPriority", name := "<init>", desc := "(LPluginChains$Host;)V" } : Jvm.MethodName)) ∈ lw_all := lw_g (lw_at lw_m13 151 rfl) rfl
theorem q3112 : (Jvm.Cond.code ({ cls := "PluginChains$ByPriority", name := "<init>", desc := "(LPluginChains$Host;)V" } : Jvm.MethodName) prog_6_method_1_code (2 : Nat) (Option.none : Option Jvm.ClassFile.FieldType)) ∈ lw_all := lw_g (lw_at lw_m13 152 rfl) rfl
theorem q3113 : (Jvm.Cond.methodLink "PluginChains$ByPriority" (1 : Nat) ({ cls := "java/lang/Object", name := "<init>", desc := "()V" } : Jvm.MethodName)) ∈ lw_all := lw_g (lw_at lw_m13 153 rfl) rfl
theorem q3114 : (Jvm.Cond.fieldLink "PluginChains$ByPriority" (7 : Nat) "PluginChains$ByPriority" "h" "LPluginChains$Host;") ∈ lw_all := lw_g (lw_at lw_m13 154 rfl) rfl
theorem q3115 : (Jvm.Cond.laysFinal "PluginChains$ByPriority" "PluginChains$ByPriority" "h" "LPluginChains$Host;") ∈ lw_all := lw_g (lw_at lw_m13 155 rfl) rfl
theorem q3116 : (Jvm.Cond.soleField "PluginChains$ByPriority" "h") ∈ lw_all := lw_g (lw_at lw_m13 156 rfl) rfl
theorem q3117 : (Jvm.Cond.superclass "PluginChains$ByPriority" "java/lang/Object") ∈ lw_all := lw_g (lw_at lw_m13 157 rfl) rfl
theorem q4084 : (Jvm.Cond.castable "PluginChains$ByPriority" "java/lang/Object") ∈ lw_tbl := lw_at lw_m17 164 rfl
theorem in_X28 : ∀ w ∈ wsX280, w ∈ lw_all := lw_in wsX280 [3115] (by decide +kernel) (by decide +kernel)

/-! PluginChains$Fire -/
set_option maxRecDepth 100000
def RX29 : String := "PluginChains$Fire"
def TX29 : u_T := fun k => match k with
  | 0 => ("PluginChains$Fire", "isReal", "Z", true)
  | 1 => ("PluginChains$Fire", "notes", "[I", true)
  | 2 => ("PluginChains$Fire", "thrown", "LPluginChains$Thrown;", true)
  | 3 => ("PluginChains$Fire", "ended", "LPluginChains$Ended;", true)
  | 4 => ("PluginChains$Fire", "ran", "I", false)
  | _ => ("PluginChains$Fire", "this$0", "LPluginChains;", true)
def tyX29 : Nat → FieldType := fun k => match k with
  | 0 => .boolean
  | 1 => .array .int
  | 2 => .object "PluginChains$Thrown"
  | 3 => .object "PluginChains$Ended"
  | 4 => .int
  | _ => .object "PluginChains"
abbrev wsX290 : List Cond := u_ws RX29 TX29 6
theorem nmX29 : ∀ a, a < 6 → ∀ b, b < 6 → a ≠ b → (TX29 a).2.1 ≠ (TX29 b).2.1 := by decide +kernel
theorem tyX29_ok : ∀ k, k < 6 → parseFieldDescriptor (TX29 k).2.2.1 = some (tyX29 k) := by decide +kernel
abbrev cX29_ran : ByteArray := prog_13_method_3_code
def yX29_ran : MethodName := ⟨RX29, "ran", "()I"⟩
theorem dX29_ran_0 : decode cX29_ran 0 = .ok (.aload_n 0, 1) := by decide +kernel
theorem dX29_ran_1 : decode cX29_ran 1 = .ok (.getfield 41, 3) := by decide +kernel
theorem dX29_ran_4 : decode cX29_ran 4 = .ok (.ireturn, 1) := by decide +kernel
abbrev cX29_notes : ByteArray := prog_13_method_4_code
def yX29_notes : MethodName := ⟨RX29, "notes", "(LPluginChains$Hook;I)V"⟩
def dkwX29_notes_0 : List UInt8 := [42, 180, 0, 15, 43, 180, 0, 52, 92, 46, 28, 96, 79, 177]
abbrev dktX29_notes_0 : List UInt8 := dkwX29_notes_0 ++ []
theorem dksX29_notes_0 : cX29_notes.data.toList.drop 0 = dktX29_notes_0 := by decide +kernel
theorem dX29_notes_0 : decode cX29_notes 0 = .ok (.aload_n 0, 1) := dk_42 (dk_at dksX29_notes_0 0 rfl rfl)
theorem dX29_notes_1 : decode cX29_notes 1 = .ok (.getfield 15, 3) := dk_180 0 15 (dk_at dksX29_notes_0 1 rfl rfl)
theorem dX29_notes_4 : decode cX29_notes 4 = .ok (.aload_n 1, 1) := dk_43 (dk_at dksX29_notes_0 4 rfl rfl)
theorem dX29_notes_5 : decode cX29_notes 5 = .ok (.getfield 52, 3) := dk_180 0 52 (dk_at dksX29_notes_0 5 rfl rfl)
theorem dX29_notes_8 : decode cX29_notes 8 = .ok (.dup2, 1) := dk_92 (dk_at dksX29_notes_0 8 rfl rfl)
theorem dX29_notes_9 : decode cX29_notes 9 = .ok (.iaload, 1) := dk_46 (dk_at dksX29_notes_0 9 rfl rfl)
theorem dX29_notes_10 : decode cX29_notes 10 = .ok (.iload_n 2, 1) := dk_28 (dk_at dksX29_notes_0 10 rfl rfl)
theorem dX29_notes_11 : decode cX29_notes 11 = .ok (.iadd, 1) := dk_96 (dk_at dksX29_notes_0 11 rfl rfl)
theorem dX29_notes_12 : decode cX29_notes 12 = .ok (.iastore, 1) := dk_79 (dk_at dksX29_notes_0 12 rfl rfl)
theorem dX29_notes_13 : decode cX29_notes 13 = .ok (.return_, 1) := dk_177 (dk_at dksX29_notes_0 13 rfl rfl)
abbrev cX29_thrownWith : ByteArray := prog_13_method_8_code
def yX29_thrownWith : MethodName := ⟨RX29, "thrownWith", "(I)I"⟩
def dkwX29_thrownWith_0 : List UInt8 := [42, 180, 0, 22, 27, 182, 0, 84, 191]
abbrev dktX29_thrownWith_0 : List UInt8 := dkwX29_thrownWith_0 ++ []
theorem dksX29_thrownWith_0 : cX29_thrownWith.data.toList.drop 0 = dktX29_thrownWith_0 := by decide +kernel
theorem dX29_thrownWith_0 : decode cX29_thrownWith 0 = .ok (.aload_n 0, 1) := dk_42 (dk_at dksX29_thrownWith_0 0 rfl rfl)
theorem dX29_thrownWith_1 : decode cX29_thrownWith 1 = .ok (.getfield 22, 3) := dk_180 0 22 (dk_at dksX29_thrownWith_0 1 rfl rfl)
theorem dX29_thrownWith_4 : decode cX29_thrownWith 4 = .ok (.iload_n 1, 1) := dk_27 (dk_at dksX29_thrownWith_0 4 rfl rfl)
theorem dX29_thrownWith_5 : decode cX29_thrownWith 5 = .ok (.invokevirtual 84, 3) := dk_182 0 84 (dk_at dksX29_thrownWith_0 5 rfl rfl)
theorem dX29_thrownWith_8 : decode cX29_thrownWith 8 = .ok (.athrow, 1) := dk_191 (dk_at dksX29_thrownWith_0 8 rfl rfl)
abbrev cX29_init : ByteArray := prog_13_method_1_code
def yX29_init : MethodName := ⟨RX29, "<init>", "(LPluginChains;Z)V"⟩
def dkwX29_init_2 : List UInt8 := [153, 0, 7, 3, 167, 0, 7, 43, 180, 0, 37, 181, 0, 37, 177]
abbrev dktX29_init_2 : List UInt8 := dkwX29_init_2 ++ []
def dkwX29_init_1 : List UInt8 := [183, 0, 21, 181, 0, 22, 42, 187, 0, 26, 89, 183, 0, 28, 181, 0, 29, 42, 28, 181, 0, 33, 43, 28]
abbrev dktX29_init_1 : List UInt8 := dkwX29_init_1 ++ dktX29_init_2
def dkwX29_init_0 : List UInt8 := [42, 43, 181, 0, 3, 42, 183, 0, 9, 42, 16, 12, 188, 10, 181, 0, 15, 42, 187, 0, 19, 89]
abbrev dktX29_init_0 : List UInt8 := dkwX29_init_0 ++ dktX29_init_1
theorem dksX29_init_0 : cX29_init.data.toList.drop 0 = dktX29_init_0 := by decide +kernel
theorem dksX29_init_1 : cX29_init.data.toList.drop 22 = dktX29_init_1 := dk_seg dksX29_init_0 22 rfl rfl
theorem dksX29_init_2 : cX29_init.data.toList.drop 46 = dktX29_init_2 := dk_seg dksX29_init_1 24 rfl rfl
theorem dX29_init_0 : decode cX29_init 0 = .ok (.aload_n 0, 1) := dk_42 (dk_at dksX29_init_0 0 rfl rfl)
theorem dX29_init_1 : decode cX29_init 1 = .ok (.aload_n 1, 1) := dk_43 (dk_at dksX29_init_0 1 rfl rfl)
theorem dX29_init_2 : decode cX29_init 2 = .ok (.putfield 3, 3) := dk_181 0 3 (dk_at dksX29_init_0 2 rfl rfl)
theorem dX29_init_5 : decode cX29_init 5 = .ok (.aload_n 0, 1) := dk_42 (dk_at dksX29_init_0 5 rfl rfl)
theorem dX29_init_6 : decode cX29_init 6 = .ok (.invokespecial 9, 3) := dk_183 0 9 (dk_at dksX29_init_0 6 rfl rfl)
theorem dX29_init_9 : decode cX29_init 9 = .ok (.aload_n 0, 1) := dk_42 (dk_at dksX29_init_0 9 rfl rfl)
theorem dX29_init_10 : decode cX29_init 10 = .ok (.bipush 12, 2) := dk_16 12 (dk_at dksX29_init_0 10 rfl rfl)
theorem dX29_init_12 : decode cX29_init 12 = .ok (.newarray .int, 2) := dk_188_10 (dk_at dksX29_init_0 12 rfl rfl)
theorem dX29_init_14 : decode cX29_init 14 = .ok (.putfield 15, 3) := dk_181 0 15 (dk_at dksX29_init_0 14 rfl rfl)
theorem dX29_init_17 : decode cX29_init 17 = .ok (.aload_n 0, 1) := dk_42 (dk_at dksX29_init_0 17 rfl rfl)
theorem dX29_init_18 : decode cX29_init 18 = .ok (.new 19, 3) := dk_187 0 19 (dk_at dksX29_init_0 18 rfl rfl)
theorem dX29_init_21 : decode cX29_init 21 = .ok (.dup, 1) := dk_89 (dk_at dksX29_init_0 21 rfl rfl)
theorem dX29_init_22 : decode cX29_init 22 = .ok (.invokespecial 21, 3) := dk_183 0 21 (dk_at dksX29_init_1 0 rfl rfl)
theorem dX29_init_25 : decode cX29_init 25 = .ok (.putfield 22, 3) := dk_181 0 22 (dk_at dksX29_init_1 3 rfl rfl)
theorem dX29_init_28 : decode cX29_init 28 = .ok (.aload_n 0, 1) := dk_42 (dk_at dksX29_init_1 6 rfl rfl)
theorem dX29_init_29 : decode cX29_init 29 = .ok (.new 26, 3) := dk_187 0 26 (dk_at dksX29_init_1 7 rfl rfl)
theorem dX29_init_32 : decode cX29_init 32 = .ok (.dup, 1) := dk_89 (dk_at dksX29_init_1 10 rfl rfl)
theorem dX29_init_33 : decode cX29_init 33 = .ok (.invokespecial 28, 3) := dk_183 0 28 (dk_at dksX29_init_1 11 rfl rfl)
theorem dX29_init_36 : decode cX29_init 36 = .ok (.putfield 29, 3) := dk_181 0 29 (dk_at dksX29_init_1 14 rfl rfl)
theorem dX29_init_39 : decode cX29_init 39 = .ok (.aload_n 0, 1) := dk_42 (dk_at dksX29_init_1 17 rfl rfl)
theorem dX29_init_40 : decode cX29_init 40 = .ok (.iload_n 2, 1) := dk_28 (dk_at dksX29_init_1 18 rfl rfl)
theorem dX29_init_41 : decode cX29_init 41 = .ok (.putfield 33, 3) := dk_181 0 33 (dk_at dksX29_init_1 19 rfl rfl)
theorem dX29_init_44 : decode cX29_init 44 = .ok (.aload_n 1, 1) := dk_43 (dk_at dksX29_init_1 22 rfl rfl)
theorem dX29_init_45 : decode cX29_init 45 = .ok (.iload_n 2, 1) := dk_28 (dk_at dksX29_init_1 23 rfl rfl)
theorem dX29_init_46 : decode cX29_init 46 = .ok (.ifCond .eq 7, 3) := dk_153 0 7 (dk_at dksX29_init_2 0 rfl rfl)
theorem dX29_init_49 : decode cX29_init 49 = .ok (.iconst 0, 1) := dk_3 (dk_at dksX29_init_2 3 rfl rfl)
theorem dX29_init_50 : decode cX29_init 50 = .ok (.goto 7, 3) := dk_167 0 7 (dk_at dksX29_init_2 4 rfl rfl)
theorem dX29_init_53 : decode cX29_init 53 = .ok (.aload_n 1, 1) := dk_43 (dk_at dksX29_init_2 7 rfl rfl)
theorem dX29_init_54 : decode cX29_init 54 = .ok (.getfield 37, 3) := dk_180 0 37 (dk_at dksX29_init_2 8 rfl rfl)
theorem dX29_init_57 : decode cX29_init 57 = .ok (.putfield 37, 3) := dk_181 0 37 (dk_at dksX29_init_2 11 rfl rfl)
theorem dX29_init_60 : decode cX29_init 60 = .ok (.return_, 1) := dk_177 (dk_at dksX29_init_2 14 rfl rfl)
abbrev cX29_chained : ByteArray := prog_13_method_9_code
def yX29_chained : MethodName := ⟨RX29, "chained", "(Ljava/util/TreeSet;I)LPluginChains$Rest;"⟩
def dkwX29_chained_2 : List UInt8 := [167, 0, 10, 42, 25, 5, 45, 182, 0, 107, 78, 167, 255, 213, 45, 176]
abbrev dktX29_chained_2 : List UInt8 := dkwX29_chained_2 ++ []
def dkwX29_chained_1 : List UInt8 := [25, 4, 185, 0, 103, 1, 0, 192, 0, 48, 58, 5, 25, 5, 180, 0, 47, 28, 160, 0, 7, 45]
abbrev dktX29_chained_1 : List UInt8 := dkwX29_chained_1 ++ dktX29_chained_2
def dkwX29_chained_0 : List UInt8 := [42, 186, 0, 88, 0, 0, 78, 43, 182, 0, 91, 58, 4, 25, 4, 185, 0, 97, 1, 0, 153, 0, 39]
abbrev dktX29_chained_0 : List UInt8 := dkwX29_chained_0 ++ dktX29_chained_1
theorem dksX29_chained_0 : cX29_chained.data.toList.drop 0 = dktX29_chained_0 := by decide +kernel
theorem dksX29_chained_1 : cX29_chained.data.toList.drop 23 = dktX29_chained_1 := dk_seg dksX29_chained_0 23 rfl rfl
theorem dksX29_chained_2 : cX29_chained.data.toList.drop 45 = dktX29_chained_2 := dk_seg dksX29_chained_1 22 rfl rfl
theorem dX29_chained_0 : decode cX29_chained 0 = .ok (.aload_n 0, 1) := dk_42 (dk_at dksX29_chained_0 0 rfl rfl)
theorem dX29_chained_1 : decode cX29_chained 1 = .ok (.invokedynamic 88, 5) := by decide +kernel
theorem dX29_chained_6 : decode cX29_chained 6 = .ok (.astore_n 3, 1) := dk_78 (dk_at dksX29_chained_0 6 rfl rfl)
theorem dX29_chained_7 : decode cX29_chained 7 = .ok (.aload_n 1, 1) := dk_43 (dk_at dksX29_chained_0 7 rfl rfl)
theorem dX29_chained_8 : decode cX29_chained 8 = .ok (.invokevirtual 91, 3) := dk_182 0 91 (dk_at dksX29_chained_0 8 rfl rfl)
theorem dX29_chained_11 : decode cX29_chained 11 = .ok (.astore 4, 2) := dk_58 4 (dk_at dksX29_chained_0 11 rfl rfl)
theorem dX29_chained_13 : decode cX29_chained 13 = .ok (.aload 4, 2) := dk_25 4 (dk_at dksX29_chained_0 13 rfl rfl)
theorem dX29_chained_15 : decode cX29_chained 15 = .ok (.invokeinterface 97 1, 5) := by decide +kernel
theorem dX29_chained_20 : decode cX29_chained 20 = .ok (.ifCond .eq 39, 3) := dk_153 0 39 (dk_at dksX29_chained_0 20 rfl rfl)
theorem dX29_chained_23 : decode cX29_chained 23 = .ok (.aload 4, 2) := dk_25 4 (dk_at dksX29_chained_1 0 rfl rfl)
theorem dX29_chained_25 : decode cX29_chained 25 = .ok (.invokeinterface 103 1, 5) := by decide +kernel
theorem dX29_chained_30 : decode cX29_chained 30 = .ok (.checkcast 48, 3) := dk_192 0 48 (dk_at dksX29_chained_1 7 rfl rfl)
theorem dX29_chained_33 : decode cX29_chained 33 = .ok (.astore 5, 2) := dk_58 5 (dk_at dksX29_chained_1 10 rfl rfl)
theorem dX29_chained_35 : decode cX29_chained 35 = .ok (.aload 5, 2) := dk_25 5 (dk_at dksX29_chained_1 12 rfl rfl)
theorem dX29_chained_37 : decode cX29_chained 37 = .ok (.getfield 47, 3) := dk_180 0 47 (dk_at dksX29_chained_1 14 rfl rfl)
theorem dX29_chained_40 : decode cX29_chained 40 = .ok (.iload_n 2, 1) := dk_28 (dk_at dksX29_chained_1 17 rfl rfl)
theorem dX29_chained_41 : decode cX29_chained 41 = .ok (.if_icmp .ne 7, 3) := dk_160 0 7 (dk_at dksX29_chained_1 18 rfl rfl)
theorem dX29_chained_44 : decode cX29_chained 44 = .ok (.aload_n 3, 1) := dk_45 (dk_at dksX29_chained_1 21 rfl rfl)
theorem dX29_chained_45 : decode cX29_chained 45 = .ok (.goto 10, 3) := dk_167 0 10 (dk_at dksX29_chained_2 0 rfl rfl)
theorem dX29_chained_48 : decode cX29_chained 48 = .ok (.aload_n 0, 1) := dk_42 (dk_at dksX29_chained_2 3 rfl rfl)
theorem dX29_chained_49 : decode cX29_chained 49 = .ok (.aload 5, 2) := dk_25 5 (dk_at dksX29_chained_2 4 rfl rfl)
theorem dX29_chained_51 : decode cX29_chained 51 = .ok (.aload_n 3, 1) := dk_45 (dk_at dksX29_chained_2 6 rfl rfl)
theorem dX29_chained_52 : decode cX29_chained 52 = .ok (.invokevirtual 107, 3) := dk_182 0 107 (dk_at dksX29_chained_2 7 rfl rfl)
theorem dX29_chained_55 : decode cX29_chained 55 = .ok (.astore_n 3, 1) := dk_78 (dk_at dksX29_chained_2 10 rfl rfl)
theorem dX29_chained_56 : decode cX29_chained 56 = .ok (.goto (-43), 3) := dk_167 255 213 (dk_at dksX29_chained_2 11 rfl rfl)
theorem dX29_chained_59 : decode cX29_chained 59 = .ok (.aload_n 3, 1) := dk_45 (dk_at dksX29_chained_2 14 rfl rfl)
theorem dX29_chained_60 : decode cX29_chained 60 = .ok (.areturn, 1) := dk_176 (dk_at dksX29_chained_2 15 rfl rfl)
abbrev cX29_asItIs : ByteArray := prog_13_method_6_code
def yX29_asItIs : MethodName := ⟨RX29, "asItIs", "(I)I"⟩
theorem dX29_asItIs_0 : decode cX29_asItIs 0 = .ok (.iload_n 1, 1) := by decide +kernel
theorem dX29_asItIs_1 : decode cX29_asItIs 1 = .ok (.ireturn, 1) := by decide +kernel
abbrev cX29_linked : ByteArray := prog_13_method_5_code
def yX29_linked : MethodName := ⟨RX29, "linked", "(LPluginChains$Hook;LPluginChains$Rest;)LPluginChains$Rest;"⟩
def dkwX29_linked_1 : List UInt8 := [186, 0, 68, 0, 0, 176]
abbrev dktX29_linked_1 : List UInt8 := dkwX29_linked_1 ++ []
def dkwX29_linked_0 : List UInt8 := [42, 180, 0, 3, 180, 0, 55, 43, 180, 0, 59, 50, 180, 0, 62, 78, 42, 43, 45, 44]
abbrev dktX29_linked_0 : List UInt8 := dkwX29_linked_0 ++ dktX29_linked_1
theorem dksX29_linked_0 : cX29_linked.data.toList.drop 0 = dktX29_linked_0 := by decide +kernel
theorem dksX29_linked_1 : cX29_linked.data.toList.drop 20 = dktX29_linked_1 := dk_seg dksX29_linked_0 20 rfl rfl
theorem dX29_linked_0 : decode cX29_linked 0 = .ok (.aload_n 0, 1) := dk_42 (dk_at dksX29_linked_0 0 rfl rfl)
theorem dX29_linked_1 : decode cX29_linked 1 = .ok (.getfield 3, 3) := dk_180 0 3 (dk_at dksX29_linked_0 1 rfl rfl)
theorem dX29_linked_4 : decode cX29_linked 4 = .ok (.getfield 55, 3) := dk_180 0 55 (dk_at dksX29_linked_0 4 rfl rfl)
theorem dX29_linked_7 : decode cX29_linked 7 = .ok (.aload_n 1, 1) := dk_43 (dk_at dksX29_linked_0 7 rfl rfl)
theorem dX29_linked_8 : decode cX29_linked 8 = .ok (.getfield 59, 3) := dk_180 0 59 (dk_at dksX29_linked_0 8 rfl rfl)
theorem dX29_linked_11 : decode cX29_linked 11 = .ok (.aaload, 1) := dk_50 (dk_at dksX29_linked_0 11 rfl rfl)
theorem dX29_linked_12 : decode cX29_linked 12 = .ok (.getfield 62, 3) := dk_180 0 62 (dk_at dksX29_linked_0 12 rfl rfl)
theorem dX29_linked_15 : decode cX29_linked 15 = .ok (.astore_n 3, 1) := dk_78 (dk_at dksX29_linked_0 15 rfl rfl)
theorem dX29_linked_16 : decode cX29_linked 16 = .ok (.aload_n 0, 1) := dk_42 (dk_at dksX29_linked_0 16 rfl rfl)
theorem dX29_linked_17 : decode cX29_linked 17 = .ok (.aload_n 1, 1) := dk_43 (dk_at dksX29_linked_0 17 rfl rfl)
theorem dX29_linked_18 : decode cX29_linked 18 = .ok (.aload_n 3, 1) := dk_45 (dk_at dksX29_linked_0 18 rfl rfl)
theorem dX29_linked_19 : decode cX29_linked 19 = .ok (.aload_n 2, 1) := dk_44 (dk_at dksX29_linked_0 19 rfl rfl)
theorem dX29_linked_20 : decode cX29_linked 20 = .ok (.invokedynamic 68, 5) := by decide +kernel
theorem dX29_linked_25 : decode cX29_linked 25 = .ok (.areturn, 1) := dk_176 (dk_at dksX29_linked_1 5 rfl rfl)
abbrev cX29_lambda_linked_0 : ByteArray := prog_13_method_11_code
def yX29_lambda_linked_0 : MethodName := ⟨RX29, "lambda$linked$0", "(LPluginChains$Hook;LPluginChains$Act;LPluginChains$Rest;I)I"⟩
def dkwX29_lambda_linked_0_0 : List UInt8 := [42, 43, 182, 0, 139, 44, 42, 43, 45, 21, 4, 185, 0, 143, 5, 0, 172]
abbrev dktX29_lambda_linked_0_0 : List UInt8 := dkwX29_lambda_linked_0_0 ++ []
theorem dksX29_lambda_linked_0_0 : cX29_lambda_linked_0.data.toList.drop 0 = dktX29_lambda_linked_0_0 := by decide +kernel
theorem dX29_lambda_linked_0_0 : decode cX29_lambda_linked_0 0 = .ok (.aload_n 0, 1) := dk_42 (dk_at dksX29_lambda_linked_0_0 0 rfl rfl)
theorem dX29_lambda_linked_0_1 : decode cX29_lambda_linked_0 1 = .ok (.aload_n 1, 1) := dk_43 (dk_at dksX29_lambda_linked_0_0 1 rfl rfl)
theorem dX29_lambda_linked_0_2 : decode cX29_lambda_linked_0 2 = .ok (.invokevirtual 139, 3) := dk_182 0 139 (dk_at dksX29_lambda_linked_0_0 2 rfl rfl)
theorem dX29_lambda_linked_0_5 : decode cX29_lambda_linked_0 5 = .ok (.aload_n 2, 1) := dk_44 (dk_at dksX29_lambda_linked_0_0 5 rfl rfl)
theorem dX29_lambda_linked_0_6 : decode cX29_lambda_linked_0 6 = .ok (.aload_n 0, 1) := dk_42 (dk_at dksX29_lambda_linked_0_0 6 rfl rfl)
theorem dX29_lambda_linked_0_7 : decode cX29_lambda_linked_0 7 = .ok (.aload_n 1, 1) := dk_43 (dk_at dksX29_lambda_linked_0_0 7 rfl rfl)
theorem dX29_lambda_linked_0_8 : decode cX29_lambda_linked_0 8 = .ok (.aload_n 3, 1) := dk_45 (dk_at dksX29_lambda_linked_0_0 8 rfl rfl)
theorem dX29_lambda_linked_0_9 : decode cX29_lambda_linked_0 9 = .ok (.iload 4, 2) := dk_21 4 (dk_at dksX29_lambda_linked_0_0 9 rfl rfl)
theorem dX29_lambda_linked_0_11 : decode cX29_lambda_linked_0 11 = .ok (.invokeinterface 143 5, 5) := by decide +kernel
theorem dX29_lambda_linked_0_16 : decode cX29_lambda_linked_0 16 = .ok (.ireturn, 1) := dk_172 (dk_at dksX29_lambda_linked_0_0 16 rfl rfl)
abbrev cX29_runs : ByteArray := prog_13_method_2_code
def yX29_runs : MethodName := ⟨RX29, "runs", "(LPluginChains$Hook;)V"⟩
def dkwX29_runs_3 : List UInt8 := [180, 0, 37, 4, 96, 181, 0, 37, 177]
abbrev dktX29_runs_3 : List UInt8 := dkwX29_runs_3 ++ []
def dkwX29_runs_2 : List UInt8 := [180, 0, 3, 180, 0, 44, 42, 180, 0, 3, 180, 0, 37, 43, 180, 0, 47, 79, 42, 180, 0, 3, 89]
abbrev dktX29_runs_2 : List UInt8 := dkwX29_runs_2 ++ dktX29_runs_3
def dkwX29_runs_1 : List UInt8 := [181, 0, 41, 42, 180, 0, 33, 153, 0, 47, 42, 180, 0, 3, 180, 0, 37, 16, 30, 162, 0, 22, 42]
abbrev dktX29_runs_1 : List UInt8 := dkwX29_runs_1 ++ dktX29_runs_2
def dkwX29_runs_0 : List UInt8 := [42, 180, 0, 41, 17, 0, 200, 160, 0, 8, 42, 180, 0, 29, 191, 42, 89, 180, 0, 41, 4, 96]
abbrev dktX29_runs_0 : List UInt8 := dkwX29_runs_0 ++ dktX29_runs_1
theorem dksX29_runs_0 : cX29_runs.data.toList.drop 0 = dktX29_runs_0 := by decide +kernel
theorem dksX29_runs_1 : cX29_runs.data.toList.drop 22 = dktX29_runs_1 := dk_seg dksX29_runs_0 22 rfl rfl
theorem dksX29_runs_2 : cX29_runs.data.toList.drop 45 = dktX29_runs_2 := dk_seg dksX29_runs_1 23 rfl rfl
theorem dksX29_runs_3 : cX29_runs.data.toList.drop 68 = dktX29_runs_3 := dk_seg dksX29_runs_2 23 rfl rfl
theorem dX29_runs_0 : decode cX29_runs 0 = .ok (.aload_n 0, 1) := dk_42 (dk_at dksX29_runs_0 0 rfl rfl)
theorem dX29_runs_1 : decode cX29_runs 1 = .ok (.getfield 41, 3) := dk_180 0 41 (dk_at dksX29_runs_0 1 rfl rfl)
theorem dX29_runs_4 : decode cX29_runs 4 = .ok (.sipush 200, 3) := dk_17 0 200 (dk_at dksX29_runs_0 4 rfl rfl)
theorem dX29_runs_7 : decode cX29_runs 7 = .ok (.if_icmp .ne 8, 3) := dk_160 0 8 (dk_at dksX29_runs_0 7 rfl rfl)
theorem dX29_runs_10 : decode cX29_runs 10 = .ok (.aload_n 0, 1) := dk_42 (dk_at dksX29_runs_0 10 rfl rfl)
theorem dX29_runs_11 : decode cX29_runs 11 = .ok (.getfield 29, 3) := dk_180 0 29 (dk_at dksX29_runs_0 11 rfl rfl)
theorem dX29_runs_14 : decode cX29_runs 14 = .ok (.athrow, 1) := dk_191 (dk_at dksX29_runs_0 14 rfl rfl)
theorem dX29_runs_15 : decode cX29_runs 15 = .ok (.aload_n 0, 1) := dk_42 (dk_at dksX29_runs_0 15 rfl rfl)
theorem dX29_runs_16 : decode cX29_runs 16 = .ok (.dup, 1) := dk_89 (dk_at dksX29_runs_0 16 rfl rfl)
theorem dX29_runs_17 : decode cX29_runs 17 = .ok (.getfield 41, 3) := dk_180 0 41 (dk_at dksX29_runs_0 17 rfl rfl)
theorem dX29_runs_20 : decode cX29_runs 20 = .ok (.iconst 1, 1) := dk_4 (dk_at dksX29_runs_0 20 rfl rfl)
theorem dX29_runs_21 : decode cX29_runs 21 = .ok (.iadd, 1) := dk_96 (dk_at dksX29_runs_0 21 rfl rfl)
theorem dX29_runs_22 : decode cX29_runs 22 = .ok (.putfield 41, 3) := dk_181 0 41 (dk_at dksX29_runs_1 0 rfl rfl)
theorem dX29_runs_25 : decode cX29_runs 25 = .ok (.aload_n 0, 1) := dk_42 (dk_at dksX29_runs_1 3 rfl rfl)
theorem dX29_runs_26 : decode cX29_runs 26 = .ok (.getfield 33, 3) := dk_180 0 33 (dk_at dksX29_runs_1 4 rfl rfl)
theorem dX29_runs_29 : decode cX29_runs 29 = .ok (.ifCond .eq 47, 3) := dk_153 0 47 (dk_at dksX29_runs_1 7 rfl rfl)
theorem dX29_runs_32 : decode cX29_runs 32 = .ok (.aload_n 0, 1) := dk_42 (dk_at dksX29_runs_1 10 rfl rfl)
theorem dX29_runs_33 : decode cX29_runs 33 = .ok (.getfield 3, 3) := dk_180 0 3 (dk_at dksX29_runs_1 11 rfl rfl)
theorem dX29_runs_36 : decode cX29_runs 36 = .ok (.getfield 37, 3) := dk_180 0 37 (dk_at dksX29_runs_1 14 rfl rfl)
theorem dX29_runs_39 : decode cX29_runs 39 = .ok (.bipush 30, 2) := dk_16 30 (dk_at dksX29_runs_1 17 rfl rfl)
theorem dX29_runs_41 : decode cX29_runs 41 = .ok (.if_icmp .ge 22, 3) := dk_162 0 22 (dk_at dksX29_runs_1 19 rfl rfl)
theorem dX29_runs_44 : decode cX29_runs 44 = .ok (.aload_n 0, 1) := dk_42 (dk_at dksX29_runs_1 22 rfl rfl)
theorem dX29_runs_45 : decode cX29_runs 45 = .ok (.getfield 3, 3) := dk_180 0 3 (dk_at dksX29_runs_2 0 rfl rfl)
theorem dX29_runs_48 : decode cX29_runs 48 = .ok (.getfield 44, 3) := dk_180 0 44 (dk_at dksX29_runs_2 3 rfl rfl)
theorem dX29_runs_51 : decode cX29_runs 51 = .ok (.aload_n 0, 1) := dk_42 (dk_at dksX29_runs_2 6 rfl rfl)
theorem dX29_runs_52 : decode cX29_runs 52 = .ok (.getfield 3, 3) := dk_180 0 3 (dk_at dksX29_runs_2 7 rfl rfl)
theorem dX29_runs_55 : decode cX29_runs 55 = .ok (.getfield 37, 3) := dk_180 0 37 (dk_at dksX29_runs_2 10 rfl rfl)
theorem dX29_runs_58 : decode cX29_runs 58 = .ok (.aload_n 1, 1) := dk_43 (dk_at dksX29_runs_2 13 rfl rfl)
theorem dX29_runs_59 : decode cX29_runs 59 = .ok (.getfield 47, 3) := dk_180 0 47 (dk_at dksX29_runs_2 14 rfl rfl)
theorem dX29_runs_62 : decode cX29_runs 62 = .ok (.iastore, 1) := dk_79 (dk_at dksX29_runs_2 17 rfl rfl)
theorem dX29_runs_63 : decode cX29_runs 63 = .ok (.aload_n 0, 1) := dk_42 (dk_at dksX29_runs_2 18 rfl rfl)
theorem dX29_runs_64 : decode cX29_runs 64 = .ok (.getfield 3, 3) := dk_180 0 3 (dk_at dksX29_runs_2 19 rfl rfl)
theorem dX29_runs_67 : decode cX29_runs 67 = .ok (.dup, 1) := dk_89 (dk_at dksX29_runs_2 22 rfl rfl)
theorem dX29_runs_68 : decode cX29_runs 68 = .ok (.getfield 37, 3) := dk_180 0 37 (dk_at dksX29_runs_3 0 rfl rfl)
theorem dX29_runs_71 : decode cX29_runs 71 = .ok (.iconst 1, 1) := dk_4 (dk_at dksX29_runs_3 3 rfl rfl)
theorem dX29_runs_72 : decode cX29_runs 72 = .ok (.iadd, 1) := dk_96 (dk_at dksX29_runs_3 4 rfl rfl)
theorem dX29_runs_73 : decode cX29_runs 73 = .ok (.putfield 37, 3) := dk_181 0 37 (dk_at dksX29_runs_3 5 rfl rfl)
theorem dX29_runs_76 : decode cX29_runs 76 = .ok (.return_, 1) := dk_177 (dk_at dksX29_runs_3 8 rfl rfl)
abbrev cX29_through : ByteArray := prog_13_method_10_code
def yX29_through : MethodName := ⟨RX29, "through", "(LPluginChains$Rest;I)LPluginChains$Outcome;"⟩
def dkwX29_through_2 : List UInt8 := [176, 78, 187, 0, 136, 89, 183, 0, 138, 176]
abbrev dktX29_through_2 : List UInt8 := dkwX29_through_2 ++ []
def dkwX29_through_1 : List UInt8 := [182, 0, 122, 187, 0, 125, 89, 29, 183, 0, 127, 176, 78, 187, 0, 130, 89, 45, 180, 0, 132, 183, 0, 135]
abbrev dktX29_through_1 : List UInt8 := dkwX29_through_1 ++ dktX29_through_2
def dkwX29_through_0 : List UInt8 := [42, 3, 181, 0, 41, 42, 180, 0, 15, 3, 184, 0, 111, 43, 28, 185, 0, 117, 2, 0, 62, 42]
abbrev dktX29_through_0 : List UInt8 := dkwX29_through_0 ++ dktX29_through_1
theorem dksX29_through_0 : cX29_through.data.toList.drop 0 = dktX29_through_0 := by decide +kernel
theorem dksX29_through_1 : cX29_through.data.toList.drop 22 = dktX29_through_1 := dk_seg dksX29_through_0 22 rfl rfl
theorem dksX29_through_2 : cX29_through.data.toList.drop 46 = dktX29_through_2 := dk_seg dksX29_through_1 24 rfl rfl
theorem dX29_through_0 : decode cX29_through 0 = .ok (.aload_n 0, 1) := dk_42 (dk_at dksX29_through_0 0 rfl rfl)
theorem dX29_through_1 : decode cX29_through 1 = .ok (.iconst 0, 1) := dk_3 (dk_at dksX29_through_0 1 rfl rfl)
theorem dX29_through_2 : decode cX29_through 2 = .ok (.putfield 41, 3) := dk_181 0 41 (dk_at dksX29_through_0 2 rfl rfl)
theorem dX29_through_5 : decode cX29_through 5 = .ok (.aload_n 0, 1) := dk_42 (dk_at dksX29_through_0 5 rfl rfl)
theorem dX29_through_6 : decode cX29_through 6 = .ok (.getfield 15, 3) := dk_180 0 15 (dk_at dksX29_through_0 6 rfl rfl)
theorem dX29_through_9 : decode cX29_through 9 = .ok (.iconst 0, 1) := dk_3 (dk_at dksX29_through_0 9 rfl rfl)
theorem dX29_through_10 : decode cX29_through 10 = .ok (.invokestatic 111, 3) := dk_184 0 111 (dk_at dksX29_through_0 10 rfl rfl)
theorem dX29_through_13 : decode cX29_through 13 = .ok (.aload_n 1, 1) := dk_43 (dk_at dksX29_through_0 13 rfl rfl)
theorem dX29_through_14 : decode cX29_through 14 = .ok (.iload_n 2, 1) := dk_28 (dk_at dksX29_through_0 14 rfl rfl)
theorem dX29_through_15 : decode cX29_through 15 = .ok (.invokeinterface 117 2, 5) := by decide +kernel
theorem dX29_through_20 : decode cX29_through 20 = .ok (.istore_n 3, 1) := dk_62 (dk_at dksX29_through_0 20 rfl rfl)
theorem dX29_through_21 : decode cX29_through 21 = .ok (.aload_n 0, 1) := dk_42 (dk_at dksX29_through_0 21 rfl rfl)
theorem dX29_through_22 : decode cX29_through 22 = .ok (.invokevirtual 122, 3) := dk_182 0 122 (dk_at dksX29_through_1 0 rfl rfl)
theorem dX29_through_25 : decode cX29_through 25 = .ok (.new 125, 3) := dk_187 0 125 (dk_at dksX29_through_1 3 rfl rfl)
theorem dX29_through_28 : decode cX29_through 28 = .ok (.dup, 1) := dk_89 (dk_at dksX29_through_1 6 rfl rfl)
theorem dX29_through_29 : decode cX29_through 29 = .ok (.iload_n 3, 1) := dk_29 (dk_at dksX29_through_1 7 rfl rfl)
theorem dX29_through_30 : decode cX29_through 30 = .ok (.invokespecial 127, 3) := dk_183 0 127 (dk_at dksX29_through_1 8 rfl rfl)
theorem dX29_through_33 : decode cX29_through 33 = .ok (.areturn, 1) := dk_176 (dk_at dksX29_through_1 11 rfl rfl)
theorem dX29_through_34 : decode cX29_through 34 = .ok (.astore_n 3, 1) := dk_78 (dk_at dksX29_through_1 12 rfl rfl)
theorem dX29_through_35 : decode cX29_through 35 = .ok (.new 130, 3) := dk_187 0 130 (dk_at dksX29_through_1 13 rfl rfl)
theorem dX29_through_38 : decode cX29_through 38 = .ok (.dup, 1) := dk_89 (dk_at dksX29_through_1 16 rfl rfl)
theorem dX29_through_39 : decode cX29_through 39 = .ok (.aload_n 3, 1) := dk_45 (dk_at dksX29_through_1 17 rfl rfl)
theorem dX29_through_40 : decode cX29_through 40 = .ok (.getfield 132, 3) := dk_180 0 132 (dk_at dksX29_through_1 18 rfl rfl)
theorem dX29_through_43 : decode cX29_through 43 = .ok (.invokespecial 135, 3) := dk_183 0 135 (dk_at dksX29_through_1 21 rfl rfl)
theorem dX29_through_46 : decode cX29_through 46 = .ok (.areturn, 1) := dk_176 (dk_at dksX29_through_2 0 rfl rfl)
theorem dX29_through_47 : decode cX29_through 47 = .ok (.astore_n 3, 1) := dk_78 (dk_at dksX29_through_2 1 rfl rfl)
theorem dX29_through_48 : decode cX29_through 48 = .ok (.new 136, 3) := dk_187 0 136 (dk_at dksX29_through_2 2 rfl rfl)
theorem dX29_through_51 : decode cX29_through 51 = .ok (.dup, 1) := dk_89 (dk_at dksX29_through_2 5 rfl rfl)
theorem dX29_through_52 : decode cX29_through 52 = .ok (.invokespecial 138, 3) := dk_183 0 138 (dk_at dksX29_through_2 6 rfl rfl)
theorem dX29_through_55 : decode cX29_through 55 = .ok (.areturn, 1) := dk_176 (dk_at dksX29_through_2 9 rfl rfl)
abbrev cX29_keep : ByteArray := prog_13_method_7_code
def yX29_keep : MethodName := ⟨RX29, "keep", "()V"⟩
def dkwX29_keep_2 : List UInt8 := [167, 255, 211, 177]
abbrev dktX29_keep_2 : List UInt8 := dkwX29_keep_2 ++ []
def dkwX29_keep_1 : List UInt8 := [180, 0, 3, 180, 0, 72, 180, 0, 81, 27, 92, 46, 42, 180, 0, 15, 27, 46, 96, 79, 132, 1, 1]
abbrev dktX29_keep_1 : List UInt8 := dkwX29_keep_1 ++ dktX29_keep_2
def dkwX29_keep_0 : List UInt8 := [3, 60, 27, 42, 180, 0, 3, 180, 0, 72, 180, 0, 76, 162, 0, 37, 42, 180, 0, 33, 153, 0, 30, 42]
abbrev dktX29_keep_0 : List UInt8 := dkwX29_keep_0 ++ dktX29_keep_1
theorem dksX29_keep_0 : cX29_keep.data.toList.drop 0 = dktX29_keep_0 := by decide +kernel
theorem dksX29_keep_1 : cX29_keep.data.toList.drop 24 = dktX29_keep_1 := dk_seg dksX29_keep_0 24 rfl rfl
theorem dksX29_keep_2 : cX29_keep.data.toList.drop 47 = dktX29_keep_2 := dk_seg dksX29_keep_1 23 rfl rfl
theorem dX29_keep_0 : decode cX29_keep 0 = .ok (.iconst 0, 1) := dk_3 (dk_at dksX29_keep_0 0 rfl rfl)
theorem dX29_keep_1 : decode cX29_keep 1 = .ok (.istore_n 1, 1) := dk_60 (dk_at dksX29_keep_0 1 rfl rfl)
theorem dX29_keep_2 : decode cX29_keep 2 = .ok (.iload_n 1, 1) := dk_27 (dk_at dksX29_keep_0 2 rfl rfl)
theorem dX29_keep_3 : decode cX29_keep 3 = .ok (.aload_n 0, 1) := dk_42 (dk_at dksX29_keep_0 3 rfl rfl)
theorem dX29_keep_4 : decode cX29_keep 4 = .ok (.getfield 3, 3) := dk_180 0 3 (dk_at dksX29_keep_0 4 rfl rfl)
theorem dX29_keep_7 : decode cX29_keep 7 = .ok (.getfield 72, 3) := dk_180 0 72 (dk_at dksX29_keep_0 7 rfl rfl)
theorem dX29_keep_10 : decode cX29_keep 10 = .ok (.getfield 76, 3) := dk_180 0 76 (dk_at dksX29_keep_0 10 rfl rfl)
theorem dX29_keep_13 : decode cX29_keep 13 = .ok (.if_icmp .ge 37, 3) := dk_162 0 37 (dk_at dksX29_keep_0 13 rfl rfl)
theorem dX29_keep_16 : decode cX29_keep 16 = .ok (.aload_n 0, 1) := dk_42 (dk_at dksX29_keep_0 16 rfl rfl)
theorem dX29_keep_17 : decode cX29_keep 17 = .ok (.getfield 33, 3) := dk_180 0 33 (dk_at dksX29_keep_0 17 rfl rfl)
theorem dX29_keep_20 : decode cX29_keep 20 = .ok (.ifCond .eq 30, 3) := dk_153 0 30 (dk_at dksX29_keep_0 20 rfl rfl)
theorem dX29_keep_23 : decode cX29_keep 23 = .ok (.aload_n 0, 1) := dk_42 (dk_at dksX29_keep_0 23 rfl rfl)
theorem dX29_keep_24 : decode cX29_keep 24 = .ok (.getfield 3, 3) := dk_180 0 3 (dk_at dksX29_keep_1 0 rfl rfl)
theorem dX29_keep_27 : decode cX29_keep 27 = .ok (.getfield 72, 3) := dk_180 0 72 (dk_at dksX29_keep_1 3 rfl rfl)
theorem dX29_keep_30 : decode cX29_keep 30 = .ok (.getfield 81, 3) := dk_180 0 81 (dk_at dksX29_keep_1 6 rfl rfl)
theorem dX29_keep_33 : decode cX29_keep 33 = .ok (.iload_n 1, 1) := dk_27 (dk_at dksX29_keep_1 9 rfl rfl)
theorem dX29_keep_34 : decode cX29_keep 34 = .ok (.dup2, 1) := dk_92 (dk_at dksX29_keep_1 10 rfl rfl)
theorem dX29_keep_35 : decode cX29_keep 35 = .ok (.iaload, 1) := dk_46 (dk_at dksX29_keep_1 11 rfl rfl)
theorem dX29_keep_36 : decode cX29_keep 36 = .ok (.aload_n 0, 1) := dk_42 (dk_at dksX29_keep_1 12 rfl rfl)
theorem dX29_keep_37 : decode cX29_keep 37 = .ok (.getfield 15, 3) := dk_180 0 15 (dk_at dksX29_keep_1 13 rfl rfl)
theorem dX29_keep_40 : decode cX29_keep 40 = .ok (.iload_n 1, 1) := dk_27 (dk_at dksX29_keep_1 16 rfl rfl)
theorem dX29_keep_41 : decode cX29_keep 41 = .ok (.iaload, 1) := dk_46 (dk_at dksX29_keep_1 17 rfl rfl)
theorem dX29_keep_42 : decode cX29_keep 42 = .ok (.iadd, 1) := dk_96 (dk_at dksX29_keep_1 18 rfl rfl)
theorem dX29_keep_43 : decode cX29_keep 43 = .ok (.iastore, 1) := dk_79 (dk_at dksX29_keep_1 19 rfl rfl)
theorem dX29_keep_44 : decode cX29_keep 44 = .ok (.iinc 1 1, 3) := dk_132 1 1 (dk_at dksX29_keep_1 20 rfl rfl)
theorem dX29_keep_47 : decode cX29_keep 47 = .ok (.goto (-45), 3) := dk_167 255 211 (dk_at dksX29_keep_2 0 rfl rfl)
theorem dX29_keep_50 : decode cX29_keep 50 = .ok (.return_, 1) := dk_177 (dk_at dksX29_keep_2 3 rfl rfl)
theorem q158 : (Jvm.Cond.initialized "PluginChains$Fire") ∈ lw_all := lw_g (lw_at lw_m1 78 rfl) rfl
theorem q253 : (Jvm.Cond.fieldLink "PluginChains$Fire" (76 : Nat) "PluginChains$Host" "many" "I") ∈ lw_all := lw_g (lw_at lw_m1 173 rfl) rfl
theorem q272 : (Jvm.Cond.fieldLink "PluginChains$Fire" (81 : Nat) "PluginChains$Host" "tally" "[I") ∈ lw_all := lw_g (lw_at lw_m1 192 rfl) rfl
theorem q330 : (Jvm.Cond.fieldLink "PluginChains$Fire" (62 : Nat) "PluginChains$Doing" "act" "LPluginChains$Act;") ∈ lw_all := lw_g (lw_at lw_m2 10 rfl) rfl
theorem q348 : (Jvm.Cond.instanceMethod ({ cls := "PluginChains$Fire", name := "ran", desc := "()I" } : Jvm.MethodName)) ∈ lw_all := lw_g (lw_at lw_m2 28 rfl) rfl
theorem q349 : (Jvm.Cond.selects "PluginChains$Fire" ({ cls := "PluginChains$Fire", name := "ran", desc := "()I" } : Jvm.MethodName) ({ cls := "PluginChains$Fire", name := "ran", desc := "()I" } : Jvm.MethodName)) ∈ lw_all := lw_g (lw_at lw_m2 29 rfl) rfl
theorem q350 : (Jvm.Cond.code ({ cls := "PluginChains$Fire", name := "ran", desc := "()I" } : Jvm.MethodName) prog_13_method_3_code (1 : Nat) (Option.some Jvm.ClassFile.FieldType.int)) ∈ lw_all := lw_g (lw_at lw_m2 30 rfl) rfl
theorem q354 : (Jvm.Cond.instanceMethod ({ cls := "PluginChains$Fire", name := "notes", desc := "(LPluginChains$Hook;I)V" } : Jvm.MethodName)) ∈ lw_all := lw_g (lw_at lw_m2 34 rfl) rfl
theorem q355 : (Jvm.Cond.selects "PluginChains$Fire" ({ cls := "PluginChains$Fire", name := "notes", desc := "(LPluginChains$Hook;I)V" } : Jvm.MethodName) ({ cls := "PluginChains$Fire", name := "notes", desc := "(LPluginChains$Hook;I)V" } : Jvm.MethodName)) ∈ lw_all := lw_g (lw_at lw_m2 35 rfl) rfl
theorem q356 : (Jvm.Cond.code ({ cls := "PluginChains$Fire", name := "notes", desc := "(LPluginChains$Hook;I)V" } : Jvm.MethodName) prog_13_method_4_code (3 : Nat) (Option.none : Option Jvm.ClassFile.FieldType)) ∈ lw_all := lw_g (lw_at lw_m2 36 rfl) rfl
theorem q360 : (Jvm.Cond.instanceMethod ({ cls := "PluginChains$Fire", name := "thrownWith", desc := "(I)I" } : Jvm.MethodName)) ∈ lw_all := lw_g (lw_at lw_m2 40 rfl) rfl
theorem q361 : (Jvm.Cond.selects "PluginChains$Fire" ({ cls := "PluginChains$Fire", name := "thrownWith", desc := "(I)I" } : Jvm.MethodName) ({ cls := "PluginChains$Fire", name := "thrownWith", desc := "(I)I" } : Jvm.MethodName)) ∈ lw_all := lw_g (lw_at lw_m2 41 rfl) rfl
theorem q362 : (Jvm.Cond.code ({ cls := "PluginChains$Fire", name := "thrownWith", desc := "(I)I" } : Jvm.MethodName) prog_13_method_8_code (2 : Nat) (Option.some Jvm.ClassFile.FieldType.int)) ∈ lw_all := lw_g (lw_at lw_m2 42 rfl) rfl
theorem q363 : (Jvm.Cond.methodLink "PluginChains$Fire" (84 : Nat) ({ cls := "PluginChains$Thrown", name := "with", desc := "(I)LPluginChains$Thrown;" } : Jvm.MethodName)) ∈ lw_all := lw_g (lw_at lw_m2 43 rfl) rfl
theorem q372 : (Jvm.Cond.fieldLinkNest "PluginChains$Fire" (55 : Nat) "PluginChains" "acts" "[LPluginChains$Doing;" "PluginChains") ∈ lw_tbl := lw_at lw_m2 52 rfl
theorem q374 : (Jvm.Cond.fieldLinkNest "PluginChains$Fire" (44 : Nat) "PluginChains" "trace" "[I" "PluginChains") ∈ lw_tbl := lw_at lw_m2 54 rfl
theorem q379 : (Jvm.Cond.fieldLinkNest "PluginChains$Fire" (37 : Nat) "PluginChains" "ranMany" "I" "PluginChains") ∈ lw_tbl := lw_at lw_m2 59 rfl
theorem q382 : (Jvm.Cond.fieldLinkNest "PluginChains$Fire" (72 : Nat) "PluginChains" "host" "LPluginChains$Host;" "PluginChains") ∈ lw_tbl := lw_at lw_m2 62 rfl
theorem q1311 : (Jvm.Cond.selects "PluginChains$Fire" ({ cls := "java/lang/Object", name := "getClass", desc := "()Ljava/lang/Class;" } : Jvm.MethodName) ({ cls := "java/lang/Object", name := "getClass", desc := "()Ljava/lang/Class;" } : Jvm.MethodName)) ∈ lw_all := lw_g (lw_at lw_m6 31 rfl) rfl
theorem q3067 : (Jvm.Cond.fieldLink "PluginChains$Fire" (47 : Nat) "PluginChains$Hook" "index" "I") ∈ lw_all := lw_g (lw_at lw_m13 107 rfl) rfl
theorem q3071 : (Jvm.Cond.fieldLink "PluginChains$Fire" (52 : Nat) "PluginChains$Hook" "plug" "I") ∈ lw_all := lw_g (lw_at lw_m13 111 rfl) rfl
theorem q3079 : (Jvm.Cond.fieldLink "PluginChains$Fire" (59 : Nat) "PluginChains$Hook" "function" "I") ∈ lw_all := lw_g (lw_at lw_m13 119 rfl) rfl
theorem q3131 : (Jvm.Cond.instantiable "PluginChains$Fire" (6 : Nat)) ∈ lw_all := lw_g (lw_at lw_m13 171 rfl) rfl
theorem q3133 : (Jvm.Cond.instanceMethod ({ cls := "PluginChains$Fire", name := "<init>", desc := "(LPluginChains;Z)V" } : Jvm.MethodName)) ∈ lw_all := lw_g (lw_at lw_m13 173 rfl) rfl
theorem q3134 : (Jvm.Cond.code ({ cls := "PluginChains$Fire", name := "<init>", desc := "(LPluginChains;Z)V" } : Jvm.MethodName) prog_13_method_1_code (3 : Nat) (Option.none : Option Jvm.ClassFile.FieldType)) ∈ lw_all := lw_g (lw_at lw_m13 174 rfl) rfl
theorem q3135 : (Jvm.Cond.methodLink "PluginChains$Fire" (9 : Nat) ({ cls := "java/lang/Object", name := "<init>", desc := "()V" } : Jvm.MethodName)) ∈ lw_all := lw_g (lw_at lw_m13 175 rfl) rfl
theorem q3136 : (Jvm.Cond.classLink "PluginChains$Fire" (19 : Nat) "PluginChains$Thrown") ∈ lw_all := lw_g (lw_at lw_m13 176 rfl) rfl
theorem q3145 : (Jvm.Cond.methodLink "PluginChains$Fire" (21 : Nat) ({ cls := "PluginChains$Thrown", name := "<init>", desc := "()V" } : Jvm.MethodName)) ∈ lw_all := lw_g (lw_at lw_m13 185 rfl) rfl
theorem q3150 : (Jvm.Cond.fieldLink "PluginChains$Fire" (132 : Nat) "PluginChains$Thrown" "value" "I") ∈ lw_all := lw_g (lw_at lw_m13 190 rfl) rfl
theorem q3156 : (Jvm.Cond.classLink "PluginChains$Fire" (26 : Nat) "PluginChains$Ended") ∈ lw_all := lw_g (lw_at lw_m13 196 rfl) rfl
theorem q3165 : (Jvm.Cond.methodLink "PluginChains$Fire" (28 : Nat) ({ cls := "PluginChains$Ended", name := "<init>", desc := "()V" } : Jvm.MethodName)) ∈ lw_all := lw_g (lw_at lw_m13 205 rfl) rfl
theorem q3171 : (Jvm.Cond.fieldLink "PluginChains$Fire" (33 : Nat) "PluginChains$Fire" "isReal" "Z") ∈ lw_all := lw_g (lw_at lw_m13 211 rfl) rfl
theorem q3172 : (Jvm.Cond.fieldLink "PluginChains$Fire" (15 : Nat) "PluginChains$Fire" "notes" "[I") ∈ lw_all := lw_g (lw_at lw_m13 212 rfl) rfl
theorem q3173 : (Jvm.Cond.fieldLink "PluginChains$Fire" (22 : Nat) "PluginChains$Fire" "thrown" "LPluginChains$Thrown;") ∈ lw_all := lw_g (lw_at lw_m13 213 rfl) rfl
theorem q3174 : (Jvm.Cond.fieldLink "PluginChains$Fire" (29 : Nat) "PluginChains$Fire" "ended" "LPluginChains$Ended;") ∈ lw_all := lw_g (lw_at lw_m13 214 rfl) rfl
theorem q3175 : (Jvm.Cond.fieldLink "PluginChains$Fire" (41 : Nat) "PluginChains$Fire" "ran" "I") ∈ lw_all := lw_g (lw_at lw_m13 215 rfl) rfl
theorem q3176 : (Jvm.Cond.fieldLink "PluginChains$Fire" (3 : Nat) "PluginChains$Fire" "this$0" "LPluginChains;") ∈ lw_all := lw_g (lw_at lw_m13 216 rfl) rfl
theorem q3177 : (Jvm.Cond.laysFinal "PluginChains$Fire" "PluginChains$Fire" "isReal" "Z") ∈ lw_all := lw_g (lw_at lw_m13 217 rfl) rfl
theorem q3178 : (Jvm.Cond.soleField "PluginChains$Fire" "isReal") ∈ lw_all := lw_g (lw_at lw_m13 218 rfl) rfl
theorem q3179 : (Jvm.Cond.laysFinal "PluginChains$Fire" "PluginChains$Fire" "notes" "[I") ∈ lw_all := lw_g (lw_at lw_m13 219 rfl) rfl
theorem q3180 : (Jvm.Cond.soleField "PluginChains$Fire" "notes") ∈ lw_all := lw_g (lw_at lw_m13 220 rfl) rfl
theorem q3181 : (Jvm.Cond.laysFinal "PluginChains$Fire" "PluginChains$Fire" "thrown" "LPluginChains$Thrown;") ∈ lw_all := lw_g (lw_at lw_m13 221 rfl) rfl
theorem q3182 : (Jvm.Cond.soleField "PluginChains$Fire" "thrown") ∈ lw_all := lw_g (lw_at lw_m13 222 rfl) rfl
theorem q3183 : (Jvm.Cond.laysFinal "PluginChains$Fire" "PluginChains$Fire" "ended" "LPluginChains$Ended;") ∈ lw_all := lw_g (lw_at lw_m13 223 rfl) rfl
theorem q3184 : (Jvm.Cond.soleField "PluginChains$Fire" "ended") ∈ lw_all := lw_g (lw_at lw_m13 224 rfl) rfl
theorem q3185 : (Jvm.Cond.lays "PluginChains$Fire" "PluginChains$Fire" "ran" "I") ∈ lw_all := lw_g (lw_at lw_m13 225 rfl) rfl
theorem q3186 : (Jvm.Cond.soleField "PluginChains$Fire" "ran") ∈ lw_all := lw_g (lw_at lw_m13 226 rfl) rfl
theorem q3187 : (Jvm.Cond.laysFinal "PluginChains$Fire" "PluginChains$Fire" "this$0" "LPluginChains;") ∈ lw_all := lw_g (lw_at lw_m13 227 rfl) rfl
theorem q3188 : (Jvm.Cond.soleField "PluginChains$Fire" "this$0") ∈ lw_all := lw_g (lw_at lw_m13 228 rfl) rfl
theorem q3189 : (Jvm.Cond.superclass "PluginChains$Fire" "java/lang/Object") ∈ lw_all := lw_g (lw_at lw_m13 229 rfl) rfl
theorem q3191 : (Jvm.Cond.instanceMethod ({ cls := "PluginChains$Fire", name := "chained", desc := "(Ljava/util/TreeSet;I)LPluginChains$Rest;" } : Jvm.MethodName)) ∈ lw_all := lw_g (lw_at lw_m13 231 rfl) rfl
theorem q3192 : (Jvm.Cond.selects "PluginChains$Fire" ({ cls := "PluginChains$Fire", name := "chained", desc := "(Ljava/util/TreeSet;I)LPluginChains$Rest;" } : Jvm.MethodName) ({ cls := "PluginChains$Fire", name := "chained", desc := "(Ljava/util/TreeSet;I)LPluginChains$Rest;" } : Jvm.MethodName)) ∈ lw_all := lw_g (lw_at lw_m13 232 rfl) rfl
theorem q3193 : (Jvm.Cond.code ({ cls := "PluginChains$Fire", name := "chained", desc := "(Ljava/util/TreeSet;I)LPluginChains$Rest;" } : Jvm.MethodName) prog_13_method_9_code (6 : Nat) (Option.some (Jvm.ClassFile.FieldType.object "PluginChains$Rest"))) ∈ lw_all := lw_g (lw_at lw_m13 233 rfl) rfl
theorem q3194 : (Jvm.Cond.privateMethod ({ cls := "PluginChains$Fire", name := "asItIs", desc := "(I)I" } : Jvm.MethodName)) ∈ lw_tbl := lw_at lw_m13 234 rfl
theorem q3195 : (Jvm.Cond.instanceMethod ({ cls := "PluginChains$Fire", name := "asItIs", desc := "(I)I" } : Jvm.MethodName)) ∈ lw_all := lw_g (lw_at lw_m13 235 rfl) rfl
theorem q3196 : (Jvm.Cond.code ({ cls := "PluginChains$Fire", name := "asItIs", desc := "(I)I" } : Jvm.MethodName) prog_13_method_6_code (2 : Nat) (Option.some Jvm.ClassFile.FieldType.int)) ∈ lw_all := lw_g (lw_at lw_m13 236 rfl) rfl
theorem q3197 : (Jvm.Cond.methodLink "PluginChains$Fire" (91 : Nat) ({ cls := "java/util/TreeSet", name := "descendingIterator", desc := "()Ljava/util/Iterator;" } : Jvm.MethodName)) ∈ lw_all := lw_g (lw_at lw_m13 237 rfl) rfl
theorem q3357 : (Jvm.Cond.interfaceEntry "PluginChains$Fire" (97 : Nat)) ∈ lw_tbl := lw_at lw_m14 157 rfl
theorem q3358 : (Jvm.Cond.methodLink "PluginChains$Fire" (97 : Nat) ({ cls := "java/util/Iterator", name := "hasNext", desc := "()Z" } : Jvm.MethodName)) ∈ lw_all := lw_g (lw_at lw_m14 158 rfl) rfl
theorem q3359 : (Jvm.Cond.interfaceEntry "PluginChains$Fire" (103 : Nat)) ∈ lw_tbl := lw_at lw_m14 159 rfl
theorem q3360 : (Jvm.Cond.methodLink "PluginChains$Fire" (103 : Nat) ({ cls := "java/util/Iterator", name := "next", desc := "()Ljava/lang/Object;" } : Jvm.MethodName)) ∈ lw_all := lw_g (lw_at lw_m14 160 rfl) rfl
theorem q3361 : (Jvm.Cond.classLink "PluginChains$Fire" (48 : Nat) "PluginChains$Hook") ∈ lw_all := lw_g (lw_at lw_m14 161 rfl) rfl
theorem q3362 : (Jvm.Cond.methodLink "PluginChains$Fire" (107 : Nat) ({ cls := "PluginChains$Fire", name := "linked", desc := "(LPluginChains$Hook;LPluginChains$Rest;)LPluginChains$Rest;" } : Jvm.MethodName)) ∈ lw_all := lw_g (lw_at lw_m14 162 rfl) rfl
theorem q3363 : (Jvm.Cond.privateMethod ({ cls := "PluginChains$Fire", name := "linked", desc := "(LPluginChains$Hook;LPluginChains$Rest;)LPluginChains$Rest;" } : Jvm.MethodName)) ∈ lw_tbl := lw_at lw_m14 163 rfl
theorem q3364 : (Jvm.Cond.instanceMethod ({ cls := "PluginChains$Fire", name := "linked", desc := "(LPluginChains$Hook;LPluginChains$Rest;)LPluginChains$Rest;" } : Jvm.MethodName)) ∈ lw_all := lw_g (lw_at lw_m14 164 rfl) rfl
theorem q3365 : (Jvm.Cond.code ({ cls := "PluginChains$Fire", name := "linked", desc := "(LPluginChains$Hook;LPluginChains$Rest;)LPluginChains$Rest;" } : Jvm.MethodName) prog_13_method_5_code (4 : Nat) (Option.some (Jvm.ClassFile.FieldType.object "PluginChains$Rest"))) ∈ lw_all := lw_g (lw_at lw_m14 165 rfl) rfl
theorem q3366 : (Jvm.Cond.privateMethod ({ cls := "PluginChains$Fire", name := "lambda$linked$0", desc := "(LPluginChains$Hook;LPluginChains$Act;LPluginChains$Rest;I)I" } : Jvm.MethodName)) ∈ lw_tbl := lw_at lw_m14 166 rfl
theorem q3367 : (Jvm.Cond.instanceMethod ({ cls := "PluginChains$Fire", name := "lambda$linked$0", desc := "(LPluginChains$Hook;LPluginChains$Act;LPluginChains$Rest;I)I" } : Jvm.MethodName)) ∈ lw_all := lw_g (lw_at lw_m14 167 rfl) rfl
theorem q3368 : (Jvm.Cond.code ({ cls := "PluginChains$Fire", name := "lambda$linked$0", desc := "(LPluginChains$Hook;LPluginChains$Act;LPluginChains$Rest;I)I" } : Jvm.MethodName) prog_13_method_11_code (5 : Nat) (Option.some Jvm.ClassFile.FieldType.int)) ∈ lw_all := lw_g (lw_at lw_m14 168 rfl) rfl
theorem q3369 : (Jvm.Cond.methodLink "PluginChains$Fire" (139 : Nat) ({ cls := "PluginChains$Fire", name := "runs", desc := "(LPluginChains$Hook;)V" } : Jvm.MethodName)) ∈ lw_all := lw_g (lw_at lw_m14 169 rfl) rfl
theorem q3370 : (Jvm.Cond.instanceMethod ({ cls := "PluginChains$Fire", name := "runs", desc := "(LPluginChains$Hook;)V" } : Jvm.MethodName)) ∈ lw_all := lw_g (lw_at lw_m14 170 rfl) rfl
theorem q3371 : (Jvm.Cond.selects "PluginChains$Fire" ({ cls := "PluginChains$Fire", name := "runs", desc := "(LPluginChains$Hook;)V" } : Jvm.MethodName) ({ cls := "PluginChains$Fire", name := "runs", desc := "(LPluginChains$Hook;)V" } : Jvm.MethodName)) ∈ lw_all := lw_g (lw_at lw_m14 171 rfl) rfl
theorem q3372 : (Jvm.Cond.code ({ cls := "PluginChains$Fire", name := "runs", desc := "(LPluginChains$Hook;)V" } : Jvm.MethodName) prog_13_method_2_code (2 : Nat) (Option.none : Option Jvm.ClassFile.FieldType)) ∈ lw_all := lw_g (lw_at lw_m14 172 rfl) rfl
theorem q3373 : (Jvm.Cond.interfaceEntry "PluginChains$Fire" (143 : Nat)) ∈ lw_tbl := lw_at lw_m14 173 rfl
theorem q3374 : (Jvm.Cond.methodLink "PluginChains$Fire" (143 : Nat) ({ cls := "PluginChains$Act", name := "of", desc := "(LPluginChains$Fire;LPluginChains$Hook;LPluginChains$Rest;I)I" } : Jvm.MethodName)) ∈ lw_all := lw_g (lw_at lw_m14 174 rfl) rfl
theorem q3378 : (Jvm.Cond.instanceMethod ({ cls := "PluginChains$Fire", name := "through", desc := "(LPluginChains$Rest;I)LPluginChains$Outcome;" } : Jvm.MethodName)) ∈ lw_all := lw_g (lw_at lw_m14 178 rfl) rfl
theorem q3379 : (Jvm.Cond.selects "PluginChains$Fire" ({ cls := "PluginChains$Fire", name := "through", desc := "(LPluginChains$Rest;I)LPluginChains$Outcome;" } : Jvm.MethodName) ({ cls := "PluginChains$Fire", name := "through", desc := "(LPluginChains$Rest;I)LPluginChains$Outcome;" } : Jvm.MethodName)) ∈ lw_all := lw_g (lw_at lw_m14 179 rfl) rfl
theorem q3380 : (Jvm.Cond.codeWith ({ cls := "PluginChains$Fire", name := "through", desc := "(LPluginChains$Rest;I)LPluginChains$Outcome;" } : Jvm.MethodName) prog_13_method_10_code (4 : Nat) (Option.some (Jvm.ClassFile.FieldType.object "PluginChains$Outcome")) [((13 : Nat), (33 : Nat), (34 : Nat), (19 : Nat)), ((13 : Nat), (33 : Nat), (47 : Nat), (26 : Nat))]) ∈ lw_all := lw_g (lw_at lw_m14 180 rfl) rfl
theorem q3381 : (Jvm.Cond.methodLink "PluginChains$Fire" (111 : Nat) ({ cls := "java/util/Arrays", name := "fill", desc := "([II)V" } : Jvm.MethodName)) ∈ lw_all := lw_g (lw_at lw_m14 181 rfl) rfl
theorem q3382 : (Jvm.Cond.interfaceEntry "PluginChains$Fire" (117 : Nat)) ∈ lw_tbl := lw_at lw_m14 182 rfl
theorem q3383 : (Jvm.Cond.methodLink "PluginChains$Fire" (117 : Nat) ({ cls := "PluginChains$Rest", name := "of", desc := "(I)I" } : Jvm.MethodName)) ∈ lw_all := lw_g (lw_at lw_m14 183 rfl) rfl
theorem q3384 : (Jvm.Cond.methodLink "PluginChains$Fire" (122 : Nat) ({ cls := "PluginChains$Fire", name := "keep", desc := "()V" } : Jvm.MethodName)) ∈ lw_all := lw_g (lw_at lw_m14 184 rfl) rfl
theorem q3385 : (Jvm.Cond.privateMethod ({ cls := "PluginChains$Fire", name := "keep", desc := "()V" } : Jvm.MethodName)) ∈ lw_tbl := lw_at lw_m14 185 rfl
theorem q3386 : (Jvm.Cond.instanceMethod ({ cls := "PluginChains$Fire", name := "keep", desc := "()V" } : Jvm.MethodName)) ∈ lw_all := lw_g (lw_at lw_m14 186 rfl) rfl
theorem q3387 : (Jvm.Cond.code ({ cls := "PluginChains$Fire", name := "keep", desc := "()V" } : Jvm.MethodName) prog_13_method_7_code (2 : Nat) (Option.none : Option Jvm.ClassFile.FieldType)) ∈ lw_all := lw_g (lw_at lw_m14 187 rfl) rfl
theorem q3388 : (Jvm.Cond.classLink "PluginChains$Fire" (125 : Nat) "PluginChains$Gave") ∈ lw_all := lw_g (lw_at lw_m14 188 rfl) rfl
theorem q3390 : (Jvm.Cond.methodLink "PluginChains$Fire" (127 : Nat) ({ cls := "PluginChains$Gave", name := "<init>", desc := "(I)V" } : Jvm.MethodName)) ∈ lw_all := lw_g (lw_at lw_m14 190 rfl) rfl
theorem q3399 : (Jvm.Cond.classLink "PluginChains$Fire" (130 : Nat) "PluginChains$Threw") ∈ lw_all := lw_g (lw_at lw_m14 199 rfl) rfl
theorem q3401 : (Jvm.Cond.methodLink "PluginChains$Fire" (135 : Nat) ({ cls := "PluginChains$Threw", name := "<init>", desc := "(I)V" } : Jvm.MethodName)) ∈ lw_all := lw_g (lw_at lw_m14 201 rfl) rfl
theorem q3410 : (Jvm.Cond.classLink "PluginChains$Fire" (136 : Nat) "PluginChains$Over") ∈ lw_all := lw_g (lw_at lw_m14 210 rfl) rfl
theorem q3412 : (Jvm.Cond.methodLink "PluginChains$Fire" (138 : Nat) ({ cls := "PluginChains$Over", name := "<init>", desc := "()V" } : Jvm.MethodName)) ∈ lw_all := lw_g (lw_at lw_m14 212 rfl) rfl
theorem q4085 : (Jvm.Cond.castable "PluginChains$Fire" "java/lang/Object") ∈ lw_tbl := lw_at lw_m17 165 rfl
theorem in_X29 : ∀ w ∈ wsX290, w ∈ lw_all := lw_in wsX290 [3177, 3179, 3181, 3183, 3185, 3187] (by decide +kernel) (by decide +kernel)

/-! PluginChains$Thrown -/
set_option maxRecDepth 100000
def RX30 : String := "PluginChains$Thrown"
def TX30 : u_T := fun k => match k with
  | 0 => ("java/lang/Throwable", "cause", "Ljava/lang/Throwable;", false)
  | 1 => ("java/lang/Throwable", "stackTrace", "[Ljava/lang/StackTraceElement;", false)
  | 2 => ("java/lang/Throwable", "suppressedExceptions", "Ljava/util/List;", false)
  | 3 => ("java/lang/Throwable", "detailMessage", "Ljava/lang/String;", false)
  | 4 => ("java/lang/Throwable", "backtrace", "Ljava/lang/Object;", false)
  | 5 => ("java/lang/Throwable", "depth", "I", false)
  | _ => ("PluginChains$Thrown", "value", "I", false)
def tyX30 : Nat → FieldType := fun k => match k with
  | 0 => .object "java/lang/Throwable"
  | 1 => .array (.object "java/lang/StackTraceElement")
  | 2 => .object "java/util/List"
  | 3 => .object "java/lang/String"
  | 4 => .object "java/lang/Object"
  | 5 => .int
  | _ => .int
abbrev wsX300 : List Cond := u_ws RX30 TX30 7
theorem nmX30 : ∀ a, a < 7 → ∀ b, b < 7 → a ≠ b → (TX30 a).2.1 ≠ (TX30 b).2.1 := by decide +kernel
theorem tyX30_ok : ∀ k, k < 7 → parseFieldDescriptor (TX30 k).2.2.1 = some (tyX30 k) := by decide +kernel
abbrev cX30_with : ByteArray := prog_37_method_2_code
def yX30_with : MethodName := ⟨RX30, "with", "(I)LPluginChains$Thrown;"⟩
def dkwX30_with_0 : List UInt8 := [42, 27, 181, 0, 7, 42, 176]
abbrev dktX30_with_0 : List UInt8 := dkwX30_with_0 ++ []
theorem dksX30_with_0 : cX30_with.data.toList.drop 0 = dktX30_with_0 := by decide +kernel
theorem dX30_with_0 : decode cX30_with 0 = .ok (.aload_n 0, 1) := dk_42 (dk_at dksX30_with_0 0 rfl rfl)
theorem dX30_with_1 : decode cX30_with 1 = .ok (.iload_n 1, 1) := dk_27 (dk_at dksX30_with_0 1 rfl rfl)
theorem dX30_with_2 : decode cX30_with 2 = .ok (.putfield 7, 3) := dk_181 0 7 (dk_at dksX30_with_0 2 rfl rfl)
theorem dX30_with_5 : decode cX30_with 5 = .ok (.aload_n 0, 1) := dk_42 (dk_at dksX30_with_0 5 rfl rfl)
theorem dX30_with_6 : decode cX30_with 6 = .ok (.areturn, 1) := dk_176 (dk_at dksX30_with_0 6 rfl rfl)
abbrev cX30_init : ByteArray := prog_37_method_1_code
def yX30_init : MethodName := ⟨RX30, "<init>", "()V"⟩
def dkwX30_init_0 : List UInt8 := [42, 1, 1, 3, 3, 183, 0, 1, 177]
abbrev dktX30_init_0 : List UInt8 := dkwX30_init_0 ++ []
theorem dksX30_init_0 : cX30_init.data.toList.drop 0 = dktX30_init_0 := by decide +kernel
theorem dX30_init_0 : decode cX30_init 0 = .ok (.aload_n 0, 1) := dk_42 (dk_at dksX30_init_0 0 rfl rfl)
theorem dX30_init_1 : decode cX30_init 1 = .ok (.aconst_null, 1) := dk_1 (dk_at dksX30_init_0 1 rfl rfl)
theorem dX30_init_2 : decode cX30_init 2 = .ok (.aconst_null, 1) := dk_1 (dk_at dksX30_init_0 2 rfl rfl)
theorem dX30_init_3 : decode cX30_init 3 = .ok (.iconst 0, 1) := dk_3 (dk_at dksX30_init_0 3 rfl rfl)
theorem dX30_init_4 : decode cX30_init 4 = .ok (.iconst 0, 1) := dk_3 (dk_at dksX30_init_0 4 rfl rfl)
theorem dX30_init_5 : decode cX30_init 5 = .ok (.invokespecial 1, 3) := dk_183 0 1 (dk_at dksX30_init_0 5 rfl rfl)
theorem dX30_init_8 : decode cX30_init 8 = .ok (.return_, 1) := dk_177 (dk_at dksX30_init_0 8 rfl rfl)
theorem q159 : (Jvm.Cond.initialized "PluginChains$Thrown") ∈ lw_all := lw_g (lw_at lw_m1 79 rfl) rfl
theorem q364 : (Jvm.Cond.instanceMethod ({ cls := "PluginChains$Thrown", name := "with", desc := "(I)LPluginChains$Thrown;" } : Jvm.MethodName)) ∈ lw_all := lw_g (lw_at lw_m2 44 rfl) rfl
theorem q365 : (Jvm.Cond.selects "PluginChains$Thrown" ({ cls := "PluginChains$Thrown", name := "with", desc := "(I)LPluginChains$Thrown;" } : Jvm.MethodName) ({ cls := "PluginChains$Thrown", name := "with", desc := "(I)LPluginChains$Thrown;" } : Jvm.MethodName)) ∈ lw_all := lw_g (lw_at lw_m2 45 rfl) rfl
theorem q366 : (Jvm.Cond.code ({ cls := "PluginChains$Thrown", name := "with", desc := "(I)LPluginChains$Thrown;" } : Jvm.MethodName) prog_37_method_2_code (2 : Nat) (Option.some (Jvm.ClassFile.FieldType.object "PluginChains$Thrown"))) ∈ lw_all := lw_g (lw_at lw_m2 46 rfl) rfl
theorem q448 : (Jvm.Cond.selects "PluginChains$Thrown" ({ cls := "java/lang/Throwable", name := "fillInStackTrace", desc := "()Ljava/lang/Throwable;" } : Jvm.MethodName) ({ cls := "java/lang/Throwable", name := "fillInStackTrace", desc := "()Ljava/lang/Throwable;" } : Jvm.MethodName)) ∈ lw_all := lw_g (lw_at lw_m2 128 rfl) rfl
theorem q1331 : (Jvm.Cond.selects "PluginChains$Thrown" ({ cls := "java/lang/Object", name := "getClass", desc := "()Ljava/lang/Class;" } : Jvm.MethodName) ({ cls := "java/lang/Object", name := "getClass", desc := "()Ljava/lang/Class;" } : Jvm.MethodName)) ∈ lw_all := lw_g (lw_at lw_m6 51 rfl) rfl
theorem q3137 : (Jvm.Cond.instantiable "PluginChains$Thrown" (7 : Nat)) ∈ lw_all := lw_g (lw_at lw_m13 177 rfl) rfl
theorem q3138 : (Jvm.Cond.castable "PluginChains$Thrown" "PluginChains$Thrown") ∈ lw_tbl := lw_at lw_m13 178 rfl
theorem q3139 : (Jvm.Cond.selects "PluginChains$Thrown" ({ cls := "java/lang/Throwable", name := "fillInStackTrace", desc := "(I)Ljava/lang/Throwable;" } : Jvm.MethodName) ({ cls := "java/lang/Throwable", name := "fillInStackTrace", desc := "(I)Ljava/lang/Throwable;" } : Jvm.MethodName)) ∈ lw_all := lw_g (lw_at lw_m13 179 rfl) rfl
theorem q3140 : (Jvm.Cond.lays "PluginChains$Thrown" "java/lang/Throwable" "cause" "Ljava/lang/Throwable;") ∈ lw_all := lw_g (lw_at lw_m13 180 rfl) rfl
theorem q3141 : (Jvm.Cond.lays "PluginChains$Thrown" "java/lang/Throwable" "stackTrace" "[Ljava/lang/StackTraceElement;") ∈ lw_all := lw_g (lw_at lw_m13 181 rfl) rfl
theorem q3142 : (Jvm.Cond.lays "PluginChains$Thrown" "java/lang/Throwable" "suppressedExceptions" "Ljava/util/List;") ∈ lw_all := lw_g (lw_at lw_m13 182 rfl) rfl
theorem q3143 : (Jvm.Cond.lays "PluginChains$Thrown" "java/lang/Throwable" "detailMessage" "Ljava/lang/String;") ∈ lw_all := lw_g (lw_at lw_m13 183 rfl) rfl
theorem q3144 : (Jvm.Cond.lays "PluginChains$Thrown" "java/lang/Throwable" "backtrace" "Ljava/lang/Object;") ∈ lw_all := lw_g (lw_at lw_m13 184 rfl) rfl
theorem q3146 : (Jvm.Cond.instanceMethod ({ cls := "PluginChains$Thrown", name := "<init>", desc := "()V" } : Jvm.MethodName)) ∈ lw_all := lw_g (lw_at lw_m13 186 rfl) rfl
theorem q3147 : (Jvm.Cond.code ({ cls := "PluginChains$Thrown", name := "<init>", desc := "()V" } : Jvm.MethodName) prog_37_method_1_code (1 : Nat) (Option.none : Option Jvm.ClassFile.FieldType)) ∈ lw_all := lw_g (lw_at lw_m13 187 rfl) rfl
theorem q3148 : (Jvm.Cond.methodLink "PluginChains$Thrown" (1 : Nat) ({ cls := "java/lang/Exception", name := "<init>", desc := "(Ljava/lang/String;Ljava/lang/Throwable;ZZ)V" } : Jvm.MethodName)) ∈ lw_all := lw_g (lw_at lw_m13 188 rfl) rfl
theorem q3149 : (Jvm.Cond.fieldLink "PluginChains$Thrown" (7 : Nat) "PluginChains$Thrown" "value" "I") ∈ lw_all := lw_g (lw_at lw_m13 189 rfl) rfl
theorem q3152 : (Jvm.Cond.lays "PluginChains$Thrown" "PluginChains$Thrown" "value" "I") ∈ lw_all := lw_g (lw_at lw_m13 192 rfl) rfl
theorem q3153 : (Jvm.Cond.soleField "PluginChains$Thrown" "value") ∈ lw_all := lw_g (lw_at lw_m13 193 rfl) rfl
theorem q3154 : (Jvm.Cond.lays "PluginChains$Thrown" "java/lang/Throwable" "depth" "I") ∈ lw_all := lw_g (lw_at lw_m13 194 rfl) rfl
theorem q3155 : (Jvm.Cond.superclass "PluginChains$Thrown" "java/lang/Exception") ∈ lw_all := lw_g (lw_at lw_m13 195 rfl) rfl
theorem q4086 : (Jvm.Cond.castable "PluginChains$Thrown" "java/lang/Object") ∈ lw_tbl := lw_at lw_m17 166 rfl
theorem in_X30 : ∀ w ∈ wsX300, w ∈ lw_all := lw_in wsX300 [3140, 3141, 3142, 3143, 3144, 3154, 3152] (by decide +kernel) (by decide +kernel)

/-! PluginChains$Ended -/
set_option maxRecDepth 100000
def RX31 : String := "PluginChains$Ended"
def TX31 : u_T := fun k => match k with
  | 0 => ("java/lang/Throwable", "cause", "Ljava/lang/Throwable;", false)
  | 1 => ("java/lang/Throwable", "stackTrace", "[Ljava/lang/StackTraceElement;", false)
  | 2 => ("java/lang/Throwable", "suppressedExceptions", "Ljava/util/List;", false)
  | 3 => ("java/lang/Throwable", "detailMessage", "Ljava/lang/String;", false)
  | 4 => ("java/lang/Throwable", "backtrace", "Ljava/lang/Object;", false)
  | _ => ("java/lang/Throwable", "depth", "I", false)
def tyX31 : Nat → FieldType := fun k => match k with
  | 0 => .object "java/lang/Throwable"
  | 1 => .array (.object "java/lang/StackTraceElement")
  | 2 => .object "java/util/List"
  | 3 => .object "java/lang/String"
  | 4 => .object "java/lang/Object"
  | _ => .int
abbrev wsX310 : List Cond := u_ws RX31 TX31 6
theorem nmX31 : ∀ a, a < 6 → ∀ b, b < 6 → a ≠ b → (TX31 a).2.1 ≠ (TX31 b).2.1 := by decide +kernel
theorem tyX31_ok : ∀ k, k < 6 → parseFieldDescriptor (TX31 k).2.2.1 = some (tyX31 k) := by decide +kernel
abbrev cX31_init : ByteArray := prog_11_method_1_code
def yX31_init : MethodName := ⟨RX31, "<init>", "()V"⟩
def dkwX31_init_0 : List UInt8 := [42, 1, 1, 3, 3, 183, 0, 1, 177]
abbrev dktX31_init_0 : List UInt8 := dkwX31_init_0 ++ []
theorem dksX31_init_0 : cX31_init.data.toList.drop 0 = dktX31_init_0 := by decide +kernel
theorem dX31_init_0 : decode cX31_init 0 = .ok (.aload_n 0, 1) := dk_42 (dk_at dksX31_init_0 0 rfl rfl)
theorem dX31_init_1 : decode cX31_init 1 = .ok (.aconst_null, 1) := dk_1 (dk_at dksX31_init_0 1 rfl rfl)
theorem dX31_init_2 : decode cX31_init 2 = .ok (.aconst_null, 1) := dk_1 (dk_at dksX31_init_0 2 rfl rfl)
theorem dX31_init_3 : decode cX31_init 3 = .ok (.iconst 0, 1) := dk_3 (dk_at dksX31_init_0 3 rfl rfl)
theorem dX31_init_4 : decode cX31_init 4 = .ok (.iconst 0, 1) := dk_3 (dk_at dksX31_init_0 4 rfl rfl)
theorem dX31_init_5 : decode cX31_init 5 = .ok (.invokespecial 1, 3) := dk_183 0 1 (dk_at dksX31_init_0 5 rfl rfl)
theorem dX31_init_8 : decode cX31_init 8 = .ok (.return_, 1) := dk_177 (dk_at dksX31_init_0 8 rfl rfl)
theorem q160 : (Jvm.Cond.initialized "PluginChains$Ended") ∈ lw_all := lw_g (lw_at lw_m1 80 rfl) rfl
theorem q444 : (Jvm.Cond.selects "PluginChains$Ended" ({ cls := "java/lang/Throwable", name := "fillInStackTrace", desc := "()Ljava/lang/Throwable;" } : Jvm.MethodName) ({ cls := "java/lang/Throwable", name := "fillInStackTrace", desc := "()Ljava/lang/Throwable;" } : Jvm.MethodName)) ∈ lw_all := lw_g (lw_at lw_m2 124 rfl) rfl
theorem q1309 : (Jvm.Cond.selects "PluginChains$Ended" ({ cls := "java/lang/Object", name := "getClass", desc := "()Ljava/lang/Class;" } : Jvm.MethodName) ({ cls := "java/lang/Object", name := "getClass", desc := "()Ljava/lang/Class;" } : Jvm.MethodName)) ∈ lw_all := lw_g (lw_at lw_m6 29 rfl) rfl
theorem q3157 : (Jvm.Cond.instantiable "PluginChains$Ended" (6 : Nat)) ∈ lw_all := lw_g (lw_at lw_m13 197 rfl) rfl
theorem q3158 : (Jvm.Cond.castable "PluginChains$Ended" "PluginChains$Ended") ∈ lw_tbl := lw_at lw_m13 198 rfl
theorem q3159 : (Jvm.Cond.selects "PluginChains$Ended" ({ cls := "java/lang/Throwable", name := "fillInStackTrace", desc := "(I)Ljava/lang/Throwable;" } : Jvm.MethodName) ({ cls := "java/lang/Throwable", name := "fillInStackTrace", desc := "(I)Ljava/lang/Throwable;" } : Jvm.MethodName)) ∈ lw_all := lw_g (lw_at lw_m13 199 rfl) rfl
theorem q3160 : (Jvm.Cond.lays "PluginChains$Ended" "java/lang/Throwable" "cause" "Ljava/lang/Throwable;") ∈ lw_all := lw_g (lw_at lw_m13 200 rfl) rfl
theorem q3161 : (Jvm.Cond.lays "PluginChains$Ended" "java/lang/Throwable" "stackTrace" "[Ljava/lang/StackTraceElement;") ∈ lw_all := lw_g (lw_at lw_m13 201 rfl) rfl
theorem q3162 : (Jvm.Cond.lays "PluginChains$Ended" "java/lang/Throwable" "suppressedExceptions" "Ljava/util/List;") ∈ lw_all := lw_g (lw_at lw_m13 202 rfl) rfl
theorem q3163 : (Jvm.Cond.lays "PluginChains$Ended" "java/lang/Throwable" "detailMessage" "Ljava/lang/String;") ∈ lw_all := lw_g (lw_at lw_m13 203 rfl) rfl
theorem q3164 : (Jvm.Cond.lays "PluginChains$Ended" "java/lang/Throwable" "backtrace" "Ljava/lang/Object;") ∈ lw_all := lw_g (lw_at lw_m13 204 rfl) rfl
theorem q3166 : (Jvm.Cond.instanceMethod ({ cls := "PluginChains$Ended", name := "<init>", desc := "()V" } : Jvm.MethodName)) ∈ lw_all := lw_g (lw_at lw_m13 206 rfl) rfl
theorem q3167 : (Jvm.Cond.code ({ cls := "PluginChains$Ended", name := "<init>", desc := "()V" } : Jvm.MethodName) prog_11_method_1_code (1 : Nat) (Option.none : Option Jvm.ClassFile.FieldType)) ∈ lw_all := lw_g (lw_at lw_m13 207 rfl) rfl
theorem q3168 : (Jvm.Cond.methodLink "PluginChains$Ended" (1 : Nat) ({ cls := "java/lang/Exception", name := "<init>", desc := "(Ljava/lang/String;Ljava/lang/Throwable;ZZ)V" } : Jvm.MethodName)) ∈ lw_all := lw_g (lw_at lw_m13 208 rfl) rfl
theorem q3169 : (Jvm.Cond.lays "PluginChains$Ended" "java/lang/Throwable" "depth" "I") ∈ lw_all := lw_g (lw_at lw_m13 209 rfl) rfl
theorem q3170 : (Jvm.Cond.superclass "PluginChains$Ended" "java/lang/Exception") ∈ lw_all := lw_g (lw_at lw_m13 210 rfl) rfl
theorem q4087 : (Jvm.Cond.castable "PluginChains$Ended" "java/lang/Object") ∈ lw_tbl := lw_at lw_m17 167 rfl
theorem in_X31 : ∀ w ∈ wsX310, w ∈ lw_all := lw_in wsX310 [3160, 3161, 3162, 3163, 3164, 3169] (by decide +kernel) (by decide +kernel)

/-! PluginChains$Gave -/
set_option maxRecDepth 100000
def RX32 : String := "PluginChains$Gave"
def TX32 : u_T := fun k => match k with
  | _ => ("PluginChains$Gave", "value", "I", true)
def tyX32 : Nat → FieldType := fun k => match k with
  | _ => .int
abbrev wsX320 : List Cond := u_ws RX32 TX32 1
theorem nmX32 : ∀ a, a < 1 → ∀ b, b < 1 → a ≠ b → (TX32 a).2.1 ≠ (TX32 b).2.1 := by decide +kernel
theorem tyX32_ok : ∀ k, k < 1 → parseFieldDescriptor (TX32 k).2.2.1 = some (tyX32 k) := by decide +kernel
abbrev cX32_init : ByteArray := prog_14_method_1_code
def yX32_init : MethodName := ⟨RX32, "<init>", "(I)V"⟩
def dkwX32_init_0 : List UInt8 := [42, 183, 0, 1, 42, 27, 181, 0, 7, 177]
abbrev dktX32_init_0 : List UInt8 := dkwX32_init_0 ++ []
theorem dksX32_init_0 : cX32_init.data.toList.drop 0 = dktX32_init_0 := by decide +kernel
theorem dX32_init_0 : decode cX32_init 0 = .ok (.aload_n 0, 1) := dk_42 (dk_at dksX32_init_0 0 rfl rfl)
theorem dX32_init_1 : decode cX32_init 1 = .ok (.invokespecial 1, 3) := dk_183 0 1 (dk_at dksX32_init_0 1 rfl rfl)
theorem dX32_init_4 : decode cX32_init 4 = .ok (.aload_n 0, 1) := dk_42 (dk_at dksX32_init_0 4 rfl rfl)
theorem dX32_init_5 : decode cX32_init 5 = .ok (.iload_n 1, 1) := dk_27 (dk_at dksX32_init_0 5 rfl rfl)
theorem dX32_init_6 : decode cX32_init 6 = .ok (.putfield 7, 3) := dk_181 0 7 (dk_at dksX32_init_0 6 rfl rfl)
theorem dX32_init_9 : decode cX32_init 9 = .ok (.return_, 1) := dk_177 (dk_at dksX32_init_0 9 rfl rfl)
theorem q169 : (Jvm.Cond.initialized "PluginChains$Gave") ∈ lw_all := lw_g (lw_at lw_m1 89 rfl) rfl
theorem q1312 : (Jvm.Cond.selects "PluginChains$Gave" ({ cls := "java/lang/Object", name := "getClass", desc := "()Ljava/lang/Class;" } : Jvm.MethodName) ({ cls := "java/lang/Object", name := "getClass", desc := "()Ljava/lang/Class;" } : Jvm.MethodName)) ∈ lw_all := lw_g (lw_at lw_m6 32 rfl) rfl
theorem q3389 : (Jvm.Cond.instantiable "PluginChains$Gave" (1 : Nat)) ∈ lw_all := lw_g (lw_at lw_m14 189 rfl) rfl
theorem q3391 : (Jvm.Cond.instanceMethod ({ cls := "PluginChains$Gave", name := "<init>", desc := "(I)V" } : Jvm.MethodName)) ∈ lw_all := lw_g (lw_at lw_m14 191 rfl) rfl
theorem q3392 : (Jvm.Cond.code ({ cls := "PluginChains$Gave", name := "<init>", desc := "(I)V" } : Jvm.MethodName) prog_14_method_1_code (2 : Nat) (Option.none : Option Jvm.ClassFile.FieldType)) ∈ lw_all := lw_g (lw_at lw_m14 192 rfl) rfl
theorem q3393 : (Jvm.Cond.methodLink "PluginChains$Gave" (1 : Nat) ({ cls := "java/lang/Object", name := "<init>", desc := "()V" } : Jvm.MethodName)) ∈ lw_all := lw_g (lw_at lw_m14 193 rfl) rfl
theorem q3394 : (Jvm.Cond.fieldLink "PluginChains$Gave" (7 : Nat) "PluginChains$Gave" "value" "I") ∈ lw_all := lw_g (lw_at lw_m14 194 rfl) rfl
theorem q3396 : (Jvm.Cond.laysFinal "PluginChains$Gave" "PluginChains$Gave" "value" "I") ∈ lw_all := lw_g (lw_at lw_m14 196 rfl) rfl
theorem q3397 : (Jvm.Cond.soleField "PluginChains$Gave" "value") ∈ lw_all := lw_g (lw_at lw_m14 197 rfl) rfl
theorem q3398 : (Jvm.Cond.superclass "PluginChains$Gave" "java/lang/Object") ∈ lw_all := lw_g (lw_at lw_m14 198 rfl) rfl
theorem q4092 : (Jvm.Cond.castable "PluginChains$Gave" "java/lang/Object") ∈ lw_tbl := lw_at lw_m17 172 rfl
theorem in_X32 : ∀ w ∈ wsX320, w ∈ lw_all := lw_in wsX320 [3396] (by decide +kernel) (by decide +kernel)

/-! PluginChains$Threw -/
set_option maxRecDepth 100000
def RX33 : String := "PluginChains$Threw"
def TX33 : u_T := fun k => match k with
  | _ => ("PluginChains$Threw", "value", "I", true)
def tyX33 : Nat → FieldType := fun k => match k with
  | _ => .int
abbrev wsX330 : List Cond := u_ws RX33 TX33 1
theorem nmX33 : ∀ a, a < 1 → ∀ b, b < 1 → a ≠ b → (TX33 a).2.1 ≠ (TX33 b).2.1 := by decide +kernel
theorem tyX33_ok : ∀ k, k < 1 → parseFieldDescriptor (TX33 k).2.2.1 = some (tyX33 k) := by decide +kernel
abbrev cX33_init : ByteArray := prog_36_method_1_code
def yX33_init : MethodName := ⟨RX33, "<init>", "(I)V"⟩
def dkwX33_init_0 : List UInt8 := [42, 183, 0, 1, 42, 27, 181, 0, 7, 177]
abbrev dktX33_init_0 : List UInt8 := dkwX33_init_0 ++ []
theorem dksX33_init_0 : cX33_init.data.toList.drop 0 = dktX33_init_0 := by decide +kernel
theorem dX33_init_0 : decode cX33_init 0 = .ok (.aload_n 0, 1) := dk_42 (dk_at dksX33_init_0 0 rfl rfl)
theorem dX33_init_1 : decode cX33_init 1 = .ok (.invokespecial 1, 3) := dk_183 0 1 (dk_at dksX33_init_0 1 rfl rfl)
theorem dX33_init_4 : decode cX33_init 4 = .ok (.aload_n 0, 1) := dk_42 (dk_at dksX33_init_0 4 rfl rfl)
theorem dX33_init_5 : decode cX33_init 5 = .ok (.iload_n 1, 1) := dk_27 (dk_at dksX33_init_0 5 rfl rfl)
theorem dX33_init_6 : decode cX33_init 6 = .ok (.putfield 7, 3) := dk_181 0 7 (dk_at dksX33_init_0 6 rfl rfl)
theorem dX33_init_9 : decode cX33_init 9 = .ok (.return_, 1) := dk_177 (dk_at dksX33_init_0 9 rfl rfl)
theorem q170 : (Jvm.Cond.initialized "PluginChains$Threw") ∈ lw_all := lw_g (lw_at lw_m1 90 rfl) rfl
theorem q1330 : (Jvm.Cond.selects "PluginChains$Threw" ({ cls := "java/lang/Object", name := "getClass", desc := "()Ljava/lang/Class;" } : Jvm.MethodName) ({ cls := "java/lang/Object", name := "getClass", desc := "()Ljava/lang/Class;" } : Jvm.MethodName)) ∈ lw_all := lw_g (lw_at lw_m6 50 rfl) rfl
theorem q3400 : (Jvm.Cond.instantiable "PluginChains$Threw" (1 : Nat)) ∈ lw_all := lw_g (lw_at lw_m14 200 rfl) rfl
theorem q3402 : (Jvm.Cond.instanceMethod ({ cls := "PluginChains$Threw", name := "<init>", desc := "(I)V" } : Jvm.MethodName)) ∈ lw_all := lw_g (lw_at lw_m14 202 rfl) rfl
theorem q3403 : (Jvm.Cond.code ({ cls := "PluginChains$Threw", name := "<init>", desc := "(I)V" } : Jvm.MethodName) prog_36_method_1_code (2 : Nat) (Option.none : Option Jvm.ClassFile.FieldType)) ∈ lw_all := lw_g (lw_at lw_m14 203 rfl) rfl
theorem q3404 : (Jvm.Cond.methodLink "PluginChains$Threw" (1 : Nat) ({ cls := "java/lang/Object", name := "<init>", desc := "()V" } : Jvm.MethodName)) ∈ lw_all := lw_g (lw_at lw_m14 204 rfl) rfl
theorem q3405 : (Jvm.Cond.fieldLink "PluginChains$Threw" (7 : Nat) "PluginChains$Threw" "value" "I") ∈ lw_all := lw_g (lw_at lw_m14 205 rfl) rfl
theorem q3407 : (Jvm.Cond.laysFinal "PluginChains$Threw" "PluginChains$Threw" "value" "I") ∈ lw_all := lw_g (lw_at lw_m14 207 rfl) rfl
theorem q3408 : (Jvm.Cond.soleField "PluginChains$Threw" "value") ∈ lw_all := lw_g (lw_at lw_m14 208 rfl) rfl
theorem q3409 : (Jvm.Cond.superclass "PluginChains$Threw" "java/lang/Object") ∈ lw_all := lw_g (lw_at lw_m14 209 rfl) rfl
theorem q4093 : (Jvm.Cond.castable "PluginChains$Threw" "java/lang/Object") ∈ lw_tbl := lw_at lw_m17 173 rfl
theorem in_X33 : ∀ w ∈ wsX330, w ∈ lw_all := lw_in wsX330 [3407] (by decide +kernel) (by decide +kernel)

/-! PluginChains$Over -/
set_option maxRecDepth 100000
def RX34 : String := "PluginChains$Over"
abbrev cX34_init : ByteArray := prog_22_method_1_code
def yX34_init : MethodName := ⟨RX34, "<init>", "()V"⟩
theorem dX34_init_0 : decode cX34_init 0 = .ok (.aload_n 0, 1) := by decide +kernel
theorem dX34_init_1 : decode cX34_init 1 = .ok (.invokespecial 1, 3) := by decide +kernel
theorem dX34_init_4 : decode cX34_init 4 = .ok (.return_, 1) := by decide +kernel
theorem q171 : (Jvm.Cond.initialized "PluginChains$Over") ∈ lw_all := lw_g (lw_at lw_m1 91 rfl) rfl
theorem q1319 : (Jvm.Cond.selects "PluginChains$Over" ({ cls := "java/lang/Object", name := "getClass", desc := "()Ljava/lang/Class;" } : Jvm.MethodName) ({ cls := "java/lang/Object", name := "getClass", desc := "()Ljava/lang/Class;" } : Jvm.MethodName)) ∈ lw_all := lw_g (lw_at lw_m6 39 rfl) rfl
theorem q3411 : (Jvm.Cond.instantiable "PluginChains$Over" (0 : Nat)) ∈ lw_all := lw_g (lw_at lw_m14 211 rfl) rfl
theorem q3413 : (Jvm.Cond.instanceMethod ({ cls := "PluginChains$Over", name := "<init>", desc := "()V" } : Jvm.MethodName)) ∈ lw_all := lw_g (lw_at lw_m14 213 rfl) rfl
theorem q3414 : (Jvm.Cond.code ({ cls := "PluginChains$Over", name := "<init>", desc := "()V" } : Jvm.MethodName) prog_22_method_1_code (1 : Nat) (Option.none : Option Jvm.ClassFile.FieldType)) ∈ lw_all := lw_g (lw_at lw_m14 214 rfl) rfl
theorem q3415 : (Jvm.Cond.methodLink "PluginChains$Over" (1 : Nat) ({ cls := "java/lang/Object", name := "<init>", desc := "()V" } : Jvm.MethodName)) ∈ lw_all := lw_g (lw_at lw_m14 215 rfl) rfl
theorem q3416 : (Jvm.Cond.superclass "PluginChains$Over" "java/lang/Object") ∈ lw_all := lw_g (lw_at lw_m14 216 rfl) rfl
theorem q4094 : (Jvm.Cond.castable "PluginChains$Over" "java/lang/Object") ∈ lw_tbl := lw_at lw_m17 174 rfl

/-! PluginChains$Strong -/
set_option maxRecDepth 100000
def RX35 : String := "PluginChains$Strong"
abbrev cX35_isAbove : ByteArray := prog_35_method_3_code
def yX35_isAbove : MethodName := ⟨RX35, "isAbove", "(LPluginChains$Strong;)Z"⟩
def dkwX35_isAbove_2 : List UInt8 := [167, 0, 4, 3, 172]
abbrev dktX35_isAbove_2 : List UInt8 := dkwX35_isAbove_2 ++ []
def dkwX35_isAbove_1 : List UInt8 := [185, 0, 1, 1, 0, 160, 0, 22, 42, 185, 0, 7, 1, 0, 43, 185, 0, 7, 1, 0, 162, 0, 7, 4]
abbrev dktX35_isAbove_1 : List UInt8 := dkwX35_isAbove_1 ++ dktX35_isAbove_2
def dkwX35_isAbove_0 : List UInt8 := [42, 185, 0, 1, 1, 0, 43, 185, 0, 1, 1, 0, 163, 0, 33, 42, 185, 0, 1, 1, 0, 43]
abbrev dktX35_isAbove_0 : List UInt8 := dkwX35_isAbove_0 ++ dktX35_isAbove_1
theorem dksX35_isAbove_0 : cX35_isAbove.data.toList.drop 0 = dktX35_isAbove_0 := by decide +kernel
theorem dksX35_isAbove_1 : cX35_isAbove.data.toList.drop 22 = dktX35_isAbove_1 := dk_seg dksX35_isAbove_0 22 rfl rfl
theorem dksX35_isAbove_2 : cX35_isAbove.data.toList.drop 46 = dktX35_isAbove_2 := dk_seg dksX35_isAbove_1 24 rfl rfl
theorem dX35_isAbove_0 : decode cX35_isAbove 0 = .ok (.aload_n 0, 1) := dk_42 (dk_at dksX35_isAbove_0 0 rfl rfl)
theorem dX35_isAbove_1 : decode cX35_isAbove 1 = .ok (.invokeinterface 1 1, 5) := by decide +kernel
theorem dX35_isAbove_6 : decode cX35_isAbove 6 = .ok (.aload_n 1, 1) := dk_43 (dk_at dksX35_isAbove_0 6 rfl rfl)
theorem dX35_isAbove_7 : decode cX35_isAbove 7 = .ok (.invokeinterface 1 1, 5) := by decide +kernel
theorem dX35_isAbove_12 : decode cX35_isAbove 12 = .ok (.if_icmp .gt 33, 3) := dk_163 0 33 (dk_at dksX35_isAbove_0 12 rfl rfl)
theorem dX35_isAbove_15 : decode cX35_isAbove 15 = .ok (.aload_n 0, 1) := dk_42 (dk_at dksX35_isAbove_0 15 rfl rfl)
theorem dX35_isAbove_16 : decode cX35_isAbove 16 = .ok (.invokeinterface 1 1, 5) := by decide +kernel
theorem dX35_isAbove_21 : decode cX35_isAbove 21 = .ok (.aload_n 1, 1) := dk_43 (dk_at dksX35_isAbove_0 21 rfl rfl)
theorem dX35_isAbove_22 : decode cX35_isAbove 22 = .ok (.invokeinterface 1 1, 5) := by decide +kernel
theorem dX35_isAbove_27 : decode cX35_isAbove 27 = .ok (.if_icmp .ne 22, 3) := dk_160 0 22 (dk_at dksX35_isAbove_1 5 rfl rfl)
theorem dX35_isAbove_30 : decode cX35_isAbove 30 = .ok (.aload_n 0, 1) := dk_42 (dk_at dksX35_isAbove_1 8 rfl rfl)
theorem dX35_isAbove_31 : decode cX35_isAbove 31 = .ok (.invokeinterface 7 1, 5) := by decide +kernel
theorem dX35_isAbove_36 : decode cX35_isAbove 36 = .ok (.aload_n 1, 1) := dk_43 (dk_at dksX35_isAbove_1 14 rfl rfl)
theorem dX35_isAbove_37 : decode cX35_isAbove 37 = .ok (.invokeinterface 7 1, 5) := by decide +kernel
theorem dX35_isAbove_42 : decode cX35_isAbove 42 = .ok (.if_icmp .ge 7, 3) := dk_162 0 7 (dk_at dksX35_isAbove_1 20 rfl rfl)
theorem dX35_isAbove_45 : decode cX35_isAbove 45 = .ok (.iconst 1, 1) := dk_4 (dk_at dksX35_isAbove_1 23 rfl rfl)
theorem dX35_isAbove_46 : decode cX35_isAbove 46 = .ok (.goto 4, 3) := dk_167 0 4 (dk_at dksX35_isAbove_2 0 rfl rfl)
theorem dX35_isAbove_49 : decode cX35_isAbove 49 = .ok (.iconst 0, 1) := dk_3 (dk_at dksX35_isAbove_2 3 rfl rfl)
theorem dX35_isAbove_50 : decode cX35_isAbove 50 = .ok (.ireturn, 1) := dk_172 (dk_at dksX35_isAbove_2 4 rfl rfl)
theorem q1831 : (Jvm.Cond.interfaceMethod "PluginChains$Strong" "PluginChains$Strong" "isAbove" "(LPluginChains$Strong;)Z") ∈ lw_tbl := lw_at lw_m8 71 rfl
theorem q1832 : (Jvm.Cond.declares ({ cls := "PluginChains$Strong", name := "isAbove", desc := "(LPluginChains$Strong;)Z" } : Jvm.MethodName)) ∈ lw_tbl := lw_at lw_m8 72 rfl
theorem q1835 : (Jvm.Cond.instanceMethod ({ cls := "PluginChains$Strong", name := "isAbove", desc := "(LPluginChains$Strong;)Z" } : Jvm.MethodName)) ∈ lw_all := lw_g (lw_at lw_m8 75 rfl) rfl
theorem q1836 : (Jvm.Cond.publicMethod ({ cls := "PluginChains$Strong", name := "isAbove", desc := "(LPluginChains$Strong;)Z" } : Jvm.MethodName)) ∈ lw_tbl := lw_at lw_m8 76 rfl
theorem q1837 : (Jvm.Cond.code ({ cls := "PluginChains$Strong", name := "isAbove", desc := "(LPluginChains$Strong;)Z" } : Jvm.MethodName) prog_35_method_3_code (2 : Nat) (Option.some Jvm.ClassFile.FieldType.boolean)) ∈ lw_all := lw_g (lw_at lw_m8 77 rfl) rfl
theorem q1838 : (Jvm.Cond.interfaceEntry "PluginChains$Strong" (1 : Nat)) ∈ lw_tbl := lw_at lw_m8 78 rfl
theorem q1839 : (Jvm.Cond.methodLink "PluginChains$Strong" (1 : Nat) ({ cls := "PluginChains$Strong", name := "strength", desc := "()I" } : Jvm.MethodName)) ∈ lw_all := lw_g (lw_at lw_m8 79 rfl) rfl
theorem q1840 : (Jvm.Cond.interfaceMethod "PluginChains$Strong" "PluginChains$Strong" "strength" "()I") ∈ lw_tbl := lw_at lw_m8 80 rfl
theorem q1841 : (Jvm.Cond.declares ({ cls := "PluginChains$Strong", name := "strength", desc := "()I" } : Jvm.MethodName)) ∈ lw_tbl := lw_at lw_m8 81 rfl
theorem q1847 : (Jvm.Cond.interfaceEntry "PluginChains$Strong" (7 : Nat)) ∈ lw_tbl := lw_at lw_m8 87 rfl
theorem q1848 : (Jvm.Cond.methodLink "PluginChains$Strong" (7 : Nat) ({ cls := "PluginChains$Strong", name := "tie", desc := "()I" } : Jvm.MethodName)) ∈ lw_all := lw_g (lw_at lw_m8 88 rfl) rfl
theorem q1849 : (Jvm.Cond.interfaceMethod "PluginChains$Strong" "PluginChains$Strong" "tie" "()I") ∈ lw_tbl := lw_at lw_m8 89 rfl
theorem q1850 : (Jvm.Cond.declares ({ cls := "PluginChains$Strong", name := "tie", desc := "()I" } : Jvm.MethodName)) ∈ lw_tbl := lw_at lw_m8 90 rfl
theorem q4028 : (Jvm.Cond.initialized "PluginChains$Strong") ∈ lw_all := lw_g (lw_at lw_m17 108 rfl) rfl

/-! PluginChains -/
set_option maxRecDepth 100000
def RX0 : String := "PluginChains"
def TX0 : u_T := fun k => match k with
  | 0 => ("PluginChains", "shelves", "[LPluginChains$Shelf;", true)
  | 1 => ("PluginChains", "refusals", "[I", true)
  | 2 => ("PluginChains", "acts", "[LPluginChains$Doing;", true)
  | 3 => ("PluginChains", "trace", "[I", true)
  | 4 => ("PluginChains", "log", "LPluginChains$Log;", true)
  | 5 => ("PluginChains", "causes", "[LPluginChains$StartFailed;", true)
  | 6 => ("PluginChains", "causesMany", "I", false)
  | 7 => ("PluginChains", "ranMany", "I", false)
  | 8 => ("PluginChains", "given", "I", false)
  | 9 => ("PluginChains", "host", "LPluginChains$Host;", false)
  | 10 => ("PluginChains", "imaged", "LPluginChains$Host;", false)
  | _ => ("PluginChains", "latestFault", "I", false)
def tyX0 : Nat → FieldType := fun k => match k with
  | 0 => .array (.object "PluginChains$Shelf")
  | 1 => .array .int
  | 2 => .array (.object "PluginChains$Doing")
  | 3 => .array .int
  | 4 => .object "PluginChains$Log"
  | 5 => .array (.object "PluginChains$StartFailed")
  | 6 => .int
  | 7 => .int
  | 8 => .int
  | 9 => .object "PluginChains$Host"
  | 10 => .object "PluginChains$Host"
  | _ => .int
abbrev wsX00 : List Cond := u_ws RX0 TX0 12
theorem nmX0 : ∀ a, a < 12 → ∀ b, b < 12 → a ≠ b → (TX0 a).2.1 ≠ (TX0 b).2.1 := by decide +kernel
theorem tyX0_ok : ∀ k, k < 12 → parseFieldDescriptor (TX0 k).2.2.1 = some (tyX0 k) := by decide +kernel
abbrev cX0_init : ByteArray := prog_1_method_9_code
def yX0_init : MethodName := ⟨RX0, "<init>", "()V"⟩
def dkwX0_init_11 : List UInt8 := [186, 0, 189, 0, 0, 183, 0, 179, 83, 177]
abbrev dktX0_init_11 : List UInt8 := dkwX0_init_11 ++ []
def dkwX0_init_10 : List UInt8 := [187, 0, 144, 89, 186, 0, 188, 0, 0, 183, 0, 179, 83, 42, 180, 0, 146, 16, 8, 187, 0, 144, 89]
abbrev dktX0_init_10 : List UInt8 := dkwX0_init_10 ++ dktX0_init_11
def dkwX0_init_9 : List UInt8 := [180, 0, 146, 16, 6, 187, 0, 144, 89, 186, 0, 187, 0, 0, 183, 0, 179, 83, 42, 180, 0, 146, 16, 7]
abbrev dktX0_init_9 : List UInt8 := dkwX0_init_9 ++ dktX0_init_10
def dkwX0_init_8 : List UInt8 := [183, 0, 179, 83, 42, 180, 0, 146, 8, 187, 0, 144, 89, 186, 0, 186, 0, 0, 183, 0, 179, 83, 42]
abbrev dktX0_init_8 : List UInt8 := dkwX0_init_8 ++ dktX0_init_9
def dkwX0_init_7 : List UInt8 := [186, 0, 184, 0, 0, 183, 0, 179, 83, 42, 180, 0, 146, 7, 187, 0, 144, 89, 186, 0, 185, 0, 0]
abbrev dktX0_init_7 : List UInt8 := dkwX0_init_7 ++ dktX0_init_8
def dkwX0_init_6 : List UInt8 := [187, 0, 144, 89, 186, 0, 183, 0, 0, 183, 0, 179, 83, 42, 180, 0, 146, 6, 187, 0, 144, 89]
abbrev dktX0_init_6 : List UInt8 := dkwX0_init_6 ++ dktX0_init_7
def dkwX0_init_5 : List UInt8 := [83, 42, 180, 0, 146, 4, 187, 0, 144, 89, 186, 0, 182, 0, 0, 183, 0, 179, 83, 42, 180, 0, 146, 5]
abbrev dktX0_init_5 : List UInt8 := dkwX0_init_5 ++ dktX0_init_6
def dkwX0_init_4 : List UInt8 := [83, 132, 1, 1, 167, 255, 234, 42, 180, 0, 146, 3, 187, 0, 144, 89, 186, 0, 175, 0, 0, 183, 0, 179]
abbrev dktX0_init_4 : List UInt8 := dkwX0_init_4 ++ dktX0_init_5
def dkwX0_init_3 : List UInt8 := [2, 181, 0, 171, 3, 60, 27, 16, 8, 162, 0, 22, 42, 180, 0, 136, 27, 187, 0, 134, 89, 183, 0, 174]
abbrev dktX0_init_3 : List UInt8 := dkwX0_init_3 ++ dktX0_init_4
def dkwX0_init_2 : List UInt8 := [181, 0, 156, 42, 16, 13, 189, 0, 160, 181, 0, 162, 42, 187, 0, 45, 89, 183, 0, 166, 181, 0, 167, 42]
abbrev dktX0_init_2 : List UInt8 := dkwX0_init_2 ++ dktX0_init_3
def dkwX0_init_1 : List UInt8 := [189, 0, 144, 181, 0, 146, 42, 16, 30, 188, 10, 181, 0, 150, 42, 187, 0, 153, 89, 183, 0, 155]
abbrev dktX0_init_1 : List UInt8 := dkwX0_init_1 ++ dktX0_init_2
def dkwX0_init_0 : List UInt8 := [42, 183, 0, 129, 42, 16, 8, 189, 0, 134, 181, 0, 136, 42, 16, 8, 188, 10, 181, 0, 140, 42, 16, 9]
abbrev dktX0_init_0 : List UInt8 := dkwX0_init_0 ++ dktX0_init_1
theorem dksX0_init_0 : cX0_init.data.toList.drop 0 = dktX0_init_0 := by decide +kernel
theorem dksX0_init_1 : cX0_init.data.toList.drop 24 = dktX0_init_1 := dk_seg dksX0_init_0 24 rfl rfl
theorem dksX0_init_2 : cX0_init.data.toList.drop 46 = dktX0_init_2 := dk_seg dksX0_init_1 22 rfl rfl
theorem dksX0_init_3 : cX0_init.data.toList.drop 70 = dktX0_init_3 := dk_seg dksX0_init_2 24 rfl rfl
theorem dksX0_init_4 : cX0_init.data.toList.drop 94 = dktX0_init_4 := dk_seg dksX0_init_3 24 rfl rfl
theorem dksX0_init_5 : cX0_init.data.toList.drop 118 = dktX0_init_5 := dk_seg dksX0_init_4 24 rfl rfl
theorem dksX0_init_6 : cX0_init.data.toList.drop 142 = dktX0_init_6 := dk_seg dksX0_init_5 24 rfl rfl
theorem dksX0_init_7 : cX0_init.data.toList.drop 164 = dktX0_init_7 := dk_seg dksX0_init_6 22 rfl rfl
theorem dksX0_init_8 : cX0_init.data.toList.drop 187 = dktX0_init_8 := dk_seg dksX0_init_7 23 rfl rfl
theorem dksX0_init_9 : cX0_init.data.toList.drop 210 = dktX0_init_9 := dk_seg dksX0_init_8 23 rfl rfl
theorem dksX0_init_10 : cX0_init.data.toList.drop 234 = dktX0_init_10 := dk_seg dksX0_init_9 24 rfl rfl
theorem dksX0_init_11 : cX0_init.data.toList.drop 257 = dktX0_init_11 := dk_seg dksX0_init_10 23 rfl rfl
theorem dX0_init_0 : decode cX0_init 0 = .ok (.aload_n 0, 1) := dk_42 (dk_at dksX0_init_0 0 rfl rfl)
theorem dX0_init_1 : decode cX0_init 1 = .ok (.invokespecial 129, 3) := dk_183 0 129 (dk_at dksX0_init_0 1 rfl rfl)
theorem dX0_init_4 : decode cX0_init 4 = .ok (.aload_n 0, 1) := dk_42 (dk_at dksX0_init_0 4 rfl rfl)
theorem dX0_init_5 : decode cX0_init 5 = .ok (.bipush 8, 2) := dk_16 8 (dk_at dksX0_init_0 5 rfl rfl)
theorem dX0_init_7 : decode cX0_init 7 = .ok (.anewarray 134, 3) := dk_189 0 134 (dk_at dksX0_init_0 7 rfl rfl)
theorem dX0_init_10 : decode cX0_init 10 = .ok (.putfield 136, 3) := dk_181 0 136 (dk_at dksX0_init_0 10 rfl rfl)
theorem dX0_init_13 : decode cX0_init 13 = .ok (.aload_n 0, 1) := dk_42 (dk_at dksX0_init_0 13 rfl rfl)
theorem dX0_init_14 : decode cX0_init 14 = .ok (.bipush 8, 2) := dk_16 8 (dk_at dksX0_init_0 14 rfl rfl)
theorem dX0_init_16 : decode cX0_init 16 = .ok (.newarray .int, 2) := dk_188_10 (dk_at dksX0_init_0 16 rfl rfl)
theorem dX0_init_18 : decode cX0_init 18 = .ok (.putfield 140, 3) := dk_181 0 140 (dk_at dksX0_init_0 18 rfl rfl)
theorem dX0_init_21 : decode cX0_init 21 = .ok (.aload_n 0, 1) := dk_42 (dk_at dksX0_init_0 21 rfl rfl)
theorem dX0_init_22 : decode cX0_init 22 = .ok (.bipush 9, 2) := dk_16 9 (dk_at dksX0_init_0 22 rfl rfl)
theorem dX0_init_24 : decode cX0_init 24 = .ok (.anewarray 144, 3) := dk_189 0 144 (dk_at dksX0_init_1 0 rfl rfl)
theorem dX0_init_27 : decode cX0_init 27 = .ok (.putfield 146, 3) := dk_181 0 146 (dk_at dksX0_init_1 3 rfl rfl)
theorem dX0_init_30 : decode cX0_init 30 = .ok (.aload_n 0, 1) := dk_42 (dk_at dksX0_init_1 6 rfl rfl)
theorem dX0_init_31 : decode cX0_init 31 = .ok (.bipush 30, 2) := dk_16 30 (dk_at dksX0_init_1 7 rfl rfl)
theorem dX0_init_33 : decode cX0_init 33 = .ok (.newarray .int, 2) := dk_188_10 (dk_at dksX0_init_1 9 rfl rfl)
theorem dX0_init_35 : decode cX0_init 35 = .ok (.putfield 150, 3) := dk_181 0 150 (dk_at dksX0_init_1 11 rfl rfl)
theorem dX0_init_38 : decode cX0_init 38 = .ok (.aload_n 0, 1) := dk_42 (dk_at dksX0_init_1 14 rfl rfl)
theorem dX0_init_39 : decode cX0_init 39 = .ok (.new 153, 3) := dk_187 0 153 (dk_at dksX0_init_1 15 rfl rfl)
theorem dX0_init_42 : decode cX0_init 42 = .ok (.dup, 1) := dk_89 (dk_at dksX0_init_1 18 rfl rfl)
theorem dX0_init_43 : decode cX0_init 43 = .ok (.invokespecial 155, 3) := dk_183 0 155 (dk_at dksX0_init_1 19 rfl rfl)
theorem dX0_init_46 : decode cX0_init 46 = .ok (.putfield 156, 3) := dk_181 0 156 (dk_at dksX0_init_2 0 rfl rfl)
theorem dX0_init_49 : decode cX0_init 49 = .ok (.aload_n 0, 1) := dk_42 (dk_at dksX0_init_2 3 rfl rfl)
theorem dX0_init_50 : decode cX0_init 50 = .ok (.bipush 13, 2) := dk_16 13 (dk_at dksX0_init_2 4 rfl rfl)
theorem dX0_init_52 : decode cX0_init 52 = .ok (.anewarray 160, 3) := dk_189 0 160 (dk_at dksX0_init_2 6 rfl rfl)
theorem dX0_init_55 : decode cX0_init 55 = .ok (.putfield 162, 3) := dk_181 0 162 (dk_at dksX0_init_2 9 rfl rfl)
theorem dX0_init_58 : decode cX0_init 58 = .ok (.aload_n 0, 1) := dk_42 (dk_at dksX0_init_2 12 rfl rfl)
theorem dX0_init_59 : decode cX0_init 59 = .ok (.new 45, 3) := dk_187 0 45 (dk_at dksX0_init_2 13 rfl rfl)
theorem dX0_init_62 : decode cX0_init 62 = .ok (.dup, 1) := dk_89 (dk_at dksX0_init_2 16 rfl rfl)
theorem dX0_init_63 : decode cX0_init 63 = .ok (.invokespecial 166, 3) := dk_183 0 166 (dk_at dksX0_init_2 17 rfl rfl)
theorem dX0_init_66 : decode cX0_init 66 = .ok (.putfield 167, 3) := dk_181 0 167 (dk_at dksX0_init_2 20 rfl rfl)
theorem dX0_init_69 : decode cX0_init 69 = .ok (.aload_n 0, 1) := dk_42 (dk_at dksX0_init_2 23 rfl rfl)
theorem dX0_init_70 : decode cX0_init 70 = .ok (.iconst (-1), 1) := dk_2 (dk_at dksX0_init_3 0 rfl rfl)
theorem dX0_init_71 : decode cX0_init 71 = .ok (.putfield 171, 3) := dk_181 0 171 (dk_at dksX0_init_3 1 rfl rfl)
theorem dX0_init_74 : decode cX0_init 74 = .ok (.iconst 0, 1) := dk_3 (dk_at dksX0_init_3 4 rfl rfl)
theorem dX0_init_75 : decode cX0_init 75 = .ok (.istore_n 1, 1) := dk_60 (dk_at dksX0_init_3 5 rfl rfl)
theorem dX0_init_76 : decode cX0_init 76 = .ok (.iload_n 1, 1) := dk_27 (dk_at dksX0_init_3 6 rfl rfl)
theorem dX0_init_77 : decode cX0_init 77 = .ok (.bipush 8, 2) := dk_16 8 (dk_at dksX0_init_3 7 rfl rfl)
theorem dX0_init_79 : decode cX0_init 79 = .ok (.if_icmp .ge 22, 3) := dk_162 0 22 (dk_at dksX0_init_3 9 rfl rfl)
theorem dX0_init_82 : decode cX0_init 82 = .ok (.aload_n 0, 1) := dk_42 (dk_at dksX0_init_3 12 rfl rfl)
theorem dX0_init_83 : decode cX0_init 83 = .ok (.getfield 136, 3) := dk_180 0 136 (dk_at dksX0_init_3 13 rfl rfl)
theorem dX0_init_86 : decode cX0_init 86 = .ok (.iload_n 1, 1) := dk_27 (dk_at dksX0_init_3 16 rfl rfl)
theorem dX0_init_87 : decode cX0_init 87 = .ok (.new 134, 3) := dk_187 0 134 (dk_at dksX0_init_3 17 rfl rfl)
theorem dX0_init_90 : decode cX0_init 90 = .ok (.dup, 1) := dk_89 (dk_at dksX0_init_3 20 rfl rfl)
theorem dX0_init_91 : decode cX0_init 91 = .ok (.invokespecial 174, 3) := dk_183 0 174 (dk_at dksX0_init_3 21 rfl rfl)
theorem dX0_init_94 : decode cX0_init 94 = .ok (.aastore, 1) := dk_83 (dk_at dksX0_init_4 0 rfl rfl)
theorem dX0_init_95 : decode cX0_init 95 = .ok (.iinc 1 1, 3) := dk_132 1 1 (dk_at dksX0_init_4 1 rfl rfl)
theorem dX0_init_98 : decode cX0_init 98 = .ok (.goto (-22), 3) := dk_167 255 234 (dk_at dksX0_init_4 4 rfl rfl)
theorem dX0_init_101 : decode cX0_init 101 = .ok (.aload_n 0, 1) := dk_42 (dk_at dksX0_init_4 7 rfl rfl)
theorem dX0_init_102 : decode cX0_init 102 = .ok (.getfield 146, 3) := dk_180 0 146 (dk_at dksX0_init_4 8 rfl rfl)
theorem dX0_init_105 : decode cX0_init 105 = .ok (.iconst 0, 1) := dk_3 (dk_at dksX0_init_4 11 rfl rfl)
theorem dX0_init_106 : decode cX0_init 106 = .ok (.new 144, 3) := dk_187 0 144 (dk_at dksX0_init_4 12 rfl rfl)
theorem dX0_init_109 : decode cX0_init 109 = .ok (.dup, 1) := dk_89 (dk_at dksX0_init_4 15 rfl rfl)
theorem dX0_init_110 : decode cX0_init 110 = .ok (.invokedynamic 175, 5) := by decide +kernel
theorem dX0_init_115 : decode cX0_init 115 = .ok (.invokespecial 179, 3) := dk_183 0 179 (dk_at dksX0_init_4 21 rfl rfl)
theorem dX0_init_118 : decode cX0_init 118 = .ok (.aastore, 1) := dk_83 (dk_at dksX0_init_5 0 rfl rfl)
theorem dX0_init_119 : decode cX0_init 119 = .ok (.aload_n 0, 1) := dk_42 (dk_at dksX0_init_5 1 rfl rfl)
theorem dX0_init_120 : decode cX0_init 120 = .ok (.getfield 146, 3) := dk_180 0 146 (dk_at dksX0_init_5 2 rfl rfl)
theorem dX0_init_123 : decode cX0_init 123 = .ok (.iconst 1, 1) := dk_4 (dk_at dksX0_init_5 5 rfl rfl)
theorem dX0_init_124 : decode cX0_init 124 = .ok (.new 144, 3) := dk_187 0 144 (dk_at dksX0_init_5 6 rfl rfl)
theorem dX0_init_127 : decode cX0_init 127 = .ok (.dup, 1) := dk_89 (dk_at dksX0_init_5 9 rfl rfl)
theorem dX0_init_128 : decode cX0_init 128 = .ok (.invokedynamic 182, 5) := by decide +kernel
theorem dX0_init_133 : decode cX0_init 133 = .ok (.invokespecial 179, 3) := dk_183 0 179 (dk_at dksX0_init_5 15 rfl rfl)
theorem dX0_init_136 : decode cX0_init 136 = .ok (.aastore, 1) := dk_83 (dk_at dksX0_init_5 18 rfl rfl)
theorem dX0_init_137 : decode cX0_init 137 = .ok (.aload_n 0, 1) := dk_42 (dk_at dksX0_init_5 19 rfl rfl)
theorem dX0_init_138 : decode cX0_init 138 = .ok (.getfield 146, 3) := dk_180 0 146 (dk_at dksX0_init_5 20 rfl rfl)
theorem dX0_init_141 : decode cX0_init 141 = .ok (.iconst 2, 1) := dk_5 (dk_at dksX0_init_5 23 rfl rfl)
theorem dX0_init_142 : decode cX0_init 142 = .ok (.new 144, 3) := dk_187 0 144 (dk_at dksX0_init_6 0 rfl rfl)
theorem dX0_init_145 : decode cX0_init 145 = .ok (.dup, 1) := dk_89 (dk_at dksX0_init_6 3 rfl rfl)
theorem dX0_init_146 : decode cX0_init 146 = .ok (.invokedynamic 183, 5) := by decide +kernel
theorem dX0_init_151 : decode cX0_init 151 = .ok (.invokespecial 179, 3) := dk_183 0 179 (dk_at dksX0_init_6 9 rfl rfl)
theorem dX0_init_154 : decode cX0_init 154 = .ok (.aastore, 1) := dk_83 (dk_at dksX0_init_6 12 rfl rfl)
theorem dX0_init_155 : decode cX0_init 155 = .ok (.aload_n 0, 1) := dk_42 (dk_at dksX0_init_6 13 rfl rfl)
theorem dX0_init_156 : decode cX0_init 156 = .ok (.getfield 146, 3) := dk_180 0 146 (dk_at dksX0_init_6 14 rfl rfl)
theorem dX0_init_159 : decode cX0_init 159 = .ok (.iconst 3, 1) := dk_6 (dk_at dksX0_init_6 17 rfl rfl)
theorem dX0_init_160 : decode cX0_init 160 = .ok (.new 144, 3) := dk_187 0 144 (dk_at dksX0_init_6 18 rfl rfl)
theorem dX0_init_163 : decode cX0_init 163 = .ok (.dup, 1) := dk_89 (dk_at dksX0_init_6 21 rfl rfl)
theorem dX0_init_164 : decode cX0_init 164 = .ok (.invokedynamic 184, 5) := by decide +kernel
theorem dX0_init_169 : decode cX0_init 169 = .ok (.invokespecial 179, 3) := dk_183 0 179 (dk_at dksX0_init_7 5 rfl rfl)
theorem dX0_init_172 : decode cX0_init 172 = .ok (.aastore, 1) := dk_83 (dk_at dksX0_init_7 8 rfl rfl)
theorem dX0_init_173 : decode cX0_init 173 = .ok (.aload_n 0, 1) := dk_42 (dk_at dksX0_init_7 9 rfl rfl)
theorem dX0_init_174 : decode cX0_init 174 = .ok (.getfield 146, 3) := dk_180 0 146 (dk_at dksX0_init_7 10 rfl rfl)
theorem dX0_init_177 : decode cX0_init 177 = .ok (.iconst 4, 1) := dk_7 (dk_at dksX0_init_7 13 rfl rfl)
theorem dX0_init_178 : decode cX0_init 178 = .ok (.new 144, 3) := dk_187 0 144 (dk_at dksX0_init_7 14 rfl rfl)
theorem dX0_init_181 : decode cX0_init 181 = .ok (.dup, 1) := dk_89 (dk_at dksX0_init_7 17 rfl rfl)
theorem dX0_init_182 : decode cX0_init 182 = .ok (.invokedynamic 185, 5) := by decide +kernel
theorem dX0_init_187 : decode cX0_init 187 = .ok (.invokespecial 179, 3) := dk_183 0 179 (dk_at dksX0_init_8 0 rfl rfl)
theorem dX0_init_190 : decode cX0_init 190 = .ok (.aastore, 1) := dk_83 (dk_at dksX0_init_8 3 rfl rfl)
theorem dX0_init_191 : decode cX0_init 191 = .ok (.aload_n 0, 1) := dk_42 (dk_at dksX0_init_8 4 rfl rfl)
theorem dX0_init_192 : decode cX0_init 192 = .ok (.getfield 146, 3) := dk_180 0 146 (dk_at dksX0_init_8 5 rfl rfl)
theorem dX0_init_195 : decode cX0_init 195 = .ok (.iconst 5, 1) := dk_8 (dk_at dksX0_init_8 8 rfl rfl)
theorem dX0_init_196 : decode cX0_init 196 = .ok (.new 144, 3) := dk_187 0 144 (dk_at dksX0_init_8 9 rfl rfl)
theorem dX0_init_199 : decode cX0_init 199 = .ok (.dup, 1) := dk_89 (dk_at dksX0_init_8 12 rfl rfl)
theorem dX0_init_200 : decode cX0_init 200 = .ok (.invokedynamic 186, 5) := by decide +kernel
theorem dX0_init_205 : decode cX0_init 205 = .ok (.invokespecial 179, 3) := dk_183 0 179 (dk_at dksX0_init_8 18 rfl rfl)
theorem dX0_init_208 : decode cX0_init 208 = .ok (.aastore, 1) := dk_83 (dk_at dksX0_init_8 21 rfl rfl)
theorem dX0_init_209 : decode cX0_init 209 = .ok (.aload_n 0, 1) := dk_42 (dk_at dksX0_init_8 22 rfl rfl)
theorem dX0_init_210 : decode cX0_init 210 = .ok (.getfield 146, 3) := dk_180 0 146 (dk_at dksX0_init_9 0 rfl rfl)
theorem dX0_init_213 : decode cX0_init 213 = .ok (.bipush 6, 2) := dk_16 6 (dk_at dksX0_init_9 3 rfl rfl)
theorem dX0_init_215 : decode cX0_init 215 = .ok (.new 144, 3) := dk_187 0 144 (dk_at dksX0_init_9 5 rfl rfl)
theorem dX0_init_218 : decode cX0_init 218 = .ok (.dup, 1) := dk_89 (dk_at dksX0_init_9 8 rfl rfl)
theorem dX0_init_219 : decode cX0_init 219 = .ok (.invokedynamic 187, 5) := by decide +kernel
theorem dX0_init_224 : decode cX0_init 224 = .ok (.invokespecial 179, 3) := dk_183 0 179 (dk_at dksX0_init_9 14 rfl rfl)
theorem dX0_init_227 : decode cX0_init 227 = .ok (.aastore, 1) := dk_83 (dk_at dksX0_init_9 17 rfl rfl)
theorem dX0_init_228 : decode cX0_init 228 = .ok (.aload_n 0, 1) := dk_42 (dk_at dksX0_init_9 18 rfl rfl)
theorem dX0_init_229 : decode cX0_init 229 = .ok (.getfield 146, 3) := dk_180 0 146 (dk_at dksX0_init_9 19 rfl rfl)
theorem dX0_init_232 : decode cX0_init 232 = .ok (.bipush 7, 2) := dk_16 7 (dk_at dksX0_init_9 22 rfl rfl)
theorem dX0_init_234 : decode cX0_init 234 = .ok (.new 144, 3) := dk_187 0 144 (dk_at dksX0_init_10 0 rfl rfl)
theorem dX0_init_237 : decode cX0_init 237 = .ok (.dup, 1) := dk_89 (dk_at dksX0_init_10 3 rfl rfl)
theorem dX0_init_238 : decode cX0_init 238 = .ok (.invokedynamic 188, 5) := by decide +kernel
theorem dX0_init_243 : decode cX0_init 243 = .ok (.invokespecial 179, 3) := dk_183 0 179 (dk_at dksX0_init_10 9 rfl rfl)
theorem dX0_init_246 : decode cX0_init 246 = .ok (.aastore, 1) := dk_83 (dk_at dksX0_init_10 12 rfl rfl)
theorem dX0_init_247 : decode cX0_init 247 = .ok (.aload_n 0, 1) := dk_42 (dk_at dksX0_init_10 13 rfl rfl)
theorem dX0_init_248 : decode cX0_init 248 = .ok (.getfield 146, 3) := dk_180 0 146 (dk_at dksX0_init_10 14 rfl rfl)
theorem dX0_init_251 : decode cX0_init 251 = .ok (.bipush 8, 2) := dk_16 8 (dk_at dksX0_init_10 17 rfl rfl)
theorem dX0_init_253 : decode cX0_init 253 = .ok (.new 144, 3) := dk_187 0 144 (dk_at dksX0_init_10 19 rfl rfl)
theorem dX0_init_256 : decode cX0_init 256 = .ok (.dup, 1) := dk_89 (dk_at dksX0_init_10 22 rfl rfl)
theorem dX0_init_257 : decode cX0_init 257 = .ok (.invokedynamic 189, 5) := by decide +kernel
theorem dX0_init_262 : decode cX0_init 262 = .ok (.invokespecial 179, 3) := dk_183 0 179 (dk_at dksX0_init_11 5 rfl rfl)
theorem dX0_init_265 : decode cX0_init 265 = .ok (.aastore, 1) := dk_83 (dk_at dksX0_init_11 8 rfl rfl)
theorem dX0_init_266 : decode cX0_init 266 = .ok (.return_, 1) := dk_177 (dk_at dksX0_init_11 9 rfl rfl)
abbrev cX0_lambda_new_0 : ByteArray := prog_1_method_74_code
def yX0_lambda_new_0 : MethodName := ⟨RX0, "lambda$new$0", "(LPluginChains$Fire;LPluginChains$Hook;LPluginChains$Rest;I)I"⟩
def dkwX0_lambda_new_0_0 : List UInt8 := [44, 29, 43, 180, 1, 202, 96, 185, 2, 32, 2, 0, 172]
abbrev dktX0_lambda_new_0_0 : List UInt8 := dkwX0_lambda_new_0_0 ++ []
theorem dksX0_lambda_new_0_0 : cX0_lambda_new_0.data.toList.drop 0 = dktX0_lambda_new_0_0 := by decide +kernel
theorem dX0_lambda_new_0_0 : decode cX0_lambda_new_0 0 = .ok (.aload_n 2, 1) := dk_44 (dk_at dksX0_lambda_new_0_0 0 rfl rfl)
theorem dX0_lambda_new_0_1 : decode cX0_lambda_new_0 1 = .ok (.iload_n 3, 1) := dk_29 (dk_at dksX0_lambda_new_0_0 1 rfl rfl)
theorem dX0_lambda_new_0_2 : decode cX0_lambda_new_0 2 = .ok (.aload_n 1, 1) := dk_43 (dk_at dksX0_lambda_new_0_0 2 rfl rfl)
theorem dX0_lambda_new_0_3 : decode cX0_lambda_new_0 3 = .ok (.getfield 458, 3) := dk_180 1 202 (dk_at dksX0_lambda_new_0_0 3 rfl rfl)
theorem dX0_lambda_new_0_6 : decode cX0_lambda_new_0 6 = .ok (.iadd, 1) := dk_96 (dk_at dksX0_lambda_new_0_0 6 rfl rfl)
theorem dX0_lambda_new_0_7 : decode cX0_lambda_new_0 7 = .ok (.invokeinterface 544 2, 5) := by decide +kernel
theorem dX0_lambda_new_0_12 : decode cX0_lambda_new_0 12 = .ok (.ireturn, 1) := dk_172 (dk_at dksX0_lambda_new_0_0 12 rfl rfl)
abbrev cX0_lambda_new_1 : ByteArray := prog_1_method_73_code
def yX0_lambda_new_1 : MethodName := ⟨RX0, "lambda$new$1", "(LPluginChains$Fire;LPluginChains$Hook;LPluginChains$Rest;I)I"⟩
def dkwX0_lambda_new_1_0 : List UInt8 := [44, 29, 185, 2, 32, 2, 0, 43, 180, 1, 202, 104, 172]
abbrev dktX0_lambda_new_1_0 : List UInt8 := dkwX0_lambda_new_1_0 ++ []
theorem dksX0_lambda_new_1_0 : cX0_lambda_new_1.data.toList.drop 0 = dktX0_lambda_new_1_0 := by decide +kernel
theorem dX0_lambda_new_1_0 : decode cX0_lambda_new_1 0 = .ok (.aload_n 2, 1) := dk_44 (dk_at dksX0_lambda_new_1_0 0 rfl rfl)
theorem dX0_lambda_new_1_1 : decode cX0_lambda_new_1 1 = .ok (.iload_n 3, 1) := dk_29 (dk_at dksX0_lambda_new_1_0 1 rfl rfl)
theorem dX0_lambda_new_1_2 : decode cX0_lambda_new_1 2 = .ok (.invokeinterface 544 2, 5) := by decide +kernel
theorem dX0_lambda_new_1_7 : decode cX0_lambda_new_1 7 = .ok (.aload_n 1, 1) := dk_43 (dk_at dksX0_lambda_new_1_0 7 rfl rfl)
theorem dX0_lambda_new_1_8 : decode cX0_lambda_new_1 8 = .ok (.getfield 458, 3) := dk_180 1 202 (dk_at dksX0_lambda_new_1_0 8 rfl rfl)
theorem dX0_lambda_new_1_11 : decode cX0_lambda_new_1 11 = .ok (.imul, 1) := dk_104 (dk_at dksX0_lambda_new_1_0 11 rfl rfl)
theorem dX0_lambda_new_1_12 : decode cX0_lambda_new_1 12 = .ok (.ireturn, 1) := dk_172 (dk_at dksX0_lambda_new_1_0 12 rfl rfl)
abbrev cX0_lambda_new_2 : ByteArray := prog_1_method_72_code
def yX0_lambda_new_2 : MethodName := ⟨RX0, "lambda$new$2", "(LPluginChains$Fire;LPluginChains$Hook;LPluginChains$Rest;I)I"⟩
def dkwX0_lambda_new_2_0 : List UInt8 := [44, 44, 29, 185, 2, 32, 2, 0, 185, 2, 32, 2, 0, 172]
abbrev dktX0_lambda_new_2_0 : List UInt8 := dkwX0_lambda_new_2_0 ++ []
theorem dksX0_lambda_new_2_0 : cX0_lambda_new_2.data.toList.drop 0 = dktX0_lambda_new_2_0 := by decide +kernel
theorem dX0_lambda_new_2_0 : decode cX0_lambda_new_2 0 = .ok (.aload_n 2, 1) := dk_44 (dk_at dksX0_lambda_new_2_0 0 rfl rfl)
theorem dX0_lambda_new_2_1 : decode cX0_lambda_new_2 1 = .ok (.aload_n 2, 1) := dk_44 (dk_at dksX0_lambda_new_2_0 1 rfl rfl)
theorem dX0_lambda_new_2_2 : decode cX0_lambda_new_2 2 = .ok (.iload_n 3, 1) := dk_29 (dk_at dksX0_lambda_new_2_0 2 rfl rfl)
theorem dX0_lambda_new_2_3 : decode cX0_lambda_new_2 3 = .ok (.invokeinterface 544 2, 5) := by decide +kernel
theorem dX0_lambda_new_2_8 : decode cX0_lambda_new_2 8 = .ok (.invokeinterface 544 2, 5) := by decide +kernel
theorem dX0_lambda_new_2_13 : decode cX0_lambda_new_2 13 = .ok (.ireturn, 1) := dk_172 (dk_at dksX0_lambda_new_2_0 13 rfl rfl)
abbrev cX0_lambda_new_3 : ByteArray := prog_1_method_71_code
def yX0_lambda_new_3 : MethodName := ⟨RX0, "lambda$new$3", "(LPluginChains$Fire;LPluginChains$Hook;LPluginChains$Rest;I)I"⟩
def dkwX0_lambda_new_3_1 : List UInt8 := [185, 2, 32, 2, 0, 172]
abbrev dktX0_lambda_new_3_1 : List UInt8 := dkwX0_lambda_new_3_1 ++ []
def dkwX0_lambda_new_3_0 : List UInt8 := [29, 16, 10, 184, 2, 49, 43, 180, 1, 202, 16, 10, 184, 2, 49, 160, 0, 7, 29, 167, 0, 10, 44, 29]
abbrev dktX0_lambda_new_3_0 : List UInt8 := dkwX0_lambda_new_3_0 ++ dktX0_lambda_new_3_1
theorem dksX0_lambda_new_3_0 : cX0_lambda_new_3.data.toList.drop 0 = dktX0_lambda_new_3_0 := by decide +kernel
theorem dksX0_lambda_new_3_1 : cX0_lambda_new_3.data.toList.drop 24 = dktX0_lambda_new_3_1 := dk_seg dksX0_lambda_new_3_0 24 rfl rfl
theorem dX0_lambda_new_3_0 : decode cX0_lambda_new_3 0 = .ok (.iload_n 3, 1) := dk_29 (dk_at dksX0_lambda_new_3_0 0 rfl rfl)
theorem dX0_lambda_new_3_1 : decode cX0_lambda_new_3 1 = .ok (.bipush 10, 2) := dk_16 10 (dk_at dksX0_lambda_new_3_0 1 rfl rfl)
theorem dX0_lambda_new_3_3 : decode cX0_lambda_new_3 3 = .ok (.invokestatic 561, 3) := dk_184 2 49 (dk_at dksX0_lambda_new_3_0 3 rfl rfl)
theorem dX0_lambda_new_3_6 : decode cX0_lambda_new_3 6 = .ok (.aload_n 1, 1) := dk_43 (dk_at dksX0_lambda_new_3_0 6 rfl rfl)
theorem dX0_lambda_new_3_7 : decode cX0_lambda_new_3 7 = .ok (.getfield 458, 3) := dk_180 1 202 (dk_at dksX0_lambda_new_3_0 7 rfl rfl)
theorem dX0_lambda_new_3_10 : decode cX0_lambda_new_3 10 = .ok (.bipush 10, 2) := dk_16 10 (dk_at dksX0_lambda_new_3_0 10 rfl rfl)
theorem dX0_lambda_new_3_12 : decode cX0_lambda_new_3 12 = .ok (.invokestatic 561, 3) := dk_184 2 49 (dk_at dksX0_lambda_new_3_0 12 rfl rfl)
theorem dX0_lambda_new_3_15 : decode cX0_lambda_new_3 15 = .ok (.if_icmp .ne 7, 3) := dk_160 0 7 (dk_at dksX0_lambda_new_3_0 15 rfl rfl)
theorem dX0_lambda_new_3_18 : decode cX0_lambda_new_3 18 = .ok (.iload_n 3, 1) := dk_29 (dk_at dksX0_lambda_new_3_0 18 rfl rfl)
theorem dX0_lambda_new_3_19 : decode cX0_lambda_new_3 19 = .ok (.goto 10, 3) := dk_167 0 10 (dk_at dksX0_lambda_new_3_0 19 rfl rfl)
theorem dX0_lambda_new_3_22 : decode cX0_lambda_new_3 22 = .ok (.aload_n 2, 1) := dk_44 (dk_at dksX0_lambda_new_3_0 22 rfl rfl)
theorem dX0_lambda_new_3_23 : decode cX0_lambda_new_3 23 = .ok (.iload_n 3, 1) := dk_29 (dk_at dksX0_lambda_new_3_0 23 rfl rfl)
theorem dX0_lambda_new_3_24 : decode cX0_lambda_new_3 24 = .ok (.invokeinterface 544 2, 5) := by decide +kernel
theorem dX0_lambda_new_3_29 : decode cX0_lambda_new_3 29 = .ok (.ireturn, 1) := dk_172 (dk_at dksX0_lambda_new_3_1 5 rfl rfl)
abbrev cX0_lambda_new_4 : ByteArray := prog_1_method_70_code
def yX0_lambda_new_4 : MethodName := ⟨RX0, "lambda$new$4", "(LPluginChains$Fire;LPluginChains$Hook;LPluginChains$Rest;I)I"⟩
def dkwX0_lambda_new_4_0 : List UInt8 := [44, 29, 43, 180, 1, 202, 130, 185, 2, 32, 2, 0, 43, 180, 1, 202, 130, 172]
abbrev dktX0_lambda_new_4_0 : List UInt8 := dkwX0_lambda_new_4_0 ++ []
theorem dksX0_lambda_new_4_0 : cX0_lambda_new_4.data.toList.drop 0 = dktX0_lambda_new_4_0 := by decide +kernel
theorem dX0_lambda_new_4_0 : decode cX0_lambda_new_4 0 = .ok (.aload_n 2, 1) := dk_44 (dk_at dksX0_lambda_new_4_0 0 rfl rfl)
theorem dX0_lambda_new_4_1 : decode cX0_lambda_new_4 1 = .ok (.iload_n 3, 1) := dk_29 (dk_at dksX0_lambda_new_4_0 1 rfl rfl)
theorem dX0_lambda_new_4_2 : decode cX0_lambda_new_4 2 = .ok (.aload_n 1, 1) := dk_43 (dk_at dksX0_lambda_new_4_0 2 rfl rfl)
theorem dX0_lambda_new_4_3 : decode cX0_lambda_new_4 3 = .ok (.getfield 458, 3) := dk_180 1 202 (dk_at dksX0_lambda_new_4_0 3 rfl rfl)
theorem dX0_lambda_new_4_6 : decode cX0_lambda_new_4 6 = .ok (.ixor, 1) := dk_130 (dk_at dksX0_lambda_new_4_0 6 rfl rfl)
theorem dX0_lambda_new_4_7 : decode cX0_lambda_new_4 7 = .ok (.invokeinterface 544 2, 5) := by decide +kernel
theorem dX0_lambda_new_4_12 : decode cX0_lambda_new_4 12 = .ok (.aload_n 1, 1) := dk_43 (dk_at dksX0_lambda_new_4_0 12 rfl rfl)
theorem dX0_lambda_new_4_13 : decode cX0_lambda_new_4 13 = .ok (.getfield 458, 3) := dk_180 1 202 (dk_at dksX0_lambda_new_4_0 13 rfl rfl)
theorem dX0_lambda_new_4_16 : decode cX0_lambda_new_4 16 = .ok (.ixor, 1) := dk_130 (dk_at dksX0_lambda_new_4_0 16 rfl rfl)
theorem dX0_lambda_new_4_17 : decode cX0_lambda_new_4 17 = .ok (.ireturn, 1) := dk_172 (dk_at dksX0_lambda_new_4_0 17 rfl rfl)
abbrev cX0_lambda_new_5 : ByteArray := prog_1_method_69_code
def yX0_lambda_new_5 : MethodName := ⟨RX0, "lambda$new$5", "(LPluginChains$Fire;LPluginChains$Hook;LPluginChains$Rest;I)I"⟩
def dkwX0_lambda_new_5_0 : List UInt8 := [44, 29, 185, 2, 32, 2, 0, 54, 4, 21, 4, 42, 182, 2, 46, 96, 172]
abbrev dktX0_lambda_new_5_0 : List UInt8 := dkwX0_lambda_new_5_0 ++ []
theorem dksX0_lambda_new_5_0 : cX0_lambda_new_5.data.toList.drop 0 = dktX0_lambda_new_5_0 := by decide +kernel
theorem dX0_lambda_new_5_0 : decode cX0_lambda_new_5 0 = .ok (.aload_n 2, 1) := dk_44 (dk_at dksX0_lambda_new_5_0 0 rfl rfl)
theorem dX0_lambda_new_5_1 : decode cX0_lambda_new_5 1 = .ok (.iload_n 3, 1) := dk_29 (dk_at dksX0_lambda_new_5_0 1 rfl rfl)
theorem dX0_lambda_new_5_2 : decode cX0_lambda_new_5 2 = .ok (.invokeinterface 544 2, 5) := by decide +kernel
theorem dX0_lambda_new_5_7 : decode cX0_lambda_new_5 7 = .ok (.istore 4, 2) := dk_54 4 (dk_at dksX0_lambda_new_5_0 7 rfl rfl)
theorem dX0_lambda_new_5_9 : decode cX0_lambda_new_5 9 = .ok (.iload 4, 2) := dk_21 4 (dk_at dksX0_lambda_new_5_0 9 rfl rfl)
theorem dX0_lambda_new_5_11 : decode cX0_lambda_new_5 11 = .ok (.aload_n 0, 1) := dk_42 (dk_at dksX0_lambda_new_5_0 11 rfl rfl)
theorem dX0_lambda_new_5_12 : decode cX0_lambda_new_5 12 = .ok (.invokevirtual 558, 3) := dk_182 2 46 (dk_at dksX0_lambda_new_5_0 12 rfl rfl)
theorem dX0_lambda_new_5_15 : decode cX0_lambda_new_5 15 = .ok (.iadd, 1) := dk_96 (dk_at dksX0_lambda_new_5_0 15 rfl rfl)
theorem dX0_lambda_new_5_16 : decode cX0_lambda_new_5 16 = .ok (.ireturn, 1) := dk_172 (dk_at dksX0_lambda_new_5_0 16 rfl rfl)
abbrev cX0_lambda_new_6 : ByteArray := prog_1_method_68_code
def yX0_lambda_new_6 : MethodName := ⟨RX0, "lambda$new$6", "(LPluginChains$Fire;LPluginChains$Hook;LPluginChains$Rest;I)I"⟩
def dkwX0_lambda_new_6_0 : List UInt8 := [42, 43, 29, 182, 2, 42, 44, 29, 185, 2, 32, 2, 0, 172]
abbrev dktX0_lambda_new_6_0 : List UInt8 := dkwX0_lambda_new_6_0 ++ []
theorem dksX0_lambda_new_6_0 : cX0_lambda_new_6.data.toList.drop 0 = dktX0_lambda_new_6_0 := by decide +kernel
theorem dX0_lambda_new_6_0 : decode cX0_lambda_new_6 0 = .ok (.aload_n 0, 1) := dk_42 (dk_at dksX0_lambda_new_6_0 0 rfl rfl)
theorem dX0_lambda_new_6_1 : decode cX0_lambda_new_6 1 = .ok (.aload_n 1, 1) := dk_43 (dk_at dksX0_lambda_new_6_0 1 rfl rfl)
theorem dX0_lambda_new_6_2 : decode cX0_lambda_new_6 2 = .ok (.iload_n 3, 1) := dk_29 (dk_at dksX0_lambda_new_6_0 2 rfl rfl)
theorem dX0_lambda_new_6_3 : decode cX0_lambda_new_6 3 = .ok (.invokevirtual 554, 3) := dk_182 2 42 (dk_at dksX0_lambda_new_6_0 3 rfl rfl)
theorem dX0_lambda_new_6_6 : decode cX0_lambda_new_6 6 = .ok (.aload_n 2, 1) := dk_44 (dk_at dksX0_lambda_new_6_0 6 rfl rfl)
theorem dX0_lambda_new_6_7 : decode cX0_lambda_new_6 7 = .ok (.iload_n 3, 1) := dk_29 (dk_at dksX0_lambda_new_6_0 7 rfl rfl)
theorem dX0_lambda_new_6_8 : decode cX0_lambda_new_6 8 = .ok (.invokeinterface 544 2, 5) := by decide +kernel
theorem dX0_lambda_new_6_13 : decode cX0_lambda_new_6 13 = .ok (.ireturn, 1) := dk_172 (dk_at dksX0_lambda_new_6_0 13 rfl rfl)
abbrev cX0_lambda_new_7 : ByteArray := prog_1_method_67_code
def yX0_lambda_new_7 : MethodName := ⟨RX0, "lambda$new$7", "(LPluginChains$Fire;LPluginChains$Hook;LPluginChains$Rest;I)I"⟩
def dkwX0_lambda_new_7_0 : List UInt8 := [29, 43, 180, 1, 202, 162, 0, 11, 42, 29, 182, 2, 39, 167, 0, 10, 44, 29, 185, 2, 32, 2, 0, 172]
abbrev dktX0_lambda_new_7_0 : List UInt8 := dkwX0_lambda_new_7_0 ++ []
theorem dksX0_lambda_new_7_0 : cX0_lambda_new_7.data.toList.drop 0 = dktX0_lambda_new_7_0 := by decide +kernel
theorem dX0_lambda_new_7_0 : decode cX0_lambda_new_7 0 = .ok (.iload_n 3, 1) := dk_29 (dk_at dksX0_lambda_new_7_0 0 rfl rfl)
theorem dX0_lambda_new_7_1 : decode cX0_lambda_new_7 1 = .ok (.aload_n 1, 1) := dk_43 (dk_at dksX0_lambda_new_7_0 1 rfl rfl)
theorem dX0_lambda_new_7_2 : decode cX0_lambda_new_7 2 = .ok (.getfield 458, 3) := dk_180 1 202 (dk_at dksX0_lambda_new_7_0 2 rfl rfl)
theorem dX0_lambda_new_7_5 : decode cX0_lambda_new_7 5 = .ok (.if_icmp .ge 11, 3) := dk_162 0 11 (dk_at dksX0_lambda_new_7_0 5 rfl rfl)
theorem dX0_lambda_new_7_8 : decode cX0_lambda_new_7 8 = .ok (.aload_n 0, 1) := dk_42 (dk_at dksX0_lambda_new_7_0 8 rfl rfl)
theorem dX0_lambda_new_7_9 : decode cX0_lambda_new_7 9 = .ok (.iload_n 3, 1) := dk_29 (dk_at dksX0_lambda_new_7_0 9 rfl rfl)
theorem dX0_lambda_new_7_10 : decode cX0_lambda_new_7 10 = .ok (.invokevirtual 551, 3) := dk_182 2 39 (dk_at dksX0_lambda_new_7_0 10 rfl rfl)
theorem dX0_lambda_new_7_13 : decode cX0_lambda_new_7 13 = .ok (.goto 10, 3) := dk_167 0 10 (dk_at dksX0_lambda_new_7_0 13 rfl rfl)
theorem dX0_lambda_new_7_16 : decode cX0_lambda_new_7 16 = .ok (.aload_n 2, 1) := dk_44 (dk_at dksX0_lambda_new_7_0 16 rfl rfl)
theorem dX0_lambda_new_7_17 : decode cX0_lambda_new_7 17 = .ok (.iload_n 3, 1) := dk_29 (dk_at dksX0_lambda_new_7_0 17 rfl rfl)
theorem dX0_lambda_new_7_18 : decode cX0_lambda_new_7 18 = .ok (.invokeinterface 544 2, 5) := by decide +kernel
theorem dX0_lambda_new_7_23 : decode cX0_lambda_new_7 23 = .ok (.ireturn, 1) := dk_172 (dk_at dksX0_lambda_new_7_0 23 rfl rfl)
abbrev cX0_lambda_new_8 : ByteArray := prog_1_method_66_code
def yX0_lambda_new_8 : MethodName := ⟨RX0, "lambda$new$8", "(LPluginChains$Fire;LPluginChains$Hook;LPluginChains$Rest;I)I"⟩
def dkwX0_lambda_new_8_0 : List UInt8 := [44, 29, 185, 2, 32, 2, 0, 172, 58, 4, 25, 4, 180, 2, 38, 43, 180, 1, 202, 96, 172]
abbrev dktX0_lambda_new_8_0 : List UInt8 := dkwX0_lambda_new_8_0 ++ []
theorem dksX0_lambda_new_8_0 : cX0_lambda_new_8.data.toList.drop 0 = dktX0_lambda_new_8_0 := by decide +kernel
theorem dX0_lambda_new_8_0 : decode cX0_lambda_new_8 0 = .ok (.aload_n 2, 1) := dk_44 (dk_at dksX0_lambda_new_8_0 0 rfl rfl)
theorem dX0_lambda_new_8_1 : decode cX0_lambda_new_8 1 = .ok (.iload_n 3, 1) := dk_29 (dk_at dksX0_lambda_new_8_0 1 rfl rfl)
theorem dX0_lambda_new_8_2 : decode cX0_lambda_new_8 2 = .ok (.invokeinterface 544 2, 5) := by decide +kernel
theorem dX0_lambda_new_8_7 : decode cX0_lambda_new_8 7 = .ok (.ireturn, 1) := dk_172 (dk_at dksX0_lambda_new_8_0 7 rfl rfl)
theorem dX0_lambda_new_8_8 : decode cX0_lambda_new_8 8 = .ok (.astore 4, 2) := dk_58 4 (dk_at dksX0_lambda_new_8_0 8 rfl rfl)
theorem dX0_lambda_new_8_10 : decode cX0_lambda_new_8 10 = .ok (.aload 4, 2) := dk_25 4 (dk_at dksX0_lambda_new_8_0 10 rfl rfl)
theorem dX0_lambda_new_8_12 : decode cX0_lambda_new_8 12 = .ok (.getfield 550, 3) := dk_180 2 38 (dk_at dksX0_lambda_new_8_0 12 rfl rfl)
theorem dX0_lambda_new_8_15 : decode cX0_lambda_new_8 15 = .ok (.aload_n 1, 1) := dk_43 (dk_at dksX0_lambda_new_8_0 15 rfl rfl)
theorem dX0_lambda_new_8_16 : decode cX0_lambda_new_8 16 = .ok (.getfield 458, 3) := dk_180 1 202 (dk_at dksX0_lambda_new_8_0 16 rfl rfl)
theorem dX0_lambda_new_8_19 : decode cX0_lambda_new_8 19 = .ok (.iadd, 1) := dk_96 (dk_at dksX0_lambda_new_8_0 19 rfl rfl)
theorem dX0_lambda_new_8_20 : decode cX0_lambda_new_8 20 = .ok (.ireturn, 1) := dk_172 (dk_at dksX0_lambda_new_8_0 20 rfl rfl)
abbrev cX0_row : ByteArray := prog_1_method_14_code
def yX0_row : MethodName := ⟨RX0, "row", "(III)I"⟩
def dkwX0_row_3 : List UInt8 := [182, 0, 230, 172]
abbrev dktX0_row_3 : List UInt8 := dkwX0_row_3 ++ []
def dkwX0_row_2 : List UInt8 := [16, 249, 184, 0, 213, 25, 4, 28, 29, 184, 0, 223, 181, 0, 227, 4, 172, 58, 4, 42, 25, 4]
abbrev dktX0_row_2 : List UInt8 := dkwX0_row_2 ++ dktX0_row_3
def dkwX0_row_1 : List UInt8 := [20, 0, 217, 184, 0, 219, 16, 250, 184, 0, 213, 29, 17, 0, 160, 163, 0, 7, 4, 167, 0, 4, 3]
abbrev dktX0_row_1 : List UInt8 := dkwX0_row_1 ++ dktX0_row_2
def dkwX0_row_0 : List UInt8 := [42, 27, 182, 0, 209, 58, 4, 29, 155, 0, 7, 4, 167, 0, 4, 3, 16, 252, 184, 0, 213, 28, 133, 9]
abbrev dktX0_row_0 : List UInt8 := dkwX0_row_0 ++ dktX0_row_1
theorem dksX0_row_0 : cX0_row.data.toList.drop 0 = dktX0_row_0 := by decide +kernel
theorem dksX0_row_1 : cX0_row.data.toList.drop 24 = dktX0_row_1 := dk_seg dksX0_row_0 24 rfl rfl
theorem dksX0_row_2 : cX0_row.data.toList.drop 47 = dktX0_row_2 := dk_seg dksX0_row_1 23 rfl rfl
theorem dksX0_row_3 : cX0_row.data.toList.drop 69 = dktX0_row_3 := dk_seg dksX0_row_2 22 rfl rfl
theorem dX0_row_0 : decode cX0_row 0 = .ok (.aload_n 0, 1) := dk_42 (dk_at dksX0_row_0 0 rfl rfl)
theorem dX0_row_1 : decode cX0_row 1 = .ok (.iload_n 1, 1) := dk_27 (dk_at dksX0_row_0 1 rfl rfl)
theorem dX0_row_2 : decode cX0_row 2 = .ok (.invokevirtual 209, 3) := dk_182 0 209 (dk_at dksX0_row_0 2 rfl rfl)
theorem dX0_row_5 : decode cX0_row 5 = .ok (.astore 4, 2) := dk_58 4 (dk_at dksX0_row_0 5 rfl rfl)
theorem dX0_row_7 : decode cX0_row 7 = .ok (.iload_n 3, 1) := dk_29 (dk_at dksX0_row_0 7 rfl rfl)
theorem dX0_row_8 : decode cX0_row 8 = .ok (.ifCond .lt 7, 3) := dk_155 0 7 (dk_at dksX0_row_0 8 rfl rfl)
theorem dX0_row_11 : decode cX0_row 11 = .ok (.iconst 1, 1) := dk_4 (dk_at dksX0_row_0 11 rfl rfl)
theorem dX0_row_12 : decode cX0_row 12 = .ok (.goto 4, 3) := dk_167 0 4 (dk_at dksX0_row_0 12 rfl rfl)
theorem dX0_row_15 : decode cX0_row 15 = .ok (.iconst 0, 1) := dk_3 (dk_at dksX0_row_0 15 rfl rfl)
theorem dX0_row_16 : decode cX0_row 16 = .ok (.bipush (-4), 2) := dk_16 252 (dk_at dksX0_row_0 16 rfl rfl)
theorem dX0_row_18 : decode cX0_row 18 = .ok (.invokestatic 213, 3) := dk_184 0 213 (dk_at dksX0_row_0 18 rfl rfl)
theorem dX0_row_21 : decode cX0_row 21 = .ok (.iload_n 2, 1) := dk_28 (dk_at dksX0_row_0 21 rfl rfl)
theorem dX0_row_22 : decode cX0_row 22 = .ok (.i2l, 1) := dk_133 (dk_at dksX0_row_0 22 rfl rfl)
theorem dX0_row_23 : decode cX0_row 23 = .ok (.lconst 0, 1) := dk_9 (dk_at dksX0_row_0 23 rfl rfl)
theorem dX0_row_24 : decode cX0_row 24 = .ok (.ldc2_w 217, 3) := dk_20 0 217 (dk_at dksX0_row_1 0 rfl rfl)
theorem dX0_row_27 : decode cX0_row 27 = .ok (.invokestatic 219, 3) := dk_184 0 219 (dk_at dksX0_row_1 3 rfl rfl)
theorem dX0_row_30 : decode cX0_row 30 = .ok (.bipush (-6), 2) := dk_16 250 (dk_at dksX0_row_1 6 rfl rfl)
theorem dX0_row_32 : decode cX0_row 32 = .ok (.invokestatic 213, 3) := dk_184 0 213 (dk_at dksX0_row_1 8 rfl rfl)
theorem dX0_row_35 : decode cX0_row 35 = .ok (.iload_n 3, 1) := dk_29 (dk_at dksX0_row_1 11 rfl rfl)
theorem dX0_row_36 : decode cX0_row 36 = .ok (.sipush 160, 3) := dk_17 0 160 (dk_at dksX0_row_1 12 rfl rfl)
theorem dX0_row_39 : decode cX0_row 39 = .ok (.if_icmp .gt 7, 3) := dk_163 0 7 (dk_at dksX0_row_1 15 rfl rfl)
theorem dX0_row_42 : decode cX0_row 42 = .ok (.iconst 1, 1) := dk_4 (dk_at dksX0_row_1 18 rfl rfl)
theorem dX0_row_43 : decode cX0_row 43 = .ok (.goto 4, 3) := dk_167 0 4 (dk_at dksX0_row_1 19 rfl rfl)
theorem dX0_row_46 : decode cX0_row 46 = .ok (.iconst 0, 1) := dk_3 (dk_at dksX0_row_1 22 rfl rfl)
theorem dX0_row_47 : decode cX0_row 47 = .ok (.bipush (-7), 2) := dk_16 249 (dk_at dksX0_row_2 0 rfl rfl)
theorem dX0_row_49 : decode cX0_row 49 = .ok (.invokestatic 213, 3) := dk_184 0 213 (dk_at dksX0_row_2 2 rfl rfl)
theorem dX0_row_52 : decode cX0_row 52 = .ok (.aload 4, 2) := dk_25 4 (dk_at dksX0_row_2 5 rfl rfl)
theorem dX0_row_54 : decode cX0_row 54 = .ok (.iload_n 2, 1) := dk_28 (dk_at dksX0_row_2 7 rfl rfl)
theorem dX0_row_55 : decode cX0_row 55 = .ok (.iload_n 3, 1) := dk_29 (dk_at dksX0_row_2 8 rfl rfl)
theorem dX0_row_56 : decode cX0_row 56 = .ok (.invokestatic 223, 3) := dk_184 0 223 (dk_at dksX0_row_2 9 rfl rfl)
theorem dX0_row_59 : decode cX0_row 59 = .ok (.putfield 227, 3) := dk_181 0 227 (dk_at dksX0_row_2 12 rfl rfl)
theorem dX0_row_62 : decode cX0_row 62 = .ok (.iconst 1, 1) := dk_4 (dk_at dksX0_row_2 15 rfl rfl)
theorem dX0_row_63 : decode cX0_row 63 = .ok (.ireturn, 1) := dk_172 (dk_at dksX0_row_2 16 rfl rfl)
theorem dX0_row_64 : decode cX0_row 64 = .ok (.astore 4, 2) := dk_58 4 (dk_at dksX0_row_2 17 rfl rfl)
theorem dX0_row_66 : decode cX0_row 66 = .ok (.aload_n 0, 1) := dk_42 (dk_at dksX0_row_2 19 rfl rfl)
theorem dX0_row_67 : decode cX0_row 67 = .ok (.aload 4, 2) := dk_25 4 (dk_at dksX0_row_2 20 rfl rfl)
theorem dX0_row_69 : decode cX0_row 69 = .ok (.invokevirtual 230, 3) := dk_182 0 230 (dk_at dksX0_row_3 0 rfl rfl)
theorem dX0_row_72 : decode cX0_row 72 = .ok (.ireturn, 1) := dk_172 (dk_at dksX0_row_3 3 rfl rfl)
abbrev cX0_shelf : ByteArray := prog_1_method_12_code
def yX0_shelf : MethodName := ⟨RX0, "shelf", "(I)LPluginChains$Shelf;"⟩
def dkwX0_shelf_0 : List UInt8 := [42, 180, 0, 136, 27, 50, 176, 77, 187, 0, 21, 89, 2, 183, 0, 23, 191]
abbrev dktX0_shelf_0 : List UInt8 := dkwX0_shelf_0 ++ []
theorem dksX0_shelf_0 : cX0_shelf.data.toList.drop 0 = dktX0_shelf_0 := by decide +kernel
theorem dX0_shelf_0 : decode cX0_shelf 0 = .ok (.aload_n 0, 1) := dk_42 (dk_at dksX0_shelf_0 0 rfl rfl)
theorem dX0_shelf_1 : decode cX0_shelf 1 = .ok (.getfield 136, 3) := dk_180 0 136 (dk_at dksX0_shelf_0 1 rfl rfl)
theorem dX0_shelf_4 : decode cX0_shelf 4 = .ok (.iload_n 1, 1) := dk_27 (dk_at dksX0_shelf_0 4 rfl rfl)
theorem dX0_shelf_5 : decode cX0_shelf 5 = .ok (.aaload, 1) := dk_50 (dk_at dksX0_shelf_0 5 rfl rfl)
theorem dX0_shelf_6 : decode cX0_shelf 6 = .ok (.areturn, 1) := dk_176 (dk_at dksX0_shelf_0 6 rfl rfl)
theorem dX0_shelf_7 : decode cX0_shelf 7 = .ok (.astore_n 2, 1) := dk_77 (dk_at dksX0_shelf_0 7 rfl rfl)
theorem dX0_shelf_8 : decode cX0_shelf 8 = .ok (.new 21, 3) := dk_187 0 21 (dk_at dksX0_shelf_0 8 rfl rfl)
theorem dX0_shelf_11 : decode cX0_shelf 11 = .ok (.dup, 1) := dk_89 (dk_at dksX0_shelf_0 11 rfl rfl)
theorem dX0_shelf_12 : decode cX0_shelf 12 = .ok (.iconst (-1), 1) := dk_2 (dk_at dksX0_shelf_0 12 rfl rfl)
theorem dX0_shelf_13 : decode cX0_shelf 13 = .ok (.invokespecial 23, 3) := dk_183 0 23 (dk_at dksX0_shelf_0 13 rfl rfl)
theorem dX0_shelf_16 : decode cX0_shelf 16 = .ok (.athrow, 1) := dk_191 (dk_at dksX0_shelf_0 16 rfl rfl)
abbrev cX0_need : ByteArray := prog_1_method_2_code
def yX0_need : MethodName := ⟨RX0, "need", "(ZI)V"⟩
def dkwX0_need_0 : List UInt8 := [26, 154, 0, 12, 187, 0, 21, 89, 27, 183, 0, 23, 191, 177]
abbrev dktX0_need_0 : List UInt8 := dkwX0_need_0 ++ []
theorem dksX0_need_0 : cX0_need.data.toList.drop 0 = dktX0_need_0 := by decide +kernel
theorem dX0_need_0 : decode cX0_need 0 = .ok (.iload_n 0, 1) := dk_26 (dk_at dksX0_need_0 0 rfl rfl)
theorem dX0_need_1 : decode cX0_need 1 = .ok (.ifCond .ne 12, 3) := dk_154 0 12 (dk_at dksX0_need_0 1 rfl rfl)
theorem dX0_need_4 : decode cX0_need 4 = .ok (.new 21, 3) := dk_187 0 21 (dk_at dksX0_need_0 4 rfl rfl)
theorem dX0_need_7 : decode cX0_need 7 = .ok (.dup, 1) := dk_89 (dk_at dksX0_need_0 7 rfl rfl)
theorem dX0_need_8 : decode cX0_need 8 = .ok (.iload_n 1, 1) := dk_27 (dk_at dksX0_need_0 8 rfl rfl)
theorem dX0_need_9 : decode cX0_need 9 = .ok (.invokespecial 23, 3) := dk_183 0 23 (dk_at dksX0_need_0 9 rfl rfl)
theorem dX0_need_12 : decode cX0_need 12 = .ok (.athrow, 1) := dk_191 (dk_at dksX0_need_0 12 rfl rfl)
theorem dX0_need_13 : decode cX0_need 13 = .ok (.return_, 1) := dk_177 (dk_at dksX0_need_0 13 rfl rfl)
abbrev cX0_in : ByteArray := prog_1_method_3_code
def yX0_in : MethodName := ⟨RX0, "in", "(JJJ)Z"⟩
def dkwX0_in_0 : List UInt8 := [30, 32, 148, 155, 0, 14, 30, 22, 4, 148, 157, 0, 7, 4, 167, 0, 4, 3, 172]
abbrev dktX0_in_0 : List UInt8 := dkwX0_in_0 ++ []
theorem dksX0_in_0 : cX0_in.data.toList.drop 0 = dktX0_in_0 := by decide +kernel
theorem dX0_in_0 : decode cX0_in 0 = .ok (.lload_n 0, 1) := dk_30 (dk_at dksX0_in_0 0 rfl rfl)
theorem dX0_in_1 : decode cX0_in 1 = .ok (.lload_n 2, 1) := dk_32 (dk_at dksX0_in_0 1 rfl rfl)
theorem dX0_in_2 : decode cX0_in 2 = .ok (.lcmp, 1) := dk_148 (dk_at dksX0_in_0 2 rfl rfl)
theorem dX0_in_3 : decode cX0_in 3 = .ok (.ifCond .lt 14, 3) := dk_155 0 14 (dk_at dksX0_in_0 3 rfl rfl)
theorem dX0_in_6 : decode cX0_in 6 = .ok (.lload_n 0, 1) := dk_30 (dk_at dksX0_in_0 6 rfl rfl)
theorem dX0_in_7 : decode cX0_in 7 = .ok (.lload 4, 2) := dk_22 4 (dk_at dksX0_in_0 7 rfl rfl)
theorem dX0_in_9 : decode cX0_in 9 = .ok (.lcmp, 1) := dk_148 (dk_at dksX0_in_0 9 rfl rfl)
theorem dX0_in_10 : decode cX0_in 10 = .ok (.ifCond .gt 7, 3) := dk_157 0 7 (dk_at dksX0_in_0 10 rfl rfl)
theorem dX0_in_13 : decode cX0_in 13 = .ok (.iconst 1, 1) := dk_4 (dk_at dksX0_in_0 13 rfl rfl)
theorem dX0_in_14 : decode cX0_in 14 = .ok (.goto 4, 3) := dk_167 0 4 (dk_at dksX0_in_0 14 rfl rfl)
theorem dX0_in_17 : decode cX0_in 17 = .ok (.iconst 0, 1) := dk_3 (dk_at dksX0_in_0 17 rfl rfl)
theorem dX0_in_18 : decode cX0_in 18 = .ok (.ireturn, 1) := dk_172 (dk_at dksX0_in_0 18 rfl rfl)
abbrev cX0_newRow : ByteArray := prog_1_method_13_code
def yX0_newRow : MethodName := ⟨RX0, "newRow", "(II)LPluginChains$Row;"⟩
def dkwX0_newRow_4 : List UInt8 := [187, 0, 21, 89, 16, 252, 183, 0, 23, 191]
abbrev dktX0_newRow_4 : List UInt8 := dkwX0_newRow_4 ++ []
def dkwX0_newRow_3 : List UInt8 := [183, 0, 203, 176, 187, 0, 204, 89, 27, 183, 0, 206, 176, 187, 0, 21, 89, 16, 250, 183, 0, 23, 191, 77]
abbrev dktX0_newRow_3 : List UInt8 := dkwX0_newRow_3 ++ dktX0_newRow_4
def dkwX0_newRow_2 : List UInt8 := [187, 0, 195, 89, 27, 183, 0, 197, 176, 187, 0, 198, 89, 27, 183, 0, 200, 176, 187, 0, 201, 89, 27]
abbrev dktX0_newRow_2 : List UInt8 := dkwX0_newRow_2 ++ dktX0_newRow_3
def dkwX0_newRow_1 : List UInt8 := [170, 0, 0, 0, 0, 0, 67, 0, 0, 0, 0, 0, 0, 0, 3, 0, 0, 0, 31, 0, 0, 0, 40, 0, 0, 0, 49, 0, 0, 0, 58]
abbrev dktX0_newRow_1 : List UInt8 := dkwX0_newRow_1 ++ dktX0_newRow_2
def dkwX0_newRow_0 : List UInt8 := [26]
abbrev dktX0_newRow_0 : List UInt8 := dkwX0_newRow_0 ++ dktX0_newRow_1
theorem dksX0_newRow_0 : cX0_newRow.data.toList.drop 0 = dktX0_newRow_0 := by decide +kernel
theorem dksX0_newRow_1 : cX0_newRow.data.toList.drop 1 = dktX0_newRow_1 := dk_seg dksX0_newRow_0 1 rfl rfl
theorem dksX0_newRow_2 : cX0_newRow.data.toList.drop 32 = dktX0_newRow_2 := dk_seg dksX0_newRow_1 31 rfl rfl
theorem dksX0_newRow_3 : cX0_newRow.data.toList.drop 55 = dktX0_newRow_3 := dk_seg dksX0_newRow_2 23 rfl rfl
theorem dksX0_newRow_4 : cX0_newRow.data.toList.drop 79 = dktX0_newRow_4 := dk_seg dksX0_newRow_3 24 rfl rfl
theorem dX0_newRow_0 : decode cX0_newRow 0 = .ok (.iload_n 0, 1) := dk_26 (dk_at dksX0_newRow_0 0 rfl rfl)
theorem dX0_newRow_1 : decode cX0_newRow 1 = .ok (.tableswitch 67 0 3 #[31, 40, 49, 58], 31) := by decide +kernel
theorem dX0_newRow_32 : decode cX0_newRow 32 = .ok (.new 195, 3) := dk_187 0 195 (dk_at dksX0_newRow_2 0 rfl rfl)
theorem dX0_newRow_35 : decode cX0_newRow 35 = .ok (.dup, 1) := dk_89 (dk_at dksX0_newRow_2 3 rfl rfl)
theorem dX0_newRow_36 : decode cX0_newRow 36 = .ok (.iload_n 1, 1) := dk_27 (dk_at dksX0_newRow_2 4 rfl rfl)
theorem dX0_newRow_37 : decode cX0_newRow 37 = .ok (.invokespecial 197, 3) := dk_183 0 197 (dk_at dksX0_newRow_2 5 rfl rfl)
theorem dX0_newRow_40 : decode cX0_newRow 40 = .ok (.areturn, 1) := dk_176 (dk_at dksX0_newRow_2 8 rfl rfl)
theorem dX0_newRow_41 : decode cX0_newRow 41 = .ok (.new 198, 3) := dk_187 0 198 (dk_at dksX0_newRow_2 9 rfl rfl)
theorem dX0_newRow_44 : decode cX0_newRow 44 = .ok (.dup, 1) := dk_89 (dk_at dksX0_newRow_2 12 rfl rfl)
theorem dX0_newRow_45 : decode cX0_newRow 45 = .ok (.iload_n 1, 1) := dk_27 (dk_at dksX0_newRow_2 13 rfl rfl)
theorem dX0_newRow_46 : decode cX0_newRow 46 = .ok (.invokespecial 200, 3) := dk_183 0 200 (dk_at dksX0_newRow_2 14 rfl rfl)
theorem dX0_newRow_49 : decode cX0_newRow 49 = .ok (.areturn, 1) := dk_176 (dk_at dksX0_newRow_2 17 rfl rfl)
theorem dX0_newRow_50 : decode cX0_newRow 50 = .ok (.new 201, 3) := dk_187 0 201 (dk_at dksX0_newRow_2 18 rfl rfl)
theorem dX0_newRow_53 : decode cX0_newRow 53 = .ok (.dup, 1) := dk_89 (dk_at dksX0_newRow_2 21 rfl rfl)
theorem dX0_newRow_54 : decode cX0_newRow 54 = .ok (.iload_n 1, 1) := dk_27 (dk_at dksX0_newRow_2 22 rfl rfl)
theorem dX0_newRow_55 : decode cX0_newRow 55 = .ok (.invokespecial 203, 3) := dk_183 0 203 (dk_at dksX0_newRow_3 0 rfl rfl)
theorem dX0_newRow_58 : decode cX0_newRow 58 = .ok (.areturn, 1) := dk_176 (dk_at dksX0_newRow_3 3 rfl rfl)
theorem dX0_newRow_59 : decode cX0_newRow 59 = .ok (.new 204, 3) := dk_187 0 204 (dk_at dksX0_newRow_3 4 rfl rfl)
theorem dX0_newRow_62 : decode cX0_newRow 62 = .ok (.dup, 1) := dk_89 (dk_at dksX0_newRow_3 7 rfl rfl)
theorem dX0_newRow_63 : decode cX0_newRow 63 = .ok (.iload_n 1, 1) := dk_27 (dk_at dksX0_newRow_3 8 rfl rfl)
theorem dX0_newRow_64 : decode cX0_newRow 64 = .ok (.invokespecial 206, 3) := dk_183 0 206 (dk_at dksX0_newRow_3 9 rfl rfl)
theorem dX0_newRow_67 : decode cX0_newRow 67 = .ok (.areturn, 1) := dk_176 (dk_at dksX0_newRow_3 12 rfl rfl)
theorem dX0_newRow_68 : decode cX0_newRow 68 = .ok (.new 21, 3) := dk_187 0 21 (dk_at dksX0_newRow_3 13 rfl rfl)
theorem dX0_newRow_71 : decode cX0_newRow 71 = .ok (.dup, 1) := dk_89 (dk_at dksX0_newRow_3 16 rfl rfl)
theorem dX0_newRow_72 : decode cX0_newRow 72 = .ok (.bipush (-6), 2) := dk_16 250 (dk_at dksX0_newRow_3 17 rfl rfl)
theorem dX0_newRow_74 : decode cX0_newRow 74 = .ok (.invokespecial 23, 3) := dk_183 0 23 (dk_at dksX0_newRow_3 19 rfl rfl)
theorem dX0_newRow_77 : decode cX0_newRow 77 = .ok (.athrow, 1) := dk_191 (dk_at dksX0_newRow_3 22 rfl rfl)
theorem dX0_newRow_78 : decode cX0_newRow 78 = .ok (.astore_n 2, 1) := dk_77 (dk_at dksX0_newRow_3 23 rfl rfl)
theorem dX0_newRow_79 : decode cX0_newRow 79 = .ok (.new 21, 3) := dk_187 0 21 (dk_at dksX0_newRow_4 0 rfl rfl)
theorem dX0_newRow_82 : decode cX0_newRow 82 = .ok (.dup, 1) := dk_89 (dk_at dksX0_newRow_4 3 rfl rfl)
theorem dX0_newRow_83 : decode cX0_newRow 83 = .ok (.bipush (-4), 2) := dk_16 252 (dk_at dksX0_newRow_4 4 rfl rfl)
theorem dX0_newRow_85 : decode cX0_newRow 85 = .ok (.invokespecial 23, 3) := dk_183 0 23 (dk_at dksX0_newRow_4 6 rfl rfl)
theorem dX0_newRow_88 : decode cX0_newRow 88 = .ok (.athrow, 1) := dk_191 (dk_at dksX0_newRow_4 9 rfl rfl)
abbrev cX0_refused : ByteArray := prog_1_method_10_code
def yX0_refused : MethodName := ⟨RX0, "refused", "(LPluginChains$Refused;)I"⟩
def dkwX0_refused_0 : List UInt8 := [42, 180, 0, 140, 43, 180, 0, 190, 116, 92, 46, 4, 96, 79, 43, 180, 0, 190, 172]
abbrev dktX0_refused_0 : List UInt8 := dkwX0_refused_0 ++ []
theorem dksX0_refused_0 : cX0_refused.data.toList.drop 0 = dktX0_refused_0 := by decide +kernel
theorem dX0_refused_0 : decode cX0_refused 0 = .ok (.aload_n 0, 1) := dk_42 (dk_at dksX0_refused_0 0 rfl rfl)
theorem dX0_refused_1 : decode cX0_refused 1 = .ok (.getfield 140, 3) := dk_180 0 140 (dk_at dksX0_refused_0 1 rfl rfl)
theorem dX0_refused_4 : decode cX0_refused 4 = .ok (.aload_n 1, 1) := dk_43 (dk_at dksX0_refused_0 4 rfl rfl)
theorem dX0_refused_5 : decode cX0_refused 5 = .ok (.getfield 190, 3) := dk_180 0 190 (dk_at dksX0_refused_0 5 rfl rfl)
theorem dX0_refused_8 : decode cX0_refused 8 = .ok (.ineg, 1) := dk_116 (dk_at dksX0_refused_0 8 rfl rfl)
theorem dX0_refused_9 : decode cX0_refused 9 = .ok (.dup2, 1) := dk_92 (dk_at dksX0_refused_0 9 rfl rfl)
theorem dX0_refused_10 : decode cX0_refused 10 = .ok (.iaload, 1) := dk_46 (dk_at dksX0_refused_0 10 rfl rfl)
theorem dX0_refused_11 : decode cX0_refused 11 = .ok (.iconst 1, 1) := dk_4 (dk_at dksX0_refused_0 11 rfl rfl)
theorem dX0_refused_12 : decode cX0_refused 12 = .ok (.iadd, 1) := dk_96 (dk_at dksX0_refused_0 12 rfl rfl)
theorem dX0_refused_13 : decode cX0_refused 13 = .ok (.iastore, 1) := dk_79 (dk_at dksX0_refused_0 13 rfl rfl)
theorem dX0_refused_14 : decode cX0_refused 14 = .ok (.aload_n 1, 1) := dk_43 (dk_at dksX0_refused_0 14 rfl rfl)
theorem dX0_refused_15 : decode cX0_refused 15 = .ok (.getfield 190, 3) := dk_180 0 190 (dk_at dksX0_refused_0 15 rfl rfl)
theorem dX0_refused_18 : decode cX0_refused 18 = .ok (.ireturn, 1) := dk_172 (dk_at dksX0_refused_0 18 rfl rfl)
abbrev cX0_set : ByteArray := prog_1_method_15_code
def yX0_set : MethodName := ⟨RX0, "set", "(IIJ)I"⟩
def dkwX0_set_1 : List UInt8 := [187, 0, 21, 89, 16, 251, 183, 0, 23, 191, 4, 172, 58, 5, 42, 25, 5, 182, 0, 230, 172]
abbrev dktX0_set_1 : List UInt8 := dkwX0_set_1 ++ []
def dkwX0_set_0 : List UInt8 := [42, 27, 182, 0, 209, 182, 0, 234, 58, 5, 25, 5, 28, 33, 182, 0, 237, 167, 0, 15, 58, 6]
abbrev dktX0_set_0 : List UInt8 := dkwX0_set_0 ++ dktX0_set_1
theorem dksX0_set_0 : cX0_set.data.toList.drop 0 = dktX0_set_0 := by decide +kernel
theorem dksX0_set_1 : cX0_set.data.toList.drop 22 = dktX0_set_1 := dk_seg dksX0_set_0 22 rfl rfl
theorem dX0_set_0 : decode cX0_set 0 = .ok (.aload_n 0, 1) := dk_42 (dk_at dksX0_set_0 0 rfl rfl)
theorem dX0_set_1 : decode cX0_set 1 = .ok (.iload_n 1, 1) := dk_27 (dk_at dksX0_set_0 1 rfl rfl)
theorem dX0_set_2 : decode cX0_set 2 = .ok (.invokevirtual 209, 3) := dk_182 0 209 (dk_at dksX0_set_0 2 rfl rfl)
theorem dX0_set_5 : decode cX0_set 5 = .ok (.invokevirtual 234, 3) := dk_182 0 234 (dk_at dksX0_set_0 5 rfl rfl)
theorem dX0_set_8 : decode cX0_set 8 = .ok (.astore 5, 2) := dk_58 5 (dk_at dksX0_set_0 8 rfl rfl)
theorem dX0_set_10 : decode cX0_set 10 = .ok (.aload 5, 2) := dk_25 5 (dk_at dksX0_set_0 10 rfl rfl)
theorem dX0_set_12 : decode cX0_set 12 = .ok (.iload_n 2, 1) := dk_28 (dk_at dksX0_set_0 12 rfl rfl)
theorem dX0_set_13 : decode cX0_set 13 = .ok (.lload_n 3, 1) := dk_33 (dk_at dksX0_set_0 13 rfl rfl)
theorem dX0_set_14 : decode cX0_set 14 = .ok (.invokevirtual 237, 3) := dk_182 0 237 (dk_at dksX0_set_0 14 rfl rfl)
theorem dX0_set_17 : decode cX0_set 17 = .ok (.goto 15, 3) := dk_167 0 15 (dk_at dksX0_set_0 17 rfl rfl)
theorem dX0_set_20 : decode cX0_set 20 = .ok (.astore 6, 2) := dk_58 6 (dk_at dksX0_set_0 20 rfl rfl)
theorem dX0_set_22 : decode cX0_set 22 = .ok (.new 21, 3) := dk_187 0 21 (dk_at dksX0_set_1 0 rfl rfl)
theorem dX0_set_25 : decode cX0_set 25 = .ok (.dup, 1) := dk_89 (dk_at dksX0_set_1 3 rfl rfl)
theorem dX0_set_26 : decode cX0_set 26 = .ok (.bipush (-5), 2) := dk_16 251 (dk_at dksX0_set_1 4 rfl rfl)
theorem dX0_set_28 : decode cX0_set 28 = .ok (.invokespecial 23, 3) := dk_183 0 23 (dk_at dksX0_set_1 6 rfl rfl)
theorem dX0_set_31 : decode cX0_set 31 = .ok (.athrow, 1) := dk_191 (dk_at dksX0_set_1 9 rfl rfl)
theorem dX0_set_32 : decode cX0_set 32 = .ok (.iconst 1, 1) := dk_4 (dk_at dksX0_set_1 10 rfl rfl)
theorem dX0_set_33 : decode cX0_set 33 = .ok (.ireturn, 1) := dk_172 (dk_at dksX0_set_1 11 rfl rfl)
theorem dX0_set_34 : decode cX0_set 34 = .ok (.astore 5, 2) := dk_58 5 (dk_at dksX0_set_1 12 rfl rfl)
theorem dX0_set_36 : decode cX0_set 36 = .ok (.aload_n 0, 1) := dk_42 (dk_at dksX0_set_1 14 rfl rfl)
theorem dX0_set_37 : decode cX0_set 37 = .ok (.aload 5, 2) := dk_25 5 (dk_at dksX0_set_1 15 rfl rfl)
theorem dX0_set_39 : decode cX0_set 39 = .ok (.invokevirtual 230, 3) := dk_182 0 230 (dk_at dksX0_set_1 17 rfl rfl)
theorem dX0_set_42 : decode cX0_set 42 = .ok (.ireturn, 1) := dk_172 (dk_at dksX0_set_1 20 rfl rfl)
abbrev cX0_copy : ByteArray := prog_1_method_16_code
def yX0_copy : MethodName := ⟨RX0, "copy", "(IIIII)I"⟩
def dkwX0_copy_6 : List UInt8 := [89, 16, 251, 183, 0, 23, 191, 4, 172, 58, 6, 42, 25, 6, 182, 0, 230, 172]
abbrev dktX0_copy_6 : List UInt8 := dkwX0_copy_6 ++ []
def dkwX0_copy_5 : List UInt8 := [182, 0, 7, 29, 25, 9, 182, 0, 7, 21, 4, 21, 5, 184, 0, 15, 167, 0, 15, 58, 10, 187, 0, 21]
abbrev dktX0_copy_5 : List UInt8 := dkwX0_copy_5 ++ dktX0_copy_6
def dkwX0_copy_4 : List UInt8 := [182, 0, 234, 58, 9, 21, 5, 155, 0, 7, 4, 167, 0, 4, 3, 16, 252, 184, 0, 213, 25, 8]
abbrev dktX0_copy_4 : List UInt8 := dkwX0_copy_4 ++ dktX0_copy_5
def dkwX0_copy_3 : List UInt8 := [160, 0, 7, 4, 167, 0, 4, 3, 16, 254, 184, 0, 213, 25, 6, 182, 0, 234, 58, 8, 25, 7]
abbrev dktX0_copy_3 : List UInt8 := dkwX0_copy_3 ++ dktX0_copy_4
def dkwX0_copy_2 : List UInt8 := [25, 7, 180, 0, 227, 198, 0, 32, 25, 6, 182, 0, 234, 182, 0, 244, 25, 7, 182, 0, 234, 182, 0, 244]
abbrev dktX0_copy_2 : List UInt8 := dkwX0_copy_2 ++ dktX0_copy_3
def dkwX0_copy_1 : List UInt8 := [182, 0, 241, 154, 0, 7, 4, 167, 0, 4, 3, 16, 254, 184, 0, 213, 25, 6, 180, 0, 227, 198, 0, 40]
abbrev dktX0_copy_1 : List UInt8 := dkwX0_copy_1 ++ dktX0_copy_2
def dkwX0_copy_0 : List UInt8 := [42, 27, 182, 0, 209, 58, 6, 42, 28, 182, 0, 209, 58, 7, 25, 6, 182, 0, 241, 154, 0, 15, 25, 7]
abbrev dktX0_copy_0 : List UInt8 := dkwX0_copy_0 ++ dktX0_copy_1
theorem dksX0_copy_0 : cX0_copy.data.toList.drop 0 = dktX0_copy_0 := by decide +kernel
theorem dksX0_copy_1 : cX0_copy.data.toList.drop 24 = dktX0_copy_1 := dk_seg dksX0_copy_0 24 rfl rfl
theorem dksX0_copy_2 : cX0_copy.data.toList.drop 48 = dktX0_copy_2 := dk_seg dksX0_copy_1 24 rfl rfl
theorem dksX0_copy_3 : cX0_copy.data.toList.drop 72 = dktX0_copy_3 := dk_seg dksX0_copy_2 24 rfl rfl
theorem dksX0_copy_4 : cX0_copy.data.toList.drop 94 = dktX0_copy_4 := dk_seg dksX0_copy_3 22 rfl rfl
theorem dksX0_copy_5 : cX0_copy.data.toList.drop 116 = dktX0_copy_5 := dk_seg dksX0_copy_4 22 rfl rfl
theorem dksX0_copy_6 : cX0_copy.data.toList.drop 140 = dktX0_copy_6 := dk_seg dksX0_copy_5 24 rfl rfl
theorem dX0_copy_0 : decode cX0_copy 0 = .ok (.aload_n 0, 1) := dk_42 (dk_at dksX0_copy_0 0 rfl rfl)
theorem dX0_copy_1 : decode cX0_copy 1 = .ok (.iload_n 1, 1) := dk_27 (dk_at dksX0_copy_0 1 rfl rfl)
theorem dX0_copy_2 : decode cX0_copy 2 = .ok (.invokevirtual 209, 3) := dk_182 0 209 (dk_at dksX0_copy_0 2 rfl rfl)
theorem dX0_copy_5 : decode cX0_copy 5 = .ok (.astore 6, 2) := dk_58 6 (dk_at dksX0_copy_0 5 rfl rfl)
theorem dX0_copy_7 : decode cX0_copy 7 = .ok (.aload_n 0, 1) := dk_42 (dk_at dksX0_copy_0 7 rfl rfl)
theorem dX0_copy_8 : decode cX0_copy 8 = .ok (.iload_n 2, 1) := dk_28 (dk_at dksX0_copy_0 8 rfl rfl)
theorem dX0_copy_9 : decode cX0_copy 9 = .ok (.invokevirtual 209, 3) := dk_182 0 209 (dk_at dksX0_copy_0 9 rfl rfl)
theorem dX0_copy_12 : decode cX0_copy 12 = .ok (.astore 7, 2) := dk_58 7 (dk_at dksX0_copy_0 12 rfl rfl)
theorem dX0_copy_14 : decode cX0_copy 14 = .ok (.aload 6, 2) := dk_25 6 (dk_at dksX0_copy_0 14 rfl rfl)
theorem dX0_copy_16 : decode cX0_copy 16 = .ok (.invokevirtual 241, 3) := dk_182 0 241 (dk_at dksX0_copy_0 16 rfl rfl)
theorem dX0_copy_19 : decode cX0_copy 19 = .ok (.ifCond .ne 15, 3) := dk_154 0 15 (dk_at dksX0_copy_0 19 rfl rfl)
theorem dX0_copy_22 : decode cX0_copy 22 = .ok (.aload 7, 2) := dk_25 7 (dk_at dksX0_copy_0 22 rfl rfl)
theorem dX0_copy_24 : decode cX0_copy 24 = .ok (.invokevirtual 241, 3) := dk_182 0 241 (dk_at dksX0_copy_1 0 rfl rfl)
theorem dX0_copy_27 : decode cX0_copy 27 = .ok (.ifCond .ne 7, 3) := dk_154 0 7 (dk_at dksX0_copy_1 3 rfl rfl)
theorem dX0_copy_30 : decode cX0_copy 30 = .ok (.iconst 1, 1) := dk_4 (dk_at dksX0_copy_1 6 rfl rfl)
theorem dX0_copy_31 : decode cX0_copy 31 = .ok (.goto 4, 3) := dk_167 0 4 (dk_at dksX0_copy_1 7 rfl rfl)
theorem dX0_copy_34 : decode cX0_copy 34 = .ok (.iconst 0, 1) := dk_3 (dk_at dksX0_copy_1 10 rfl rfl)
theorem dX0_copy_35 : decode cX0_copy 35 = .ok (.bipush (-2), 2) := dk_16 254 (dk_at dksX0_copy_1 11 rfl rfl)
theorem dX0_copy_37 : decode cX0_copy 37 = .ok (.invokestatic 213, 3) := dk_184 0 213 (dk_at dksX0_copy_1 13 rfl rfl)
theorem dX0_copy_40 : decode cX0_copy 40 = .ok (.aload 6, 2) := dk_25 6 (dk_at dksX0_copy_1 16 rfl rfl)
theorem dX0_copy_42 : decode cX0_copy 42 = .ok (.getfield 227, 3) := dk_180 0 227 (dk_at dksX0_copy_1 18 rfl rfl)
theorem dX0_copy_45 : decode cX0_copy 45 = .ok (.ifnull 40, 3) := dk_198 0 40 (dk_at dksX0_copy_1 21 rfl rfl)
theorem dX0_copy_48 : decode cX0_copy 48 = .ok (.aload 7, 2) := dk_25 7 (dk_at dksX0_copy_2 0 rfl rfl)
theorem dX0_copy_50 : decode cX0_copy 50 = .ok (.getfield 227, 3) := dk_180 0 227 (dk_at dksX0_copy_2 2 rfl rfl)
theorem dX0_copy_53 : decode cX0_copy 53 = .ok (.ifnull 32, 3) := dk_198 0 32 (dk_at dksX0_copy_2 5 rfl rfl)
theorem dX0_copy_56 : decode cX0_copy 56 = .ok (.aload 6, 2) := dk_25 6 (dk_at dksX0_copy_2 8 rfl rfl)
theorem dX0_copy_58 : decode cX0_copy 58 = .ok (.invokevirtual 234, 3) := dk_182 0 234 (dk_at dksX0_copy_2 10 rfl rfl)
theorem dX0_copy_61 : decode cX0_copy 61 = .ok (.invokevirtual 244, 3) := dk_182 0 244 (dk_at dksX0_copy_2 13 rfl rfl)
theorem dX0_copy_64 : decode cX0_copy 64 = .ok (.aload 7, 2) := dk_25 7 (dk_at dksX0_copy_2 16 rfl rfl)
theorem dX0_copy_66 : decode cX0_copy 66 = .ok (.invokevirtual 234, 3) := dk_182 0 234 (dk_at dksX0_copy_2 18 rfl rfl)
theorem dX0_copy_69 : decode cX0_copy 69 = .ok (.invokevirtual 244, 3) := dk_182 0 244 (dk_at dksX0_copy_2 21 rfl rfl)
theorem dX0_copy_72 : decode cX0_copy 72 = .ok (.if_icmp .ne 7, 3) := dk_160 0 7 (dk_at dksX0_copy_3 0 rfl rfl)
theorem dX0_copy_75 : decode cX0_copy 75 = .ok (.iconst 1, 1) := dk_4 (dk_at dksX0_copy_3 3 rfl rfl)
theorem dX0_copy_76 : decode cX0_copy 76 = .ok (.goto 4, 3) := dk_167 0 4 (dk_at dksX0_copy_3 4 rfl rfl)
theorem dX0_copy_79 : decode cX0_copy 79 = .ok (.iconst 0, 1) := dk_3 (dk_at dksX0_copy_3 7 rfl rfl)
theorem dX0_copy_80 : decode cX0_copy 80 = .ok (.bipush (-2), 2) := dk_16 254 (dk_at dksX0_copy_3 8 rfl rfl)
theorem dX0_copy_82 : decode cX0_copy 82 = .ok (.invokestatic 213, 3) := dk_184 0 213 (dk_at dksX0_copy_3 10 rfl rfl)
theorem dX0_copy_85 : decode cX0_copy 85 = .ok (.aload 6, 2) := dk_25 6 (dk_at dksX0_copy_3 13 rfl rfl)
theorem dX0_copy_87 : decode cX0_copy 87 = .ok (.invokevirtual 234, 3) := dk_182 0 234 (dk_at dksX0_copy_3 15 rfl rfl)
theorem dX0_copy_90 : decode cX0_copy 90 = .ok (.astore 8, 2) := dk_58 8 (dk_at dksX0_copy_3 18 rfl rfl)
theorem dX0_copy_92 : decode cX0_copy 92 = .ok (.aload 7, 2) := dk_25 7 (dk_at dksX0_copy_3 20 rfl rfl)
theorem dX0_copy_94 : decode cX0_copy 94 = .ok (.invokevirtual 234, 3) := dk_182 0 234 (dk_at dksX0_copy_4 0 rfl rfl)
theorem dX0_copy_97 : decode cX0_copy 97 = .ok (.astore 9, 2) := dk_58 9 (dk_at dksX0_copy_4 3 rfl rfl)
theorem dX0_copy_99 : decode cX0_copy 99 = .ok (.iload 5, 2) := dk_21 5 (dk_at dksX0_copy_4 5 rfl rfl)
theorem dX0_copy_101 : decode cX0_copy 101 = .ok (.ifCond .lt 7, 3) := dk_155 0 7 (dk_at dksX0_copy_4 7 rfl rfl)
theorem dX0_copy_104 : decode cX0_copy 104 = .ok (.iconst 1, 1) := dk_4 (dk_at dksX0_copy_4 10 rfl rfl)
theorem dX0_copy_105 : decode cX0_copy 105 = .ok (.goto 4, 3) := dk_167 0 4 (dk_at dksX0_copy_4 11 rfl rfl)
theorem dX0_copy_108 : decode cX0_copy 108 = .ok (.iconst 0, 1) := dk_3 (dk_at dksX0_copy_4 14 rfl rfl)
theorem dX0_copy_109 : decode cX0_copy 109 = .ok (.bipush (-4), 2) := dk_16 252 (dk_at dksX0_copy_4 15 rfl rfl)
theorem dX0_copy_111 : decode cX0_copy 111 = .ok (.invokestatic 213, 3) := dk_184 0 213 (dk_at dksX0_copy_4 17 rfl rfl)
theorem dX0_copy_114 : decode cX0_copy 114 = .ok (.aload 8, 2) := dk_25 8 (dk_at dksX0_copy_4 20 rfl rfl)
theorem dX0_copy_116 : decode cX0_copy 116 = .ok (.invokevirtual 7, 3) := dk_182 0 7 (dk_at dksX0_copy_5 0 rfl rfl)
theorem dX0_copy_119 : decode cX0_copy 119 = .ok (.iload_n 3, 1) := dk_29 (dk_at dksX0_copy_5 3 rfl rfl)
theorem dX0_copy_120 : decode cX0_copy 120 = .ok (.aload 9, 2) := dk_25 9 (dk_at dksX0_copy_5 4 rfl rfl)
theorem dX0_copy_122 : decode cX0_copy 122 = .ok (.invokevirtual 7, 3) := dk_182 0 7 (dk_at dksX0_copy_5 6 rfl rfl)
theorem dX0_copy_125 : decode cX0_copy 125 = .ok (.iload 4, 2) := dk_21 4 (dk_at dksX0_copy_5 9 rfl rfl)
theorem dX0_copy_127 : decode cX0_copy 127 = .ok (.iload 5, 2) := dk_21 5 (dk_at dksX0_copy_5 11 rfl rfl)
theorem dX0_copy_129 : decode cX0_copy 129 = .ok (.invokestatic 15, 3) := dk_184 0 15 (dk_at dksX0_copy_5 13 rfl rfl)
theorem dX0_copy_132 : decode cX0_copy 132 = .ok (.goto 15, 3) := dk_167 0 15 (dk_at dksX0_copy_5 16 rfl rfl)
theorem dX0_copy_135 : decode cX0_copy 135 = .ok (.astore 10, 2) := dk_58 10 (dk_at dksX0_copy_5 19 rfl rfl)
theorem dX0_copy_137 : decode cX0_copy 137 = .ok (.new 21, 3) := dk_187 0 21 (dk_at dksX0_copy_5 21 rfl rfl)
theorem dX0_copy_140 : decode cX0_copy 140 = .ok (.dup, 1) := dk_89 (dk_at dksX0_copy_6 0 rfl rfl)
theorem dX0_copy_141 : decode cX0_copy 141 = .ok (.bipush (-5), 2) := dk_16 251 (dk_at dksX0_copy_6 1 rfl rfl)
theorem dX0_copy_143 : decode cX0_copy 143 = .ok (.invokespecial 23, 3) := dk_183 0 23 (dk_at dksX0_copy_6 3 rfl rfl)
theorem dX0_copy_146 : decode cX0_copy 146 = .ok (.athrow, 1) := dk_191 (dk_at dksX0_copy_6 6 rfl rfl)
theorem dX0_copy_147 : decode cX0_copy 147 = .ok (.iconst 1, 1) := dk_4 (dk_at dksX0_copy_6 7 rfl rfl)
theorem dX0_copy_148 : decode cX0_copy 148 = .ok (.ireturn, 1) := dk_172 (dk_at dksX0_copy_6 8 rfl rfl)
theorem dX0_copy_149 : decode cX0_copy 149 = .ok (.astore 6, 2) := dk_58 6 (dk_at dksX0_copy_6 9 rfl rfl)
theorem dX0_copy_151 : decode cX0_copy 151 = .ok (.aload_n 0, 1) := dk_42 (dk_at dksX0_copy_6 11 rfl rfl)
theorem dX0_copy_152 : decode cX0_copy 152 = .ok (.aload 6, 2) := dk_25 6 (dk_at dksX0_copy_6 12 rfl rfl)
theorem dX0_copy_154 : decode cX0_copy 154 = .ok (.invokevirtual 230, 3) := dk_182 0 230 (dk_at dksX0_copy_6 14 rfl rfl)
theorem dX0_copy_157 : decode cX0_copy 157 = .ok (.ireturn, 1) := dk_172 (dk_at dksX0_copy_6 17 rfl rfl)
abbrev cX0_element : ByteArray := prog_1_method_17_code
def yX0_element : MethodName := ⟨RX0, "element", "(II)J"⟩
def dkwX0_element_0 : List UInt8 := [42, 27, 182, 0, 209, 182, 0, 234, 28, 182, 0, 249, 173, 78, 9, 173, 78, 9, 173]
abbrev dktX0_element_0 : List UInt8 := dkwX0_element_0 ++ []
theorem dksX0_element_0 : cX0_element.data.toList.drop 0 = dktX0_element_0 := by decide +kernel
theorem dX0_element_0 : decode cX0_element 0 = .ok (.aload_n 0, 1) := dk_42 (dk_at dksX0_element_0 0 rfl rfl)
theorem dX0_element_1 : decode cX0_element 1 = .ok (.iload_n 1, 1) := dk_27 (dk_at dksX0_element_0 1 rfl rfl)
theorem dX0_element_2 : decode cX0_element 2 = .ok (.invokevirtual 209, 3) := dk_182 0 209 (dk_at dksX0_element_0 2 rfl rfl)
theorem dX0_element_5 : decode cX0_element 5 = .ok (.invokevirtual 234, 3) := dk_182 0 234 (dk_at dksX0_element_0 5 rfl rfl)
theorem dX0_element_8 : decode cX0_element 8 = .ok (.iload_n 2, 1) := dk_28 (dk_at dksX0_element_0 8 rfl rfl)
theorem dX0_element_9 : decode cX0_element 9 = .ok (.invokevirtual 249, 3) := dk_182 0 249 (dk_at dksX0_element_0 9 rfl rfl)
theorem dX0_element_12 : decode cX0_element 12 = .ok (.lreturn, 1) := dk_173 (dk_at dksX0_element_0 12 rfl rfl)
theorem dX0_element_13 : decode cX0_element 13 = .ok (.astore_n 3, 1) := dk_78 (dk_at dksX0_element_0 13 rfl rfl)
theorem dX0_element_14 : decode cX0_element 14 = .ok (.lconst 0, 1) := dk_9 (dk_at dksX0_element_0 14 rfl rfl)
theorem dX0_element_15 : decode cX0_element 15 = .ok (.lreturn, 1) := dk_173 (dk_at dksX0_element_0 15 rfl rfl)
theorem dX0_element_16 : decode cX0_element 16 = .ok (.astore_n 3, 1) := dk_78 (dk_at dksX0_element_0 16 rfl rfl)
theorem dX0_element_17 : decode cX0_element 17 = .ok (.lconst 0, 1) := dk_9 (dk_at dksX0_element_0 17 rfl rfl)
theorem dX0_element_18 : decode cX0_element 18 = .ok (.lreturn, 1) := dk_173 (dk_at dksX0_element_0 18 rfl rfl)
abbrev cX0_show : ByteArray := prog_1_method_22_code
def yX0_show : MethodName := ⟨RX0, "show", "(II)I"⟩
def dkwX0_show_1 : List UInt8 := [42, 180, 0, 167, 180, 1, 5, 28, 50, 181, 0, 227, 4, 172, 78, 42, 45, 182, 0, 230, 172]
abbrev dktX0_show_1 : List UInt8 := dkwX0_show_1 ++ []
def dkwX0_show_0 : List UInt8 := [42, 27, 182, 0, 209, 78, 28, 2, 160, 0, 10, 45, 1, 181, 0, 227, 3, 172, 42, 28, 182, 1, 9, 45]
abbrev dktX0_show_0 : List UInt8 := dkwX0_show_0 ++ dktX0_show_1
theorem dksX0_show_0 : cX0_show.data.toList.drop 0 = dktX0_show_0 := by decide +kernel
theorem dksX0_show_1 : cX0_show.data.toList.drop 24 = dktX0_show_1 := dk_seg dksX0_show_0 24 rfl rfl
theorem dX0_show_0 : decode cX0_show 0 = .ok (.aload_n 0, 1) := dk_42 (dk_at dksX0_show_0 0 rfl rfl)
theorem dX0_show_1 : decode cX0_show 1 = .ok (.iload_n 1, 1) := dk_27 (dk_at dksX0_show_0 1 rfl rfl)
theorem dX0_show_2 : decode cX0_show 2 = .ok (.invokevirtual 209, 3) := dk_182 0 209 (dk_at dksX0_show_0 2 rfl rfl)
theorem dX0_show_5 : decode cX0_show 5 = .ok (.astore_n 3, 1) := dk_78 (dk_at dksX0_show_0 5 rfl rfl)
theorem dX0_show_6 : decode cX0_show 6 = .ok (.iload_n 2, 1) := dk_28 (dk_at dksX0_show_0 6 rfl rfl)
theorem dX0_show_7 : decode cX0_show 7 = .ok (.iconst (-1), 1) := dk_2 (dk_at dksX0_show_0 7 rfl rfl)
theorem dX0_show_8 : decode cX0_show 8 = .ok (.if_icmp .ne 10, 3) := dk_160 0 10 (dk_at dksX0_show_0 8 rfl rfl)
theorem dX0_show_11 : decode cX0_show 11 = .ok (.aload_n 3, 1) := dk_45 (dk_at dksX0_show_0 11 rfl rfl)
theorem dX0_show_12 : decode cX0_show 12 = .ok (.aconst_null, 1) := dk_1 (dk_at dksX0_show_0 12 rfl rfl)
theorem dX0_show_13 : decode cX0_show 13 = .ok (.putfield 227, 3) := dk_181 0 227 (dk_at dksX0_show_0 13 rfl rfl)
theorem dX0_show_16 : decode cX0_show 16 = .ok (.iconst 0, 1) := dk_3 (dk_at dksX0_show_0 16 rfl rfl)
theorem dX0_show_17 : decode cX0_show 17 = .ok (.ireturn, 1) := dk_172 (dk_at dksX0_show_0 17 rfl rfl)
theorem dX0_show_18 : decode cX0_show 18 = .ok (.aload_n 0, 1) := dk_42 (dk_at dksX0_show_0 18 rfl rfl)
theorem dX0_show_19 : decode cX0_show 19 = .ok (.iload_n 2, 1) := dk_28 (dk_at dksX0_show_0 19 rfl rfl)
theorem dX0_show_20 : decode cX0_show 20 = .ok (.invokevirtual 265, 3) := dk_182 1 9 (dk_at dksX0_show_0 20 rfl rfl)
theorem dX0_show_23 : decode cX0_show 23 = .ok (.aload_n 3, 1) := dk_45 (dk_at dksX0_show_0 23 rfl rfl)
theorem dX0_show_24 : decode cX0_show 24 = .ok (.aload_n 0, 1) := dk_42 (dk_at dksX0_show_1 0 rfl rfl)
theorem dX0_show_25 : decode cX0_show 25 = .ok (.getfield 167, 3) := dk_180 0 167 (dk_at dksX0_show_1 1 rfl rfl)
theorem dX0_show_28 : decode cX0_show 28 = .ok (.getfield 261, 3) := dk_180 1 5 (dk_at dksX0_show_1 4 rfl rfl)
theorem dX0_show_31 : decode cX0_show 31 = .ok (.iload_n 2, 1) := dk_28 (dk_at dksX0_show_1 7 rfl rfl)
theorem dX0_show_32 : decode cX0_show 32 = .ok (.aaload, 1) := dk_50 (dk_at dksX0_show_1 8 rfl rfl)
theorem dX0_show_33 : decode cX0_show 33 = .ok (.putfield 227, 3) := dk_181 0 227 (dk_at dksX0_show_1 9 rfl rfl)
theorem dX0_show_36 : decode cX0_show 36 = .ok (.iconst 1, 1) := dk_4 (dk_at dksX0_show_1 12 rfl rfl)
theorem dX0_show_37 : decode cX0_show 37 = .ok (.ireturn, 1) := dk_172 (dk_at dksX0_show_1 13 rfl rfl)
theorem dX0_show_38 : decode cX0_show 38 = .ok (.astore_n 3, 1) := dk_78 (dk_at dksX0_show_1 14 rfl rfl)
theorem dX0_show_39 : decode cX0_show 39 = .ok (.aload_n 0, 1) := dk_42 (dk_at dksX0_show_1 15 rfl rfl)
theorem dX0_show_40 : decode cX0_show 40 = .ok (.aload_n 3, 1) := dk_45 (dk_at dksX0_show_1 16 rfl rfl)
theorem dX0_show_41 : decode cX0_show 41 = .ok (.invokevirtual 230, 3) := dk_182 0 230 (dk_at dksX0_show_1 17 rfl rfl)
theorem dX0_show_44 : decode cX0_show 44 = .ok (.ireturn, 1) := dk_172 (dk_at dksX0_show_1 20 rfl rfl)
abbrev cX0_mustPlug : ByteArray := prog_1_method_18_code
def yX0_mustPlug : MethodName := ⟨RX0, "mustPlug", "(I)V"⟩
def dkwX0_mustPlug_0 : List UInt8 := [42, 180, 0, 167, 27, 182, 0, 253, 2, 184, 0, 213, 177]
abbrev dktX0_mustPlug_0 : List UInt8 := dkwX0_mustPlug_0 ++ []
theorem dksX0_mustPlug_0 : cX0_mustPlug.data.toList.drop 0 = dktX0_mustPlug_0 := by decide +kernel
theorem dX0_mustPlug_0 : decode cX0_mustPlug 0 = .ok (.aload_n 0, 1) := dk_42 (dk_at dksX0_mustPlug_0 0 rfl rfl)
theorem dX0_mustPlug_1 : decode cX0_mustPlug 1 = .ok (.getfield 167, 3) := dk_180 0 167 (dk_at dksX0_mustPlug_0 1 rfl rfl)
theorem dX0_mustPlug_4 : decode cX0_mustPlug 4 = .ok (.iload_n 1, 1) := dk_27 (dk_at dksX0_mustPlug_0 4 rfl rfl)
theorem dX0_mustPlug_5 : decode cX0_mustPlug 5 = .ok (.invokevirtual 253, 3) := dk_182 0 253 (dk_at dksX0_mustPlug_0 5 rfl rfl)
theorem dX0_mustPlug_8 : decode cX0_mustPlug 8 = .ok (.iconst (-1), 1) := dk_2 (dk_at dksX0_mustPlug_0 8 rfl rfl)
theorem dX0_mustPlug_9 : decode cX0_mustPlug 9 = .ok (.invokestatic 213, 3) := dk_184 0 213 (dk_at dksX0_mustPlug_0 9 rfl rfl)
theorem dX0_mustPlug_12 : decode cX0_mustPlug 12 = .ok (.return_, 1) := dk_177 (dk_at dksX0_mustPlug_0 12 rfl rfl)
abbrev cX0_holds : ByteArray := prog_1_method_23_code
def yX0_holds : MethodName := ⟨RX0, "holds", "(I)I"⟩
def dkwX0_holds_2 : List UInt8 := [167, 0, 13, 16, 100, 44, 192, 0, 2, 182, 0, 244, 96, 172]
abbrev dktX0_holds_2 : List UInt8 := dkwX0_holds_2 ++ []
def dkwX0_holds_1 : List UInt8 := [42, 180, 0, 136, 27, 50, 180, 0, 227, 77, 44, 193, 0, 41, 153, 0, 13, 44, 192, 0, 41, 180, 1, 2]
abbrev dktX0_holds_1 : List UInt8 := dkwX0_holds_1 ++ dktX0_holds_2
def dkwX0_holds_0 : List UInt8 := [27, 155, 0, 21, 27, 16, 8, 162, 0, 15, 42, 180, 0, 136, 27, 50, 180, 0, 227, 199, 0, 5, 2, 172]
abbrev dktX0_holds_0 : List UInt8 := dkwX0_holds_0 ++ dktX0_holds_1
theorem dksX0_holds_0 : cX0_holds.data.toList.drop 0 = dktX0_holds_0 := by decide +kernel
theorem dksX0_holds_1 : cX0_holds.data.toList.drop 24 = dktX0_holds_1 := dk_seg dksX0_holds_0 24 rfl rfl
theorem dksX0_holds_2 : cX0_holds.data.toList.drop 48 = dktX0_holds_2 := dk_seg dksX0_holds_1 24 rfl rfl
theorem dX0_holds_0 : decode cX0_holds 0 = .ok (.iload_n 1, 1) := dk_27 (dk_at dksX0_holds_0 0 rfl rfl)
theorem dX0_holds_1 : decode cX0_holds 1 = .ok (.ifCond .lt 21, 3) := dk_155 0 21 (dk_at dksX0_holds_0 1 rfl rfl)
theorem dX0_holds_4 : decode cX0_holds 4 = .ok (.iload_n 1, 1) := dk_27 (dk_at dksX0_holds_0 4 rfl rfl)
theorem dX0_holds_5 : decode cX0_holds 5 = .ok (.bipush 8, 2) := dk_16 8 (dk_at dksX0_holds_0 5 rfl rfl)
theorem dX0_holds_7 : decode cX0_holds 7 = .ok (.if_icmp .ge 15, 3) := dk_162 0 15 (dk_at dksX0_holds_0 7 rfl rfl)
theorem dX0_holds_10 : decode cX0_holds 10 = .ok (.aload_n 0, 1) := dk_42 (dk_at dksX0_holds_0 10 rfl rfl)
theorem dX0_holds_11 : decode cX0_holds 11 = .ok (.getfield 136, 3) := dk_180 0 136 (dk_at dksX0_holds_0 11 rfl rfl)
theorem dX0_holds_14 : decode cX0_holds 14 = .ok (.iload_n 1, 1) := dk_27 (dk_at dksX0_holds_0 14 rfl rfl)
theorem dX0_holds_15 : decode cX0_holds 15 = .ok (.aaload, 1) := dk_50 (dk_at dksX0_holds_0 15 rfl rfl)
theorem dX0_holds_16 : decode cX0_holds 16 = .ok (.getfield 227, 3) := dk_180 0 227 (dk_at dksX0_holds_0 16 rfl rfl)
theorem dX0_holds_19 : decode cX0_holds 19 = .ok (.ifnonnull 5, 3) := dk_199 0 5 (dk_at dksX0_holds_0 19 rfl rfl)
theorem dX0_holds_22 : decode cX0_holds 22 = .ok (.iconst (-1), 1) := dk_2 (dk_at dksX0_holds_0 22 rfl rfl)
theorem dX0_holds_23 : decode cX0_holds 23 = .ok (.ireturn, 1) := dk_172 (dk_at dksX0_holds_0 23 rfl rfl)
theorem dX0_holds_24 : decode cX0_holds 24 = .ok (.aload_n 0, 1) := dk_42 (dk_at dksX0_holds_1 0 rfl rfl)
theorem dX0_holds_25 : decode cX0_holds 25 = .ok (.getfield 136, 3) := dk_180 0 136 (dk_at dksX0_holds_1 1 rfl rfl)
theorem dX0_holds_28 : decode cX0_holds 28 = .ok (.iload_n 1, 1) := dk_27 (dk_at dksX0_holds_1 4 rfl rfl)
theorem dX0_holds_29 : decode cX0_holds 29 = .ok (.aaload, 1) := dk_50 (dk_at dksX0_holds_1 5 rfl rfl)
theorem dX0_holds_30 : decode cX0_holds 30 = .ok (.getfield 227, 3) := dk_180 0 227 (dk_at dksX0_holds_1 6 rfl rfl)
theorem dX0_holds_33 : decode cX0_holds 33 = .ok (.astore_n 2, 1) := dk_77 (dk_at dksX0_holds_1 9 rfl rfl)
theorem dX0_holds_34 : decode cX0_holds 34 = .ok (.aload_n 2, 1) := dk_44 (dk_at dksX0_holds_1 10 rfl rfl)
theorem dX0_holds_35 : decode cX0_holds 35 = .ok (.instanceof 41, 3) := dk_193 0 41 (dk_at dksX0_holds_1 11 rfl rfl)
theorem dX0_holds_38 : decode cX0_holds 38 = .ok (.ifCond .eq 13, 3) := dk_153 0 13 (dk_at dksX0_holds_1 14 rfl rfl)
theorem dX0_holds_41 : decode cX0_holds 41 = .ok (.aload_n 2, 1) := dk_44 (dk_at dksX0_holds_1 17 rfl rfl)
theorem dX0_holds_42 : decode cX0_holds 42 = .ok (.checkcast 41, 3) := dk_192 0 41 (dk_at dksX0_holds_1 18 rfl rfl)
theorem dX0_holds_45 : decode cX0_holds 45 = .ok (.getfield 258, 3) := dk_180 1 2 (dk_at dksX0_holds_1 21 rfl rfl)
theorem dX0_holds_48 : decode cX0_holds 48 = .ok (.goto 13, 3) := dk_167 0 13 (dk_at dksX0_holds_2 0 rfl rfl)
theorem dX0_holds_51 : decode cX0_holds 51 = .ok (.bipush 100, 2) := dk_16 100 (dk_at dksX0_holds_2 3 rfl rfl)
theorem dX0_holds_53 : decode cX0_holds 53 = .ok (.aload_n 2, 1) := dk_44 (dk_at dksX0_holds_2 5 rfl rfl)
theorem dX0_holds_54 : decode cX0_holds 54 = .ok (.checkcast 2, 3) := dk_192 0 2 (dk_at dksX0_holds_2 6 rfl rfl)
theorem dX0_holds_57 : decode cX0_holds 57 = .ok (.invokevirtual 244, 3) := dk_182 0 244 (dk_at dksX0_holds_2 9 rfl rfl)
theorem dX0_holds_60 : decode cX0_holds 60 = .ok (.iadd, 1) := dk_96 (dk_at dksX0_holds_2 12 rfl rfl)
theorem dX0_holds_61 : decode cX0_holds 61 = .ok (.ireturn, 1) := dk_172 (dk_at dksX0_holds_2 13 rfl rfl)
abbrev cX0_says : ByteArray := prog_1_method_24_code
def yX0_says : MethodName := ⟨RX0, "says", "(II)I"⟩
def dkwX0_says_1 : List UInt8 := [172, 78, 42, 45, 182, 0, 230, 172]
abbrev dktX0_says_1 : List UInt8 := dkwX0_says_1 ++ []
def dkwX0_says_0 : List UInt8 := [42, 27, 182, 0, 209, 78, 28, 133, 9, 20, 1, 12, 184, 0, 219, 2, 184, 0, 213, 45, 28, 182, 1, 14]
abbrev dktX0_says_0 : List UInt8 := dkwX0_says_0 ++ dktX0_says_1
theorem dksX0_says_0 : cX0_says.data.toList.drop 0 = dktX0_says_0 := by decide +kernel
theorem dksX0_says_1 : cX0_says.data.toList.drop 24 = dktX0_says_1 := dk_seg dksX0_says_0 24 rfl rfl
theorem dX0_says_0 : decode cX0_says 0 = .ok (.aload_n 0, 1) := dk_42 (dk_at dksX0_says_0 0 rfl rfl)
theorem dX0_says_1 : decode cX0_says 1 = .ok (.iload_n 1, 1) := dk_27 (dk_at dksX0_says_0 1 rfl rfl)
theorem dX0_says_2 : decode cX0_says 2 = .ok (.invokevirtual 209, 3) := dk_182 0 209 (dk_at dksX0_says_0 2 rfl rfl)
theorem dX0_says_5 : decode cX0_says 5 = .ok (.astore_n 3, 1) := dk_78 (dk_at dksX0_says_0 5 rfl rfl)
theorem dX0_says_6 : decode cX0_says 6 = .ok (.iload_n 2, 1) := dk_28 (dk_at dksX0_says_0 6 rfl rfl)
theorem dX0_says_7 : decode cX0_says 7 = .ok (.i2l, 1) := dk_133 (dk_at dksX0_says_0 7 rfl rfl)
theorem dX0_says_8 : decode cX0_says 8 = .ok (.lconst 0, 1) := dk_9 (dk_at dksX0_says_0 8 rfl rfl)
theorem dX0_says_9 : decode cX0_says 9 = .ok (.ldc2_w 268, 3) := dk_20 1 12 (dk_at dksX0_says_0 9 rfl rfl)
theorem dX0_says_12 : decode cX0_says 12 = .ok (.invokestatic 219, 3) := dk_184 0 219 (dk_at dksX0_says_0 12 rfl rfl)
theorem dX0_says_15 : decode cX0_says 15 = .ok (.iconst (-1), 1) := dk_2 (dk_at dksX0_says_0 15 rfl rfl)
theorem dX0_says_16 : decode cX0_says 16 = .ok (.invokestatic 213, 3) := dk_184 0 213 (dk_at dksX0_says_0 16 rfl rfl)
theorem dX0_says_19 : decode cX0_says 19 = .ok (.aload_n 3, 1) := dk_45 (dk_at dksX0_says_0 19 rfl rfl)
theorem dX0_says_20 : decode cX0_says 20 = .ok (.iload_n 2, 1) := dk_28 (dk_at dksX0_says_0 20 rfl rfl)
theorem dX0_says_21 : decode cX0_says 21 = .ok (.invokevirtual 270, 3) := dk_182 1 14 (dk_at dksX0_says_0 21 rfl rfl)
theorem dX0_says_24 : decode cX0_says 24 = .ok (.ireturn, 1) := dk_172 (dk_at dksX0_says_1 0 rfl rfl)
theorem dX0_says_25 : decode cX0_says 25 = .ok (.astore_n 3, 1) := dk_78 (dk_at dksX0_says_1 1 rfl rfl)
theorem dX0_says_26 : decode cX0_says 26 = .ok (.aload_n 0, 1) := dk_42 (dk_at dksX0_says_1 2 rfl rfl)
theorem dX0_says_27 : decode cX0_says 27 = .ok (.aload_n 3, 1) := dk_45 (dk_at dksX0_says_1 3 rfl rfl)
theorem dX0_says_28 : decode cX0_says 28 = .ok (.invokevirtual 230, 3) := dk_182 0 230 (dk_at dksX0_says_1 4 rfl rfl)
theorem dX0_says_31 : decode cX0_says 31 = .ok (.ireturn, 1) := dk_172 (dk_at dksX0_says_1 7 rfl rfl)
abbrev cX0_plug : ByteArray := prog_1_method_28_code
def yX0_plug : MethodName := ⟨RX0, "plug", "(IIIIII)I"⟩
def dkwX0_plug_6 : List UInt8 := [21, 5, 182, 1, 59, 172, 58, 7, 42, 25, 7, 182, 0, 230, 172]
abbrev dktX0_plug_6 : List UInt8 := dkwX0_plug_6 ++ []
def dkwX0_plug_5 : List UInt8 := [162, 0, 7, 4, 167, 0, 4, 3, 16, 249, 184, 0, 213, 42, 180, 0, 167, 27, 25, 7, 28, 29, 21, 4]
abbrev dktX0_plug_5 : List UInt8 := dkwX0_plug_5 ++ dktX0_plug_6
def dkwX0_plug_4 : List UInt8 := [154, 0, 7, 4, 167, 0, 4, 3, 16, 250, 184, 0, 213, 42, 180, 0, 167, 180, 0, 60, 16, 12]
abbrev dktX0_plug_4 : List UInt8 := dkwX0_plug_4 ++ dktX0_plug_5
def dkwX0_plug_3 : List UInt8 := [58, 7, 25, 7, 182, 1, 32, 158, 0, 22, 42, 180, 0, 167, 180, 1, 50, 25, 7, 182, 1, 54]
abbrev dktX0_plug_3 : List UInt8 := dkwX0_plug_3 ++ dktX0_plug_4
def dkwX0_plug_2 : List UInt8 := [20, 1, 41, 184, 0, 219, 153, 0, 7, 4, 167, 0, 4, 3, 16, 250, 184, 0, 213, 21, 6, 184, 1, 46]
abbrev dktX0_plug_2 : List UInt8 := dkwX0_plug_2 ++ dktX0_plug_3
def dkwX0_plug_1 : List UInt8 := [153, 0, 35, 29, 184, 1, 43, 153, 0, 28, 21, 4, 184, 1, 43, 153, 0, 20, 21, 5, 133, 9]
abbrev dktX0_plug_1 : List UInt8 := dkwX0_plug_1 ++ dktX0_plug_2
def dkwX0_plug_0 : List UInt8 := [27, 133, 9, 20, 1, 12, 184, 0, 219, 2, 184, 0, 213, 28, 133, 9, 20, 1, 41, 184, 0, 219]
abbrev dktX0_plug_0 : List UInt8 := dkwX0_plug_0 ++ dktX0_plug_1
theorem dksX0_plug_0 : cX0_plug.data.toList.drop 0 = dktX0_plug_0 := by decide +kernel
theorem dksX0_plug_1 : cX0_plug.data.toList.drop 22 = dktX0_plug_1 := dk_seg dksX0_plug_0 22 rfl rfl
theorem dksX0_plug_2 : cX0_plug.data.toList.drop 44 = dktX0_plug_2 := dk_seg dksX0_plug_1 22 rfl rfl
theorem dksX0_plug_3 : cX0_plug.data.toList.drop 68 = dktX0_plug_3 := dk_seg dksX0_plug_2 24 rfl rfl
theorem dksX0_plug_4 : cX0_plug.data.toList.drop 90 = dktX0_plug_4 := dk_seg dksX0_plug_3 22 rfl rfl
theorem dksX0_plug_5 : cX0_plug.data.toList.drop 112 = dktX0_plug_5 := dk_seg dksX0_plug_4 22 rfl rfl
theorem dksX0_plug_6 : cX0_plug.data.toList.drop 136 = dktX0_plug_6 := dk_seg dksX0_plug_5 24 rfl rfl
theorem dX0_plug_0 : decode cX0_plug 0 = .ok (.iload_n 1, 1) := dk_27 (dk_at dksX0_plug_0 0 rfl rfl)
theorem dX0_plug_1 : decode cX0_plug 1 = .ok (.i2l, 1) := dk_133 (dk_at dksX0_plug_0 1 rfl rfl)
theorem dX0_plug_2 : decode cX0_plug 2 = .ok (.lconst 0, 1) := dk_9 (dk_at dksX0_plug_0 2 rfl rfl)
theorem dX0_plug_3 : decode cX0_plug 3 = .ok (.ldc2_w 268, 3) := dk_20 1 12 (dk_at dksX0_plug_0 3 rfl rfl)
theorem dX0_plug_6 : decode cX0_plug 6 = .ok (.invokestatic 219, 3) := dk_184 0 219 (dk_at dksX0_plug_0 6 rfl rfl)
theorem dX0_plug_9 : decode cX0_plug 9 = .ok (.iconst (-1), 1) := dk_2 (dk_at dksX0_plug_0 9 rfl rfl)
theorem dX0_plug_10 : decode cX0_plug 10 = .ok (.invokestatic 213, 3) := dk_184 0 213 (dk_at dksX0_plug_0 10 rfl rfl)
theorem dX0_plug_13 : decode cX0_plug 13 = .ok (.iload_n 2, 1) := dk_28 (dk_at dksX0_plug_0 13 rfl rfl)
theorem dX0_plug_14 : decode cX0_plug 14 = .ok (.i2l, 1) := dk_133 (dk_at dksX0_plug_0 14 rfl rfl)
theorem dX0_plug_15 : decode cX0_plug 15 = .ok (.lconst 0, 1) := dk_9 (dk_at dksX0_plug_0 15 rfl rfl)
theorem dX0_plug_16 : decode cX0_plug 16 = .ok (.ldc2_w 297, 3) := dk_20 1 41 (dk_at dksX0_plug_0 16 rfl rfl)
theorem dX0_plug_19 : decode cX0_plug 19 = .ok (.invokestatic 219, 3) := dk_184 0 219 (dk_at dksX0_plug_0 19 rfl rfl)
theorem dX0_plug_22 : decode cX0_plug 22 = .ok (.ifCond .eq 35, 3) := dk_153 0 35 (dk_at dksX0_plug_1 0 rfl rfl)
theorem dX0_plug_25 : decode cX0_plug 25 = .ok (.iload_n 3, 1) := dk_29 (dk_at dksX0_plug_1 3 rfl rfl)
theorem dX0_plug_26 : decode cX0_plug 26 = .ok (.invokestatic 299, 3) := dk_184 1 43 (dk_at dksX0_plug_1 4 rfl rfl)
theorem dX0_plug_29 : decode cX0_plug 29 = .ok (.ifCond .eq 28, 3) := dk_153 0 28 (dk_at dksX0_plug_1 7 rfl rfl)
theorem dX0_plug_32 : decode cX0_plug 32 = .ok (.iload 4, 2) := dk_21 4 (dk_at dksX0_plug_1 10 rfl rfl)
theorem dX0_plug_34 : decode cX0_plug 34 = .ok (.invokestatic 299, 3) := dk_184 1 43 (dk_at dksX0_plug_1 12 rfl rfl)
theorem dX0_plug_37 : decode cX0_plug 37 = .ok (.ifCond .eq 20, 3) := dk_153 0 20 (dk_at dksX0_plug_1 15 rfl rfl)
theorem dX0_plug_40 : decode cX0_plug 40 = .ok (.iload 5, 2) := dk_21 5 (dk_at dksX0_plug_1 18 rfl rfl)
theorem dX0_plug_42 : decode cX0_plug 42 = .ok (.i2l, 1) := dk_133 (dk_at dksX0_plug_1 20 rfl rfl)
theorem dX0_plug_43 : decode cX0_plug 43 = .ok (.lconst 0, 1) := dk_9 (dk_at dksX0_plug_1 21 rfl rfl)
theorem dX0_plug_44 : decode cX0_plug 44 = .ok (.ldc2_w 297, 3) := dk_20 1 41 (dk_at dksX0_plug_2 0 rfl rfl)
theorem dX0_plug_47 : decode cX0_plug 47 = .ok (.invokestatic 219, 3) := dk_184 0 219 (dk_at dksX0_plug_2 3 rfl rfl)
theorem dX0_plug_50 : decode cX0_plug 50 = .ok (.ifCond .eq 7, 3) := dk_153 0 7 (dk_at dksX0_plug_2 6 rfl rfl)
theorem dX0_plug_53 : decode cX0_plug 53 = .ok (.iconst 1, 1) := dk_4 (dk_at dksX0_plug_2 9 rfl rfl)
theorem dX0_plug_54 : decode cX0_plug 54 = .ok (.goto 4, 3) := dk_167 0 4 (dk_at dksX0_plug_2 10 rfl rfl)
theorem dX0_plug_57 : decode cX0_plug 57 = .ok (.iconst 0, 1) := dk_3 (dk_at dksX0_plug_2 13 rfl rfl)
theorem dX0_plug_58 : decode cX0_plug 58 = .ok (.bipush (-6), 2) := dk_16 250 (dk_at dksX0_plug_2 14 rfl rfl)
theorem dX0_plug_60 : decode cX0_plug 60 = .ok (.invokestatic 213, 3) := dk_184 0 213 (dk_at dksX0_plug_2 16 rfl rfl)
theorem dX0_plug_63 : decode cX0_plug 63 = .ok (.iload 6, 2) := dk_21 6 (dk_at dksX0_plug_2 19 rfl rfl)
theorem dX0_plug_65 : decode cX0_plug 65 = .ok (.invokestatic 302, 3) := dk_184 1 46 (dk_at dksX0_plug_2 21 rfl rfl)
theorem dX0_plug_68 : decode cX0_plug 68 = .ok (.astore 7, 2) := dk_58 7 (dk_at dksX0_plug_3 0 rfl rfl)
theorem dX0_plug_70 : decode cX0_plug 70 = .ok (.aload 7, 2) := dk_25 7 (dk_at dksX0_plug_3 2 rfl rfl)
theorem dX0_plug_72 : decode cX0_plug 72 = .ok (.invokevirtual 288, 3) := dk_182 1 32 (dk_at dksX0_plug_3 4 rfl rfl)
theorem dX0_plug_75 : decode cX0_plug 75 = .ok (.ifCond .le 22, 3) := dk_158 0 22 (dk_at dksX0_plug_3 7 rfl rfl)
theorem dX0_plug_78 : decode cX0_plug 78 = .ok (.aload_n 0, 1) := dk_42 (dk_at dksX0_plug_3 10 rfl rfl)
theorem dX0_plug_79 : decode cX0_plug 79 = .ok (.getfield 167, 3) := dk_180 0 167 (dk_at dksX0_plug_3 11 rfl rfl)
theorem dX0_plug_82 : decode cX0_plug 82 = .ok (.getfield 306, 3) := dk_180 1 50 (dk_at dksX0_plug_3 14 rfl rfl)
theorem dX0_plug_85 : decode cX0_plug 85 = .ok (.aload 7, 2) := dk_25 7 (dk_at dksX0_plug_3 17 rfl rfl)
theorem dX0_plug_87 : decode cX0_plug 87 = .ok (.invokevirtual 310, 3) := dk_182 1 54 (dk_at dksX0_plug_3 19 rfl rfl)
theorem dX0_plug_90 : decode cX0_plug 90 = .ok (.ifCond .ne 7, 3) := dk_154 0 7 (dk_at dksX0_plug_4 0 rfl rfl)
theorem dX0_plug_93 : decode cX0_plug 93 = .ok (.iconst 1, 1) := dk_4 (dk_at dksX0_plug_4 3 rfl rfl)
theorem dX0_plug_94 : decode cX0_plug 94 = .ok (.goto 4, 3) := dk_167 0 4 (dk_at dksX0_plug_4 4 rfl rfl)
theorem dX0_plug_97 : decode cX0_plug 97 = .ok (.iconst 0, 1) := dk_3 (dk_at dksX0_plug_4 7 rfl rfl)
theorem dX0_plug_98 : decode cX0_plug 98 = .ok (.bipush (-6), 2) := dk_16 250 (dk_at dksX0_plug_4 8 rfl rfl)
theorem dX0_plug_100 : decode cX0_plug 100 = .ok (.invokestatic 213, 3) := dk_184 0 213 (dk_at dksX0_plug_4 10 rfl rfl)
theorem dX0_plug_103 : decode cX0_plug 103 = .ok (.aload_n 0, 1) := dk_42 (dk_at dksX0_plug_4 13 rfl rfl)
theorem dX0_plug_104 : decode cX0_plug 104 = .ok (.getfield 167, 3) := dk_180 0 167 (dk_at dksX0_plug_4 14 rfl rfl)
theorem dX0_plug_107 : decode cX0_plug 107 = .ok (.getfield 60, 3) := dk_180 0 60 (dk_at dksX0_plug_4 17 rfl rfl)
theorem dX0_plug_110 : decode cX0_plug 110 = .ok (.bipush 12, 2) := dk_16 12 (dk_at dksX0_plug_4 20 rfl rfl)
theorem dX0_plug_112 : decode cX0_plug 112 = .ok (.if_icmp .ge 7, 3) := dk_162 0 7 (dk_at dksX0_plug_5 0 rfl rfl)
theorem dX0_plug_115 : decode cX0_plug 115 = .ok (.iconst 1, 1) := dk_4 (dk_at dksX0_plug_5 3 rfl rfl)
theorem dX0_plug_116 : decode cX0_plug 116 = .ok (.goto 4, 3) := dk_167 0 4 (dk_at dksX0_plug_5 4 rfl rfl)
theorem dX0_plug_119 : decode cX0_plug 119 = .ok (.iconst 0, 1) := dk_3 (dk_at dksX0_plug_5 7 rfl rfl)
theorem dX0_plug_120 : decode cX0_plug 120 = .ok (.bipush (-7), 2) := dk_16 249 (dk_at dksX0_plug_5 8 rfl rfl)
theorem dX0_plug_122 : decode cX0_plug 122 = .ok (.invokestatic 213, 3) := dk_184 0 213 (dk_at dksX0_plug_5 10 rfl rfl)
theorem dX0_plug_125 : decode cX0_plug 125 = .ok (.aload_n 0, 1) := dk_42 (dk_at dksX0_plug_5 13 rfl rfl)
theorem dX0_plug_126 : decode cX0_plug 126 = .ok (.getfield 167, 3) := dk_180 0 167 (dk_at dksX0_plug_5 14 rfl rfl)
theorem dX0_plug_129 : decode cX0_plug 129 = .ok (.iload_n 1, 1) := dk_27 (dk_at dksX0_plug_5 17 rfl rfl)
theorem dX0_plug_130 : decode cX0_plug 130 = .ok (.aload 7, 2) := dk_25 7 (dk_at dksX0_plug_5 18 rfl rfl)
theorem dX0_plug_132 : decode cX0_plug 132 = .ok (.iload_n 2, 1) := dk_28 (dk_at dksX0_plug_5 20 rfl rfl)
theorem dX0_plug_133 : decode cX0_plug 133 = .ok (.iload_n 3, 1) := dk_29 (dk_at dksX0_plug_5 21 rfl rfl)
theorem dX0_plug_134 : decode cX0_plug 134 = .ok (.iload 4, 2) := dk_21 4 (dk_at dksX0_plug_5 22 rfl rfl)
theorem dX0_plug_136 : decode cX0_plug 136 = .ok (.iload 5, 2) := dk_21 5 (dk_at dksX0_plug_6 0 rfl rfl)
theorem dX0_plug_138 : decode cX0_plug 138 = .ok (.invokevirtual 315, 3) := dk_182 1 59 (dk_at dksX0_plug_6 2 rfl rfl)
theorem dX0_plug_141 : decode cX0_plug 141 = .ok (.ireturn, 1) := dk_172 (dk_at dksX0_plug_6 5 rfl rfl)
theorem dX0_plug_142 : decode cX0_plug 142 = .ok (.astore 7, 2) := dk_58 7 (dk_at dksX0_plug_6 6 rfl rfl)
theorem dX0_plug_144 : decode cX0_plug 144 = .ok (.aload_n 0, 1) := dk_42 (dk_at dksX0_plug_6 8 rfl rfl)
theorem dX0_plug_145 : decode cX0_plug 145 = .ok (.aload 7, 2) := dk_25 7 (dk_at dksX0_plug_6 9 rfl rfl)
theorem dX0_plug_147 : decode cX0_plug 147 = .ok (.invokevirtual 230, 3) := dk_182 0 230 (dk_at dksX0_plug_6 11 rfl rfl)
theorem dX0_plug_150 : decode cX0_plug 150 = .ok (.ireturn, 1) := dk_172 (dk_at dksX0_plug_6 14 rfl rfl)
abbrev cX0_isSet : ByteArray := prog_1_method_27_code
def yX0_isSet : MethodName := ⟨RX0, "isSet", "(I)Z"⟩
def dkwX0_isSet_0 : List UInt8 := [26, 133, 9, 20, 1, 39, 184, 0, 219, 172]
abbrev dktX0_isSet_0 : List UInt8 := dkwX0_isSet_0 ++ []
theorem dksX0_isSet_0 : cX0_isSet.data.toList.drop 0 = dktX0_isSet_0 := by decide +kernel
theorem dX0_isSet_0 : decode cX0_isSet 0 = .ok (.iload_n 0, 1) := dk_26 (dk_at dksX0_isSet_0 0 rfl rfl)
theorem dX0_isSet_1 : decode cX0_isSet 1 = .ok (.i2l, 1) := dk_133 (dk_at dksX0_isSet_0 1 rfl rfl)
theorem dX0_isSet_2 : decode cX0_isSet 2 = .ok (.lconst 0, 1) := dk_9 (dk_at dksX0_isSet_0 2 rfl rfl)
theorem dX0_isSet_3 : decode cX0_isSet 3 = .ok (.ldc2_w 295, 3) := dk_20 1 39 (dk_at dksX0_isSet_0 3 rfl rfl)
theorem dX0_isSet_6 : decode cX0_isSet 6 = .ok (.invokestatic 219, 3) := dk_184 0 219 (dk_at dksX0_isSet_0 6 rfl rfl)
theorem dX0_isSet_9 : decode cX0_isSet 9 = .ok (.ireturn, 1) := dk_172 (dk_at dksX0_isSet_0 9 rfl rfl)
abbrev cX0_nameOf : ByteArray := prog_1_method_25_code
def yX0_nameOf : MethodName := ⟨RX0, "nameOf", "(I)Ljava/lang/String;"⟩
def dkwX0_nameOf_2 : List UInt8 := [87, 28, 16, 27, 108, 61, 167, 255, 214, 43, 182, 1, 28, 176]
abbrev dktX0_nameOf_2 : List UInt8 := dkwX0_nameOf_2 ++ []
def dkwX0_nameOf_1 : List UInt8 := [182, 1, 21, 7, 160, 0, 7, 19, 1, 22, 176, 43, 3, 16, 96, 28, 16, 27, 112, 96, 146, 182, 1, 24]
abbrev dktX0_nameOf_1 : List UInt8 := dkwX0_nameOf_1 ++ dktX0_nameOf_2
def dkwX0_nameOf_0 : List UInt8 := [187, 1, 18, 89, 183, 1, 20, 76, 26, 61, 28, 158, 0, 44, 28, 16, 27, 112, 153, 0, 11, 43]
abbrev dktX0_nameOf_0 : List UInt8 := dkwX0_nameOf_0 ++ dktX0_nameOf_1
theorem dksX0_nameOf_0 : cX0_nameOf.data.toList.drop 0 = dktX0_nameOf_0 := by decide +kernel
theorem dksX0_nameOf_1 : cX0_nameOf.data.toList.drop 22 = dktX0_nameOf_1 := dk_seg dksX0_nameOf_0 22 rfl rfl
theorem dksX0_nameOf_2 : cX0_nameOf.data.toList.drop 46 = dktX0_nameOf_2 := dk_seg dksX0_nameOf_1 24 rfl rfl
theorem dX0_nameOf_0 : decode cX0_nameOf 0 = .ok (.new 274, 3) := dk_187 1 18 (dk_at dksX0_nameOf_0 0 rfl rfl)
theorem dX0_nameOf_3 : decode cX0_nameOf 3 = .ok (.dup, 1) := dk_89 (dk_at dksX0_nameOf_0 3 rfl rfl)
theorem dX0_nameOf_4 : decode cX0_nameOf 4 = .ok (.invokespecial 276, 3) := dk_183 1 20 (dk_at dksX0_nameOf_0 4 rfl rfl)
theorem dX0_nameOf_7 : decode cX0_nameOf 7 = .ok (.astore_n 1, 1) := dk_76 (dk_at dksX0_nameOf_0 7 rfl rfl)
theorem dX0_nameOf_8 : decode cX0_nameOf 8 = .ok (.iload_n 0, 1) := dk_26 (dk_at dksX0_nameOf_0 8 rfl rfl)
theorem dX0_nameOf_9 : decode cX0_nameOf 9 = .ok (.istore_n 2, 1) := dk_61 (dk_at dksX0_nameOf_0 9 rfl rfl)
theorem dX0_nameOf_10 : decode cX0_nameOf 10 = .ok (.iload_n 2, 1) := dk_28 (dk_at dksX0_nameOf_0 10 rfl rfl)
theorem dX0_nameOf_11 : decode cX0_nameOf 11 = .ok (.ifCond .le 44, 3) := dk_158 0 44 (dk_at dksX0_nameOf_0 11 rfl rfl)
theorem dX0_nameOf_14 : decode cX0_nameOf 14 = .ok (.iload_n 2, 1) := dk_28 (dk_at dksX0_nameOf_0 14 rfl rfl)
theorem dX0_nameOf_15 : decode cX0_nameOf 15 = .ok (.bipush 27, 2) := dk_16 27 (dk_at dksX0_nameOf_0 15 rfl rfl)
theorem dX0_nameOf_17 : decode cX0_nameOf 17 = .ok (.irem, 1) := dk_112 (dk_at dksX0_nameOf_0 17 rfl rfl)
theorem dX0_nameOf_18 : decode cX0_nameOf 18 = .ok (.ifCond .eq 11, 3) := dk_153 0 11 (dk_at dksX0_nameOf_0 18 rfl rfl)
theorem dX0_nameOf_21 : decode cX0_nameOf 21 = .ok (.aload_n 1, 1) := dk_43 (dk_at dksX0_nameOf_0 21 rfl rfl)
theorem dX0_nameOf_22 : decode cX0_nameOf 22 = .ok (.invokevirtual 277, 3) := dk_182 1 21 (dk_at dksX0_nameOf_1 0 rfl rfl)
theorem dX0_nameOf_25 : decode cX0_nameOf 25 = .ok (.iconst 4, 1) := dk_7 (dk_at dksX0_nameOf_1 3 rfl rfl)
theorem dX0_nameOf_26 : decode cX0_nameOf 26 = .ok (.if_icmp .ne 7, 3) := dk_160 0 7 (dk_at dksX0_nameOf_1 4 rfl rfl)
theorem dX0_nameOf_29 : decode cX0_nameOf 29 = .ok (.ldc_w 278, 3) := dk_19 1 22 (dk_at dksX0_nameOf_1 7 rfl rfl)
theorem dX0_nameOf_32 : decode cX0_nameOf 32 = .ok (.areturn, 1) := dk_176 (dk_at dksX0_nameOf_1 10 rfl rfl)
theorem dX0_nameOf_33 : decode cX0_nameOf 33 = .ok (.aload_n 1, 1) := dk_43 (dk_at dksX0_nameOf_1 11 rfl rfl)
theorem dX0_nameOf_34 : decode cX0_nameOf 34 = .ok (.iconst 0, 1) := dk_3 (dk_at dksX0_nameOf_1 12 rfl rfl)
theorem dX0_nameOf_35 : decode cX0_nameOf 35 = .ok (.bipush 96, 2) := dk_16 96 (dk_at dksX0_nameOf_1 13 rfl rfl)
theorem dX0_nameOf_37 : decode cX0_nameOf 37 = .ok (.iload_n 2, 1) := dk_28 (dk_at dksX0_nameOf_1 15 rfl rfl)
theorem dX0_nameOf_38 : decode cX0_nameOf 38 = .ok (.bipush 27, 2) := dk_16 27 (dk_at dksX0_nameOf_1 16 rfl rfl)
theorem dX0_nameOf_40 : decode cX0_nameOf 40 = .ok (.irem, 1) := dk_112 (dk_at dksX0_nameOf_1 18 rfl rfl)
theorem dX0_nameOf_41 : decode cX0_nameOf 41 = .ok (.iadd, 1) := dk_96 (dk_at dksX0_nameOf_1 19 rfl rfl)
theorem dX0_nameOf_42 : decode cX0_nameOf 42 = .ok (.i2c, 1) := dk_146 (dk_at dksX0_nameOf_1 20 rfl rfl)
theorem dX0_nameOf_43 : decode cX0_nameOf 43 = .ok (.invokevirtual 280, 3) := dk_182 1 24 (dk_at dksX0_nameOf_1 21 rfl rfl)
theorem dX0_nameOf_46 : decode cX0_nameOf 46 = .ok (.pop, 1) := dk_87 (dk_at dksX0_nameOf_2 0 rfl rfl)
theorem dX0_nameOf_47 : decode cX0_nameOf 47 = .ok (.iload_n 2, 1) := dk_28 (dk_at dksX0_nameOf_2 1 rfl rfl)
theorem dX0_nameOf_48 : decode cX0_nameOf 48 = .ok (.bipush 27, 2) := dk_16 27 (dk_at dksX0_nameOf_2 2 rfl rfl)
theorem dX0_nameOf_50 : decode cX0_nameOf 50 = .ok (.idiv, 1) := dk_108 (dk_at dksX0_nameOf_2 4 rfl rfl)
theorem dX0_nameOf_51 : decode cX0_nameOf 51 = .ok (.istore_n 2, 1) := dk_61 (dk_at dksX0_nameOf_2 5 rfl rfl)
theorem dX0_nameOf_52 : decode cX0_nameOf 52 = .ok (.goto (-42), 3) := dk_167 255 214 (dk_at dksX0_nameOf_2 6 rfl rfl)
theorem dX0_nameOf_55 : decode cX0_nameOf 55 = .ok (.aload_n 1, 1) := dk_43 (dk_at dksX0_nameOf_2 9 rfl rfl)
theorem dX0_nameOf_56 : decode cX0_nameOf 56 = .ok (.invokevirtual 284, 3) := dk_182 1 28 (dk_at dksX0_nameOf_2 10 rfl rfl)
theorem dX0_nameOf_59 : decode cX0_nameOf 59 = .ok (.areturn, 1) := dk_176 (dk_at dksX0_nameOf_2 13 rfl rfl)
abbrev cX0_ofKind : ByteArray := prog_1_method_5_code
def yX0_ofKind : MethodName := ⟨RX0, "ofKind", "(IILjava/lang/String;III)LPluginChains$Plain;"⟩
def dkwX0_ofKind_5 : List UInt8 := [183, 0, 43, 176]
abbrev dktX0_ofKind_5 : List UInt8 := dkwX0_ofKind_5 ++ []
def dkwX0_ofKind_4 : List UInt8 := [89, 27, 44, 29, 21, 4, 21, 5, 183, 0, 40, 176, 187, 0, 41, 89, 27, 44, 29, 21, 4, 21, 5]
abbrev dktX0_ofKind_4 : List UInt8 := dkwX0_ofKind_4 ++ dktX0_ofKind_5
def dkwX0_ofKind_3 : List UInt8 := [21, 5, 183, 0, 34, 176, 187, 0, 35, 89, 27, 44, 29, 21, 4, 21, 5, 183, 0, 37, 176, 187, 0, 38]
abbrev dktX0_ofKind_3 : List UInt8 := dkwX0_ofKind_3 ++ dktX0_ofKind_4
def dkwX0_ofKind_2 : List UInt8 := [187, 0, 27, 89, 27, 44, 29, 21, 4, 21, 5, 183, 0, 29, 176, 187, 0, 32, 89, 27, 44, 29, 21, 4]
abbrev dktX0_ofKind_2 : List UInt8 := dkwX0_ofKind_2 ++ dktX0_ofKind_3
def dkwX0_ofKind_1 : List UInt8 := [170, 0, 0, 0, 0, 0, 91, 0, 0, 0, 1, 0, 0, 0, 4, 0, 0, 0, 31, 0, 0, 0, 46, 0, 0, 0, 61, 0, 0, 0, 76]
abbrev dktX0_ofKind_1 : List UInt8 := dkwX0_ofKind_1 ++ dktX0_ofKind_2
def dkwX0_ofKind_0 : List UInt8 := [26]
abbrev dktX0_ofKind_0 : List UInt8 := dkwX0_ofKind_0 ++ dktX0_ofKind_1
theorem dksX0_ofKind_0 : cX0_ofKind.data.toList.drop 0 = dktX0_ofKind_0 := by decide +kernel
theorem dksX0_ofKind_1 : cX0_ofKind.data.toList.drop 1 = dktX0_ofKind_1 := dk_seg dksX0_ofKind_0 1 rfl rfl
theorem dksX0_ofKind_2 : cX0_ofKind.data.toList.drop 32 = dktX0_ofKind_2 := dk_seg dksX0_ofKind_1 31 rfl rfl
theorem dksX0_ofKind_3 : cX0_ofKind.data.toList.drop 56 = dktX0_ofKind_3 := dk_seg dksX0_ofKind_2 24 rfl rfl
theorem dksX0_ofKind_4 : cX0_ofKind.data.toList.drop 80 = dktX0_ofKind_4 := dk_seg dksX0_ofKind_3 24 rfl rfl
theorem dksX0_ofKind_5 : cX0_ofKind.data.toList.drop 103 = dktX0_ofKind_5 := dk_seg dksX0_ofKind_4 23 rfl rfl
theorem dX0_ofKind_0 : decode cX0_ofKind 0 = .ok (.iload_n 0, 1) := dk_26 (dk_at dksX0_ofKind_0 0 rfl rfl)
theorem dX0_ofKind_1 : decode cX0_ofKind 1 = .ok (.tableswitch 91 1 4 #[31, 46, 61, 76], 31) := by decide +kernel
theorem dX0_ofKind_32 : decode cX0_ofKind 32 = .ok (.new 27, 3) := dk_187 0 27 (dk_at dksX0_ofKind_2 0 rfl rfl)
theorem dX0_ofKind_35 : decode cX0_ofKind 35 = .ok (.dup, 1) := dk_89 (dk_at dksX0_ofKind_2 3 rfl rfl)
theorem dX0_ofKind_36 : decode cX0_ofKind 36 = .ok (.iload_n 1, 1) := dk_27 (dk_at dksX0_ofKind_2 4 rfl rfl)
theorem dX0_ofKind_37 : decode cX0_ofKind 37 = .ok (.aload_n 2, 1) := dk_44 (dk_at dksX0_ofKind_2 5 rfl rfl)
theorem dX0_ofKind_38 : decode cX0_ofKind 38 = .ok (.iload_n 3, 1) := dk_29 (dk_at dksX0_ofKind_2 6 rfl rfl)
theorem dX0_ofKind_39 : decode cX0_ofKind 39 = .ok (.iload 4, 2) := dk_21 4 (dk_at dksX0_ofKind_2 7 rfl rfl)
theorem dX0_ofKind_41 : decode cX0_ofKind 41 = .ok (.iload 5, 2) := dk_21 5 (dk_at dksX0_ofKind_2 9 rfl rfl)
theorem dX0_ofKind_43 : decode cX0_ofKind 43 = .ok (.invokespecial 29, 3) := dk_183 0 29 (dk_at dksX0_ofKind_2 11 rfl rfl)
theorem dX0_ofKind_46 : decode cX0_ofKind 46 = .ok (.areturn, 1) := dk_176 (dk_at dksX0_ofKind_2 14 rfl rfl)
theorem dX0_ofKind_47 : decode cX0_ofKind 47 = .ok (.new 32, 3) := dk_187 0 32 (dk_at dksX0_ofKind_2 15 rfl rfl)
theorem dX0_ofKind_50 : decode cX0_ofKind 50 = .ok (.dup, 1) := dk_89 (dk_at dksX0_ofKind_2 18 rfl rfl)
theorem dX0_ofKind_51 : decode cX0_ofKind 51 = .ok (.iload_n 1, 1) := dk_27 (dk_at dksX0_ofKind_2 19 rfl rfl)
theorem dX0_ofKind_52 : decode cX0_ofKind 52 = .ok (.aload_n 2, 1) := dk_44 (dk_at dksX0_ofKind_2 20 rfl rfl)
theorem dX0_ofKind_53 : decode cX0_ofKind 53 = .ok (.iload_n 3, 1) := dk_29 (dk_at dksX0_ofKind_2 21 rfl rfl)
theorem dX0_ofKind_54 : decode cX0_ofKind 54 = .ok (.iload 4, 2) := dk_21 4 (dk_at dksX0_ofKind_2 22 rfl rfl)
theorem dX0_ofKind_56 : decode cX0_ofKind 56 = .ok (.iload 5, 2) := dk_21 5 (dk_at dksX0_ofKind_3 0 rfl rfl)
theorem dX0_ofKind_58 : decode cX0_ofKind 58 = .ok (.invokespecial 34, 3) := dk_183 0 34 (dk_at dksX0_ofKind_3 2 rfl rfl)
theorem dX0_ofKind_61 : decode cX0_ofKind 61 = .ok (.areturn, 1) := dk_176 (dk_at dksX0_ofKind_3 5 rfl rfl)
theorem dX0_ofKind_62 : decode cX0_ofKind 62 = .ok (.new 35, 3) := dk_187 0 35 (dk_at dksX0_ofKind_3 6 rfl rfl)
theorem dX0_ofKind_65 : decode cX0_ofKind 65 = .ok (.dup, 1) := dk_89 (dk_at dksX0_ofKind_3 9 rfl rfl)
theorem dX0_ofKind_66 : decode cX0_ofKind 66 = .ok (.iload_n 1, 1) := dk_27 (dk_at dksX0_ofKind_3 10 rfl rfl)
theorem dX0_ofKind_67 : decode cX0_ofKind 67 = .ok (.aload_n 2, 1) := dk_44 (dk_at dksX0_ofKind_3 11 rfl rfl)
theorem dX0_ofKind_68 : decode cX0_ofKind 68 = .ok (.iload_n 3, 1) := dk_29 (dk_at dksX0_ofKind_3 12 rfl rfl)
theorem dX0_ofKind_69 : decode cX0_ofKind 69 = .ok (.iload 4, 2) := dk_21 4 (dk_at dksX0_ofKind_3 13 rfl rfl)
theorem dX0_ofKind_71 : decode cX0_ofKind 71 = .ok (.iload 5, 2) := dk_21 5 (dk_at dksX0_ofKind_3 15 rfl rfl)
theorem dX0_ofKind_73 : decode cX0_ofKind 73 = .ok (.invokespecial 37, 3) := dk_183 0 37 (dk_at dksX0_ofKind_3 17 rfl rfl)
theorem dX0_ofKind_76 : decode cX0_ofKind 76 = .ok (.areturn, 1) := dk_176 (dk_at dksX0_ofKind_3 20 rfl rfl)
theorem dX0_ofKind_77 : decode cX0_ofKind 77 = .ok (.new 38, 3) := dk_187 0 38 (dk_at dksX0_ofKind_3 21 rfl rfl)
theorem dX0_ofKind_80 : decode cX0_ofKind 80 = .ok (.dup, 1) := dk_89 (dk_at dksX0_ofKind_4 0 rfl rfl)
theorem dX0_ofKind_81 : decode cX0_ofKind 81 = .ok (.iload_n 1, 1) := dk_27 (dk_at dksX0_ofKind_4 1 rfl rfl)
theorem dX0_ofKind_82 : decode cX0_ofKind 82 = .ok (.aload_n 2, 1) := dk_44 (dk_at dksX0_ofKind_4 2 rfl rfl)
theorem dX0_ofKind_83 : decode cX0_ofKind 83 = .ok (.iload_n 3, 1) := dk_29 (dk_at dksX0_ofKind_4 3 rfl rfl)
theorem dX0_ofKind_84 : decode cX0_ofKind 84 = .ok (.iload 4, 2) := dk_21 4 (dk_at dksX0_ofKind_4 4 rfl rfl)
theorem dX0_ofKind_86 : decode cX0_ofKind 86 = .ok (.iload 5, 2) := dk_21 5 (dk_at dksX0_ofKind_4 6 rfl rfl)
theorem dX0_ofKind_88 : decode cX0_ofKind 88 = .ok (.invokespecial 40, 3) := dk_183 0 40 (dk_at dksX0_ofKind_4 8 rfl rfl)
theorem dX0_ofKind_91 : decode cX0_ofKind 91 = .ok (.areturn, 1) := dk_176 (dk_at dksX0_ofKind_4 11 rfl rfl)
theorem dX0_ofKind_92 : decode cX0_ofKind 92 = .ok (.new 41, 3) := dk_187 0 41 (dk_at dksX0_ofKind_4 12 rfl rfl)
theorem dX0_ofKind_95 : decode cX0_ofKind 95 = .ok (.dup, 1) := dk_89 (dk_at dksX0_ofKind_4 15 rfl rfl)
theorem dX0_ofKind_96 : decode cX0_ofKind 96 = .ok (.iload_n 1, 1) := dk_27 (dk_at dksX0_ofKind_4 16 rfl rfl)
theorem dX0_ofKind_97 : decode cX0_ofKind 97 = .ok (.aload_n 2, 1) := dk_44 (dk_at dksX0_ofKind_4 17 rfl rfl)
theorem dX0_ofKind_98 : decode cX0_ofKind 98 = .ok (.iload_n 3, 1) := dk_29 (dk_at dksX0_ofKind_4 18 rfl rfl)
theorem dX0_ofKind_99 : decode cX0_ofKind 99 = .ok (.iload 4, 2) := dk_21 4 (dk_at dksX0_ofKind_4 19 rfl rfl)
theorem dX0_ofKind_101 : decode cX0_ofKind 101 = .ok (.iload 5, 2) := dk_21 5 (dk_at dksX0_ofKind_4 21 rfl rfl)
theorem dX0_ofKind_103 : decode cX0_ofKind 103 = .ok (.invokespecial 43, 3) := dk_183 0 43 (dk_at dksX0_ofKind_5 0 rfl rfl)
theorem dX0_ofKind_106 : decode cX0_ofKind 106 = .ok (.areturn, 1) := dk_176 (dk_at dksX0_ofKind_5 3 rfl rfl)
abbrev cX0_read : ByteArray := prog_1_method_29_code
def yX0_read : MethodName := ⟨RX0, "read", "(I)I"⟩
def dkwX0_read_3 : List UInt8 := [183, 0, 23, 191, 77, 42, 44, 182, 0, 230, 172]
abbrev dktX0_read_3 : List UInt8 := dkwX0_read_3 ++ []
def dkwX0_read_2 : List UInt8 := [181, 0, 167, 21, 4, 172, 58, 4, 42, 25, 4, 180, 1, 76, 181, 0, 171, 187, 0, 21, 89, 16, 250]
abbrev dktX0_read_2 : List UInt8 := dkwX0_read_2 ++ dktX0_read_3
def dkwX0_read_1 : List UInt8 := [180, 0, 167, 182, 1, 62, 78, 187, 1, 66, 89, 44, 45, 183, 1, 68, 182, 1, 71, 54, 4, 42, 45]
abbrev dktX0_read_1 : List UInt8 := dkwX0_read_1 ++ dktX0_read_2
def dkwX0_read_0 : List UInt8 := [42, 27, 182, 0, 209, 182, 0, 234, 77, 42, 2, 181, 0, 171, 187, 0, 45, 89, 183, 0, 166, 42]
abbrev dktX0_read_0 : List UInt8 := dkwX0_read_0 ++ dktX0_read_1
theorem dksX0_read_0 : cX0_read.data.toList.drop 0 = dktX0_read_0 := by decide +kernel
theorem dksX0_read_1 : cX0_read.data.toList.drop 22 = dktX0_read_1 := dk_seg dksX0_read_0 22 rfl rfl
theorem dksX0_read_2 : cX0_read.data.toList.drop 45 = dktX0_read_2 := dk_seg dksX0_read_1 23 rfl rfl
theorem dksX0_read_3 : cX0_read.data.toList.drop 68 = dktX0_read_3 := dk_seg dksX0_read_2 23 rfl rfl
theorem dX0_read_0 : decode cX0_read 0 = .ok (.aload_n 0, 1) := dk_42 (dk_at dksX0_read_0 0 rfl rfl)
theorem dX0_read_1 : decode cX0_read 1 = .ok (.iload_n 1, 1) := dk_27 (dk_at dksX0_read_0 1 rfl rfl)
theorem dX0_read_2 : decode cX0_read 2 = .ok (.invokevirtual 209, 3) := dk_182 0 209 (dk_at dksX0_read_0 2 rfl rfl)
theorem dX0_read_5 : decode cX0_read 5 = .ok (.invokevirtual 234, 3) := dk_182 0 234 (dk_at dksX0_read_0 5 rfl rfl)
theorem dX0_read_8 : decode cX0_read 8 = .ok (.astore_n 2, 1) := dk_77 (dk_at dksX0_read_0 8 rfl rfl)
theorem dX0_read_9 : decode cX0_read 9 = .ok (.aload_n 0, 1) := dk_42 (dk_at dksX0_read_0 9 rfl rfl)
theorem dX0_read_10 : decode cX0_read 10 = .ok (.iconst (-1), 1) := dk_2 (dk_at dksX0_read_0 10 rfl rfl)
theorem dX0_read_11 : decode cX0_read 11 = .ok (.putfield 171, 3) := dk_181 0 171 (dk_at dksX0_read_0 11 rfl rfl)
theorem dX0_read_14 : decode cX0_read 14 = .ok (.new 45, 3) := dk_187 0 45 (dk_at dksX0_read_0 14 rfl rfl)
theorem dX0_read_17 : decode cX0_read 17 = .ok (.dup, 1) := dk_89 (dk_at dksX0_read_0 17 rfl rfl)
theorem dX0_read_18 : decode cX0_read 18 = .ok (.invokespecial 166, 3) := dk_183 0 166 (dk_at dksX0_read_0 18 rfl rfl)
theorem dX0_read_21 : decode cX0_read 21 = .ok (.aload_n 0, 1) := dk_42 (dk_at dksX0_read_0 21 rfl rfl)
theorem dX0_read_22 : decode cX0_read 22 = .ok (.getfield 167, 3) := dk_180 0 167 (dk_at dksX0_read_1 0 rfl rfl)
theorem dX0_read_25 : decode cX0_read 25 = .ok (.invokevirtual 318, 3) := dk_182 1 62 (dk_at dksX0_read_1 3 rfl rfl)
theorem dX0_read_28 : decode cX0_read 28 = .ok (.astore_n 3, 1) := dk_78 (dk_at dksX0_read_1 6 rfl rfl)
theorem dX0_read_29 : decode cX0_read 29 = .ok (.new 322, 3) := dk_187 1 66 (dk_at dksX0_read_1 7 rfl rfl)
theorem dX0_read_32 : decode cX0_read 32 = .ok (.dup, 1) := dk_89 (dk_at dksX0_read_1 10 rfl rfl)
theorem dX0_read_33 : decode cX0_read 33 = .ok (.aload_n 2, 1) := dk_44 (dk_at dksX0_read_1 11 rfl rfl)
theorem dX0_read_34 : decode cX0_read 34 = .ok (.aload_n 3, 1) := dk_45 (dk_at dksX0_read_1 12 rfl rfl)
theorem dX0_read_35 : decode cX0_read 35 = .ok (.invokespecial 324, 3) := dk_183 1 68 (dk_at dksX0_read_1 13 rfl rfl)
theorem dX0_read_38 : decode cX0_read 38 = .ok (.invokevirtual 327, 3) := dk_182 1 71 (dk_at dksX0_read_1 16 rfl rfl)
theorem dX0_read_41 : decode cX0_read 41 = .ok (.istore 4, 2) := dk_54 4 (dk_at dksX0_read_1 19 rfl rfl)
theorem dX0_read_43 : decode cX0_read 43 = .ok (.aload_n 0, 1) := dk_42 (dk_at dksX0_read_1 21 rfl rfl)
theorem dX0_read_44 : decode cX0_read 44 = .ok (.aload_n 3, 1) := dk_45 (dk_at dksX0_read_1 22 rfl rfl)
theorem dX0_read_45 : decode cX0_read 45 = .ok (.putfield 167, 3) := dk_181 0 167 (dk_at dksX0_read_2 0 rfl rfl)
theorem dX0_read_48 : decode cX0_read 48 = .ok (.iload 4, 2) := dk_21 4 (dk_at dksX0_read_2 3 rfl rfl)
theorem dX0_read_50 : decode cX0_read 50 = .ok (.ireturn, 1) := dk_172 (dk_at dksX0_read_2 5 rfl rfl)
theorem dX0_read_51 : decode cX0_read 51 = .ok (.astore 4, 2) := dk_58 4 (dk_at dksX0_read_2 6 rfl rfl)
theorem dX0_read_53 : decode cX0_read 53 = .ok (.aload_n 0, 1) := dk_42 (dk_at dksX0_read_2 8 rfl rfl)
theorem dX0_read_54 : decode cX0_read 54 = .ok (.aload 4, 2) := dk_25 4 (dk_at dksX0_read_2 9 rfl rfl)
theorem dX0_read_56 : decode cX0_read 56 = .ok (.getfield 332, 3) := dk_180 1 76 (dk_at dksX0_read_2 11 rfl rfl)
theorem dX0_read_59 : decode cX0_read 59 = .ok (.putfield 171, 3) := dk_181 0 171 (dk_at dksX0_read_2 14 rfl rfl)
theorem dX0_read_62 : decode cX0_read 62 = .ok (.new 21, 3) := dk_187 0 21 (dk_at dksX0_read_2 17 rfl rfl)
theorem dX0_read_65 : decode cX0_read 65 = .ok (.dup, 1) := dk_89 (dk_at dksX0_read_2 20 rfl rfl)
theorem dX0_read_66 : decode cX0_read 66 = .ok (.bipush (-6), 2) := dk_16 250 (dk_at dksX0_read_2 21 rfl rfl)
theorem dX0_read_68 : decode cX0_read 68 = .ok (.invokespecial 23, 3) := dk_183 0 23 (dk_at dksX0_read_3 0 rfl rfl)
theorem dX0_read_71 : decode cX0_read 71 = .ok (.athrow, 1) := dk_191 (dk_at dksX0_read_3 3 rfl rfl)
theorem dX0_read_72 : decode cX0_read 72 = .ok (.astore_n 2, 1) := dk_77 (dk_at dksX0_read_3 4 rfl rfl)
theorem dX0_read_73 : decode cX0_read 73 = .ok (.aload_n 0, 1) := dk_42 (dk_at dksX0_read_3 5 rfl rfl)
theorem dX0_read_74 : decode cX0_read 74 = .ok (.aload_n 2, 1) := dk_44 (dk_at dksX0_read_3 6 rfl rfl)
theorem dX0_read_75 : decode cX0_read 75 = .ok (.invokevirtual 230, 3) := dk_182 0 230 (dk_at dksX0_read_3 7 rfl rfl)
theorem dX0_read_78 : decode cX0_read 78 = .ok (.ireturn, 1) := dk_172 (dk_at dksX0_read_3 10 rfl rfl)
abbrev cX0_fault : ByteArray := prog_1_method_30_code
def yX0_fault : MethodName := ⟨RX0, "fault", "()I"⟩
theorem dX0_fault_0 : decode cX0_fault 0 = .ok (.aload_n 0, 1) := by decide +kernel
theorem dX0_fault_1 : decode cX0_fault 1 = .ok (.getfield 171, 3) := by decide +kernel
theorem dX0_fault_4 : decode cX0_fault 4 = .ok (.ireturn, 1) := by decide +kernel
abbrev cX0_plugOf : ByteArray := prog_1_method_31_code
def yX0_plugOf : MethodName := ⟨RX0, "plugOf", "(II)I"⟩
def dkwX0_plugOf_5 : List UInt8 := [180, 1, 103, 184, 1, 107, 172, 42, 182, 1, 79, 172]
abbrev dktX0_plugOf_5 : List UInt8 := dkwX0_plugOf_5 ++ []
def dkwX0_plugOf_4 : List UInt8 := [172, 45, 180, 1, 94, 172, 42, 180, 0, 167, 180, 1, 97, 27, 46, 172, 45, 182, 1, 100, 172, 45]
abbrev dktX0_plugOf_4 : List UInt8 := dkwX0_plugOf_4 ++ dktX0_plugOf_5
def dkwX0_plugOf_3 : List UInt8 := [42, 180, 0, 167, 180, 1, 82, 27, 46, 172, 45, 182, 1, 85, 172, 45, 180, 1, 88, 172, 45, 180, 1, 91]
abbrev dktX0_plugOf_3 : List UInt8 := dkwX0_plugOf_3 ++ dktX0_plugOf_4
def dkwX0_plugOf_2 : List UInt8 := [170, 0, 0, 0, 98, 0, 0, 0, 0, 0, 0, 0, 7, 0, 0, 0, 45, 0, 0, 0, 55, 0, 0, 0, 60, 0, 0, 0, 65, 0, 0, 0, 70, 0, 0, 0, 75, 0, 0, 0, 85, 0, 0, 0, 90]
abbrev dktX0_plugOf_2 : List UInt8 := dkwX0_plugOf_2 ++ dktX0_plugOf_3
def dkwX0_plugOf_1 : List UInt8 := [50, 78, 28]
abbrev dktX0_plugOf_1 : List UInt8 := dkwX0_plugOf_1 ++ dktX0_plugOf_2
def dkwX0_plugOf_0 : List UInt8 := [42, 180, 0, 167, 27, 182, 0, 253, 154, 0, 8, 42, 182, 1, 79, 172, 42, 180, 0, 167, 180, 1, 5, 27]
abbrev dktX0_plugOf_0 : List UInt8 := dkwX0_plugOf_0 ++ dktX0_plugOf_1
theorem dksX0_plugOf_0 : cX0_plugOf.data.toList.drop 0 = dktX0_plugOf_0 := by decide +kernel
theorem dksX0_plugOf_1 : cX0_plugOf.data.toList.drop 24 = dktX0_plugOf_1 := dk_seg dksX0_plugOf_0 24 rfl rfl
theorem dksX0_plugOf_2 : cX0_plugOf.data.toList.drop 27 = dktX0_plugOf_2 := dk_seg dksX0_plugOf_1 3 rfl rfl
theorem dksX0_plugOf_3 : cX0_plugOf.data.toList.drop 72 = dktX0_plugOf_3 := dk_seg dksX0_plugOf_2 45 rfl rfl
theorem dksX0_plugOf_4 : cX0_plugOf.data.toList.drop 96 = dktX0_plugOf_4 := dk_seg dksX0_plugOf_3 24 rfl rfl
theorem dksX0_plugOf_5 : cX0_plugOf.data.toList.drop 118 = dktX0_plugOf_5 := dk_seg dksX0_plugOf_4 22 rfl rfl
theorem dX0_plugOf_0 : decode cX0_plugOf 0 = .ok (.aload_n 0, 1) := dk_42 (dk_at dksX0_plugOf_0 0 rfl rfl)
theorem dX0_plugOf_1 : decode cX0_plugOf 1 = .ok (.getfield 167, 3) := dk_180 0 167 (dk_at dksX0_plugOf_0 1 rfl rfl)
theorem dX0_plugOf_4 : decode cX0_plugOf 4 = .ok (.iload_n 1, 1) := dk_27 (dk_at dksX0_plugOf_0 4 rfl rfl)
theorem dX0_plugOf_5 : decode cX0_plugOf 5 = .ok (.invokevirtual 253, 3) := dk_182 0 253 (dk_at dksX0_plugOf_0 5 rfl rfl)
theorem dX0_plugOf_8 : decode cX0_plugOf 8 = .ok (.ifCond .ne 8, 3) := dk_154 0 8 (dk_at dksX0_plugOf_0 8 rfl rfl)
theorem dX0_plugOf_11 : decode cX0_plugOf 11 = .ok (.aload_n 0, 1) := dk_42 (dk_at dksX0_plugOf_0 11 rfl rfl)
theorem dX0_plugOf_12 : decode cX0_plugOf 12 = .ok (.invokevirtual 335, 3) := dk_182 1 79 (dk_at dksX0_plugOf_0 12 rfl rfl)
theorem dX0_plugOf_15 : decode cX0_plugOf 15 = .ok (.ireturn, 1) := dk_172 (dk_at dksX0_plugOf_0 15 rfl rfl)
theorem dX0_plugOf_16 : decode cX0_plugOf 16 = .ok (.aload_n 0, 1) := dk_42 (dk_at dksX0_plugOf_0 16 rfl rfl)
theorem dX0_plugOf_17 : decode cX0_plugOf 17 = .ok (.getfield 167, 3) := dk_180 0 167 (dk_at dksX0_plugOf_0 17 rfl rfl)
theorem dX0_plugOf_20 : decode cX0_plugOf 20 = .ok (.getfield 261, 3) := dk_180 1 5 (dk_at dksX0_plugOf_0 20 rfl rfl)
theorem dX0_plugOf_23 : decode cX0_plugOf 23 = .ok (.iload_n 1, 1) := dk_27 (dk_at dksX0_plugOf_0 23 rfl rfl)
theorem dX0_plugOf_24 : decode cX0_plugOf 24 = .ok (.aaload, 1) := dk_50 (dk_at dksX0_plugOf_1 0 rfl rfl)
theorem dX0_plugOf_25 : decode cX0_plugOf 25 = .ok (.astore_n 3, 1) := dk_78 (dk_at dksX0_plugOf_1 1 rfl rfl)
theorem dX0_plugOf_26 : decode cX0_plugOf 26 = .ok (.iload_n 2, 1) := dk_28 (dk_at dksX0_plugOf_1 2 rfl rfl)
theorem dX0_plugOf_27 : decode cX0_plugOf 27 = .ok (.tableswitch 98 0 7 #[45, 55, 60, 65, 70, 75, 85, 90], 45) := by decide +kernel
theorem dX0_plugOf_72 : decode cX0_plugOf 72 = .ok (.aload_n 0, 1) := dk_42 (dk_at dksX0_plugOf_3 0 rfl rfl)
theorem dX0_plugOf_73 : decode cX0_plugOf 73 = .ok (.getfield 167, 3) := dk_180 0 167 (dk_at dksX0_plugOf_3 1 rfl rfl)
theorem dX0_plugOf_76 : decode cX0_plugOf 76 = .ok (.getfield 338, 3) := dk_180 1 82 (dk_at dksX0_plugOf_3 4 rfl rfl)
theorem dX0_plugOf_79 : decode cX0_plugOf 79 = .ok (.iload_n 1, 1) := dk_27 (dk_at dksX0_plugOf_3 7 rfl rfl)
theorem dX0_plugOf_80 : decode cX0_plugOf 80 = .ok (.iaload, 1) := dk_46 (dk_at dksX0_plugOf_3 8 rfl rfl)
theorem dX0_plugOf_81 : decode cX0_plugOf 81 = .ok (.ireturn, 1) := dk_172 (dk_at dksX0_plugOf_3 9 rfl rfl)
theorem dX0_plugOf_82 : decode cX0_plugOf 82 = .ok (.aload_n 3, 1) := dk_45 (dk_at dksX0_plugOf_3 10 rfl rfl)
theorem dX0_plugOf_83 : decode cX0_plugOf 83 = .ok (.invokevirtual 341, 3) := dk_182 1 85 (dk_at dksX0_plugOf_3 11 rfl rfl)
theorem dX0_plugOf_86 : decode cX0_plugOf 86 = .ok (.ireturn, 1) := dk_172 (dk_at dksX0_plugOf_3 14 rfl rfl)
theorem dX0_plugOf_87 : decode cX0_plugOf 87 = .ok (.aload_n 3, 1) := dk_45 (dk_at dksX0_plugOf_3 15 rfl rfl)
theorem dX0_plugOf_88 : decode cX0_plugOf 88 = .ok (.getfield 344, 3) := dk_180 1 88 (dk_at dksX0_plugOf_3 16 rfl rfl)
theorem dX0_plugOf_91 : decode cX0_plugOf 91 = .ok (.ireturn, 1) := dk_172 (dk_at dksX0_plugOf_3 19 rfl rfl)
theorem dX0_plugOf_92 : decode cX0_plugOf 92 = .ok (.aload_n 3, 1) := dk_45 (dk_at dksX0_plugOf_3 20 rfl rfl)
theorem dX0_plugOf_93 : decode cX0_plugOf 93 = .ok (.getfield 347, 3) := dk_180 1 91 (dk_at dksX0_plugOf_3 21 rfl rfl)
theorem dX0_plugOf_96 : decode cX0_plugOf 96 = .ok (.ireturn, 1) := dk_172 (dk_at dksX0_plugOf_4 0 rfl rfl)
theorem dX0_plugOf_97 : decode cX0_plugOf 97 = .ok (.aload_n 3, 1) := dk_45 (dk_at dksX0_plugOf_4 1 rfl rfl)
theorem dX0_plugOf_98 : decode cX0_plugOf 98 = .ok (.getfield 350, 3) := dk_180 1 94 (dk_at dksX0_plugOf_4 2 rfl rfl)
theorem dX0_plugOf_101 : decode cX0_plugOf 101 = .ok (.ireturn, 1) := dk_172 (dk_at dksX0_plugOf_4 5 rfl rfl)
theorem dX0_plugOf_102 : decode cX0_plugOf 102 = .ok (.aload_n 0, 1) := dk_42 (dk_at dksX0_plugOf_4 6 rfl rfl)
theorem dX0_plugOf_103 : decode cX0_plugOf 103 = .ok (.getfield 167, 3) := dk_180 0 167 (dk_at dksX0_plugOf_4 7 rfl rfl)
theorem dX0_plugOf_106 : decode cX0_plugOf 106 = .ok (.getfield 353, 3) := dk_180 1 97 (dk_at dksX0_plugOf_4 10 rfl rfl)
theorem dX0_plugOf_109 : decode cX0_plugOf 109 = .ok (.iload_n 1, 1) := dk_27 (dk_at dksX0_plugOf_4 13 rfl rfl)
theorem dX0_plugOf_110 : decode cX0_plugOf 110 = .ok (.iaload, 1) := dk_46 (dk_at dksX0_plugOf_4 14 rfl rfl)
theorem dX0_plugOf_111 : decode cX0_plugOf 111 = .ok (.ireturn, 1) := dk_172 (dk_at dksX0_plugOf_4 15 rfl rfl)
theorem dX0_plugOf_112 : decode cX0_plugOf 112 = .ok (.aload_n 3, 1) := dk_45 (dk_at dksX0_plugOf_4 16 rfl rfl)
theorem dX0_plugOf_113 : decode cX0_plugOf 113 = .ok (.invokevirtual 356, 3) := dk_182 1 100 (dk_at dksX0_plugOf_4 17 rfl rfl)
theorem dX0_plugOf_116 : decode cX0_plugOf 116 = .ok (.ireturn, 1) := dk_172 (dk_at dksX0_plugOf_4 20 rfl rfl)
theorem dX0_plugOf_117 : decode cX0_plugOf 117 = .ok (.aload_n 3, 1) := dk_45 (dk_at dksX0_plugOf_4 21 rfl rfl)
theorem dX0_plugOf_118 : decode cX0_plugOf 118 = .ok (.getfield 359, 3) := dk_180 1 103 (dk_at dksX0_plugOf_5 0 rfl rfl)
theorem dX0_plugOf_121 : decode cX0_plugOf 121 = .ok (.invokestatic 363, 3) := dk_184 1 107 (dk_at dksX0_plugOf_5 3 rfl rfl)
theorem dX0_plugOf_124 : decode cX0_plugOf 124 = .ok (.ireturn, 1) := dk_172 (dk_at dksX0_plugOf_5 6 rfl rfl)
theorem dX0_plugOf_125 : decode cX0_plugOf 125 = .ok (.aload_n 0, 1) := dk_42 (dk_at dksX0_plugOf_5 7 rfl rfl)
theorem dX0_plugOf_126 : decode cX0_plugOf 126 = .ok (.invokevirtual 335, 3) := dk_182 1 79 (dk_at dksX0_plugOf_5 8 rfl rfl)
theorem dX0_plugOf_129 : decode cX0_plugOf 129 = .ok (.ireturn, 1) := dk_172 (dk_at dksX0_plugOf_5 11 rfl rfl)
abbrev cX0_beyond : ByteArray := prog_1_method_11_code
def yX0_beyond : MethodName := ⟨RX0, "beyond", "()I"⟩
def dkwX0_beyond_0 : List UInt8 := [42, 180, 0, 140, 8, 92, 46, 4, 96, 79, 16, 251, 172]
abbrev dktX0_beyond_0 : List UInt8 := dkwX0_beyond_0 ++ []
theorem dksX0_beyond_0 : cX0_beyond.data.toList.drop 0 = dktX0_beyond_0 := by decide +kernel
theorem dX0_beyond_0 : decode cX0_beyond 0 = .ok (.aload_n 0, 1) := dk_42 (dk_at dksX0_beyond_0 0 rfl rfl)
theorem dX0_beyond_1 : decode cX0_beyond 1 = .ok (.getfield 140, 3) := dk_180 0 140 (dk_at dksX0_beyond_0 1 rfl rfl)
theorem dX0_beyond_4 : decode cX0_beyond 4 = .ok (.iconst 5, 1) := dk_8 (dk_at dksX0_beyond_0 4 rfl rfl)
theorem dX0_beyond_5 : decode cX0_beyond 5 = .ok (.dup2, 1) := dk_92 (dk_at dksX0_beyond_0 5 rfl rfl)
theorem dX0_beyond_6 : decode cX0_beyond 6 = .ok (.iaload, 1) := dk_46 (dk_at dksX0_beyond_0 6 rfl rfl)
theorem dX0_beyond_7 : decode cX0_beyond 7 = .ok (.iconst 1, 1) := dk_4 (dk_at dksX0_beyond_0 7 rfl rfl)
theorem dX0_beyond_8 : decode cX0_beyond 8 = .ok (.iadd, 1) := dk_96 (dk_at dksX0_beyond_0 8 rfl rfl)
theorem dX0_beyond_9 : decode cX0_beyond 9 = .ok (.iastore, 1) := dk_79 (dk_at dksX0_beyond_0 9 rfl rfl)
theorem dX0_beyond_10 : decode cX0_beyond 10 = .ok (.bipush (-5), 2) := dk_16 251 (dk_at dksX0_beyond_0 10 rfl rfl)
theorem dX0_beyond_12 : decode cX0_beyond 12 = .ok (.ireturn, 1) := dk_172 (dk_at dksX0_beyond_0 12 rfl rfl)
abbrev cX0_numberOf : ByteArray := prog_1_method_26_code
def yX0_numberOf : MethodName := ⟨RX0, "numberOf", "(Ljava/lang/String;)I"⟩
def dkwX0_numberOf_1 : List UInt8 := [100, 4, 96, 60, 132, 2, 1, 167, 255, 229, 27, 172]
abbrev dktX0_numberOf_1 : List UInt8 := dkwX0_numberOf_1 ++ []
def dkwX0_numberOf_0 : List UInt8 := [3, 60, 3, 61, 28, 42, 182, 1, 32, 162, 0, 25, 16, 27, 27, 104, 42, 28, 182, 1, 35, 96, 16, 97]
abbrev dktX0_numberOf_0 : List UInt8 := dkwX0_numberOf_0 ++ dktX0_numberOf_1
theorem dksX0_numberOf_0 : cX0_numberOf.data.toList.drop 0 = dktX0_numberOf_0 := by decide +kernel
theorem dksX0_numberOf_1 : cX0_numberOf.data.toList.drop 24 = dktX0_numberOf_1 := dk_seg dksX0_numberOf_0 24 rfl rfl
theorem dX0_numberOf_0 : decode cX0_numberOf 0 = .ok (.iconst 0, 1) := dk_3 (dk_at dksX0_numberOf_0 0 rfl rfl)
theorem dX0_numberOf_1 : decode cX0_numberOf 1 = .ok (.istore_n 1, 1) := dk_60 (dk_at dksX0_numberOf_0 1 rfl rfl)
theorem dX0_numberOf_2 : decode cX0_numberOf 2 = .ok (.iconst 0, 1) := dk_3 (dk_at dksX0_numberOf_0 2 rfl rfl)
theorem dX0_numberOf_3 : decode cX0_numberOf 3 = .ok (.istore_n 2, 1) := dk_61 (dk_at dksX0_numberOf_0 3 rfl rfl)
theorem dX0_numberOf_4 : decode cX0_numberOf 4 = .ok (.iload_n 2, 1) := dk_28 (dk_at dksX0_numberOf_0 4 rfl rfl)
theorem dX0_numberOf_5 : decode cX0_numberOf 5 = .ok (.aload_n 0, 1) := dk_42 (dk_at dksX0_numberOf_0 5 rfl rfl)
theorem dX0_numberOf_6 : decode cX0_numberOf 6 = .ok (.invokevirtual 288, 3) := dk_182 1 32 (dk_at dksX0_numberOf_0 6 rfl rfl)
theorem dX0_numberOf_9 : decode cX0_numberOf 9 = .ok (.if_icmp .ge 25, 3) := dk_162 0 25 (dk_at dksX0_numberOf_0 9 rfl rfl)
theorem dX0_numberOf_12 : decode cX0_numberOf 12 = .ok (.bipush 27, 2) := dk_16 27 (dk_at dksX0_numberOf_0 12 rfl rfl)
theorem dX0_numberOf_14 : decode cX0_numberOf 14 = .ok (.iload_n 1, 1) := dk_27 (dk_at dksX0_numberOf_0 14 rfl rfl)
theorem dX0_numberOf_15 : decode cX0_numberOf 15 = .ok (.imul, 1) := dk_104 (dk_at dksX0_numberOf_0 15 rfl rfl)
theorem dX0_numberOf_16 : decode cX0_numberOf 16 = .ok (.aload_n 0, 1) := dk_42 (dk_at dksX0_numberOf_0 16 rfl rfl)
theorem dX0_numberOf_17 : decode cX0_numberOf 17 = .ok (.iload_n 2, 1) := dk_28 (dk_at dksX0_numberOf_0 17 rfl rfl)
theorem dX0_numberOf_18 : decode cX0_numberOf 18 = .ok (.invokevirtual 291, 3) := dk_182 1 35 (dk_at dksX0_numberOf_0 18 rfl rfl)
theorem dX0_numberOf_21 : decode cX0_numberOf 21 = .ok (.iadd, 1) := dk_96 (dk_at dksX0_numberOf_0 21 rfl rfl)
theorem dX0_numberOf_22 : decode cX0_numberOf 22 = .ok (.bipush 97, 2) := dk_16 97 (dk_at dksX0_numberOf_0 22 rfl rfl)
theorem dX0_numberOf_24 : decode cX0_numberOf 24 = .ok (.isub, 1) := dk_100 (dk_at dksX0_numberOf_1 0 rfl rfl)
theorem dX0_numberOf_25 : decode cX0_numberOf 25 = .ok (.iconst 1, 1) := dk_4 (dk_at dksX0_numberOf_1 1 rfl rfl)
theorem dX0_numberOf_26 : decode cX0_numberOf 26 = .ok (.iadd, 1) := dk_96 (dk_at dksX0_numberOf_1 2 rfl rfl)
theorem dX0_numberOf_27 : decode cX0_numberOf 27 = .ok (.istore_n 1, 1) := dk_60 (dk_at dksX0_numberOf_1 3 rfl rfl)
theorem dX0_numberOf_28 : decode cX0_numberOf 28 = .ok (.iinc 2 1, 3) := dk_132 2 1 (dk_at dksX0_numberOf_1 4 rfl rfl)
theorem dX0_numberOf_31 : decode cX0_numberOf 31 = .ok (.goto (-27), 3) := dk_167 255 229 (dk_at dksX0_numberOf_1 7 rfl rfl)
theorem dX0_numberOf_34 : decode cX0_numberOf 34 = .ok (.iload_n 1, 1) := dk_27 (dk_at dksX0_numberOf_1 10 rfl rfl)
theorem dX0_numberOf_35 : decode cX0_numberOf 35 = .ok (.ireturn, 1) := dk_172 (dk_at dksX0_numberOf_1 11 rfl rfl)
abbrev cX0_age : ByteArray := prog_1_method_32_code
def yX0_age : MethodName := ⟨RX0, "age", "(I)I"⟩
def dkwX0_age_1 : List UInt8 := [46, 167, 0, 4, 2, 172, 77, 42, 44, 182, 0, 230, 16, 10, 100, 172]
abbrev dktX0_age_1 : List UInt8 := dkwX0_age_1 ++ []
def dkwX0_age_0 : List UInt8 := [42, 27, 182, 1, 9, 42, 180, 0, 167, 27, 182, 0, 124, 153, 0, 15, 42, 180, 0, 167, 180, 1, 111, 27]
abbrev dktX0_age_0 : List UInt8 := dkwX0_age_0 ++ dktX0_age_1
theorem dksX0_age_0 : cX0_age.data.toList.drop 0 = dktX0_age_0 := by decide +kernel
theorem dksX0_age_1 : cX0_age.data.toList.drop 24 = dktX0_age_1 := dk_seg dksX0_age_0 24 rfl rfl
theorem dX0_age_0 : decode cX0_age 0 = .ok (.aload_n 0, 1) := dk_42 (dk_at dksX0_age_0 0 rfl rfl)
theorem dX0_age_1 : decode cX0_age 1 = .ok (.iload_n 1, 1) := dk_27 (dk_at dksX0_age_0 1 rfl rfl)
theorem dX0_age_2 : decode cX0_age 2 = .ok (.invokevirtual 265, 3) := dk_182 1 9 (dk_at dksX0_age_0 2 rfl rfl)
theorem dX0_age_5 : decode cX0_age 5 = .ok (.aload_n 0, 1) := dk_42 (dk_at dksX0_age_0 5 rfl rfl)
theorem dX0_age_6 : decode cX0_age 6 = .ok (.getfield 167, 3) := dk_180 0 167 (dk_at dksX0_age_0 6 rfl rfl)
theorem dX0_age_9 : decode cX0_age 9 = .ok (.iload_n 1, 1) := dk_27 (dk_at dksX0_age_0 9 rfl rfl)
theorem dX0_age_10 : decode cX0_age 10 = .ok (.invokevirtual 124, 3) := dk_182 0 124 (dk_at dksX0_age_0 10 rfl rfl)
theorem dX0_age_13 : decode cX0_age 13 = .ok (.ifCond .eq 15, 3) := dk_153 0 15 (dk_at dksX0_age_0 13 rfl rfl)
theorem dX0_age_16 : decode cX0_age 16 = .ok (.aload_n 0, 1) := dk_42 (dk_at dksX0_age_0 16 rfl rfl)
theorem dX0_age_17 : decode cX0_age 17 = .ok (.getfield 167, 3) := dk_180 0 167 (dk_at dksX0_age_0 17 rfl rfl)
theorem dX0_age_20 : decode cX0_age 20 = .ok (.getfield 367, 3) := dk_180 1 111 (dk_at dksX0_age_0 20 rfl rfl)
theorem dX0_age_23 : decode cX0_age 23 = .ok (.iload_n 1, 1) := dk_27 (dk_at dksX0_age_0 23 rfl rfl)
theorem dX0_age_24 : decode cX0_age 24 = .ok (.iaload, 1) := dk_46 (dk_at dksX0_age_1 0 rfl rfl)
theorem dX0_age_25 : decode cX0_age 25 = .ok (.goto 4, 3) := dk_167 0 4 (dk_at dksX0_age_1 1 rfl rfl)
theorem dX0_age_28 : decode cX0_age 28 = .ok (.iconst (-1), 1) := dk_2 (dk_at dksX0_age_1 4 rfl rfl)
theorem dX0_age_29 : decode cX0_age 29 = .ok (.ireturn, 1) := dk_172 (dk_at dksX0_age_1 5 rfl rfl)
theorem dX0_age_30 : decode cX0_age 30 = .ok (.astore_n 2, 1) := dk_77 (dk_at dksX0_age_1 6 rfl rfl)
theorem dX0_age_31 : decode cX0_age 31 = .ok (.aload_n 0, 1) := dk_42 (dk_at dksX0_age_1 7 rfl rfl)
theorem dX0_age_32 : decode cX0_age 32 = .ok (.aload_n 2, 1) := dk_44 (dk_at dksX0_age_1 8 rfl rfl)
theorem dX0_age_33 : decode cX0_age 33 = .ok (.invokevirtual 230, 3) := dk_182 0 230 (dk_at dksX0_age_1 9 rfl rfl)
theorem dX0_age_36 : decode cX0_age 36 = .ok (.bipush 10, 2) := dk_16 10 (dk_at dksX0_age_1 12 rfl rfl)
theorem dX0_age_38 : decode cX0_age 38 = .ok (.isub, 1) := dk_100 (dk_at dksX0_age_1 14 rfl rfl)
theorem dX0_age_39 : decode cX0_age 39 = .ok (.ireturn, 1) := dk_172 (dk_at dksX0_age_1 15 rfl rfl)
abbrev cX0_tally : ByteArray := prog_1_method_33_code
def yX0_tally : MethodName := ⟨RX0, "tally", "(I)I"⟩
def dkwX0_tally_1 : List UInt8 := [172]
abbrev dktX0_tally_1 : List UInt8 := dkwX0_tally_1 ++ []
def dkwX0_tally_0 : List UInt8 := [42, 180, 0, 167, 27, 182, 0, 253, 153, 0, 15, 42, 180, 0, 167, 180, 1, 114, 27, 46, 167, 0, 4, 3]
abbrev dktX0_tally_0 : List UInt8 := dkwX0_tally_0 ++ dktX0_tally_1
theorem dksX0_tally_0 : cX0_tally.data.toList.drop 0 = dktX0_tally_0 := by decide +kernel
theorem dksX0_tally_1 : cX0_tally.data.toList.drop 24 = dktX0_tally_1 := dk_seg dksX0_tally_0 24 rfl rfl
theorem dX0_tally_0 : decode cX0_tally 0 = .ok (.aload_n 0, 1) := dk_42 (dk_at dksX0_tally_0 0 rfl rfl)
theorem dX0_tally_1 : decode cX0_tally 1 = .ok (.getfield 167, 3) := dk_180 0 167 (dk_at dksX0_tally_0 1 rfl rfl)
theorem dX0_tally_4 : decode cX0_tally 4 = .ok (.iload_n 1, 1) := dk_27 (dk_at dksX0_tally_0 4 rfl rfl)
theorem dX0_tally_5 : decode cX0_tally 5 = .ok (.invokevirtual 253, 3) := dk_182 0 253 (dk_at dksX0_tally_0 5 rfl rfl)
theorem dX0_tally_8 : decode cX0_tally 8 = .ok (.ifCond .eq 15, 3) := dk_153 0 15 (dk_at dksX0_tally_0 8 rfl rfl)
theorem dX0_tally_11 : decode cX0_tally 11 = .ok (.aload_n 0, 1) := dk_42 (dk_at dksX0_tally_0 11 rfl rfl)
theorem dX0_tally_12 : decode cX0_tally 12 = .ok (.getfield 167, 3) := dk_180 0 167 (dk_at dksX0_tally_0 12 rfl rfl)
theorem dX0_tally_15 : decode cX0_tally 15 = .ok (.getfield 370, 3) := dk_180 1 114 (dk_at dksX0_tally_0 15 rfl rfl)
theorem dX0_tally_18 : decode cX0_tally 18 = .ok (.iload_n 1, 1) := dk_27 (dk_at dksX0_tally_0 18 rfl rfl)
theorem dX0_tally_19 : decode cX0_tally 19 = .ok (.iaload, 1) := dk_46 (dk_at dksX0_tally_0 19 rfl rfl)
theorem dX0_tally_20 : decode cX0_tally 20 = .ok (.goto 4, 3) := dk_167 0 4 (dk_at dksX0_tally_0 20 rfl rfl)
theorem dX0_tally_23 : decode cX0_tally 23 = .ok (.iconst 0, 1) := dk_3 (dk_at dksX0_tally_0 23 rfl rfl)
theorem dX0_tally_24 : decode cX0_tally 24 = .ok (.ireturn, 1) := dk_172 (dk_at dksX0_tally_1 0 rfl rfl)
abbrev cX0_provider : ByteArray := prog_1_method_34_code
def yX0_provider : MethodName := ⟨RX0, "provider", "(II)I"⟩
def dkwX0_provider_2 : List UInt8 := [167, 0, 4, 2, 172, 78, 42, 45, 182, 0, 230, 16, 10, 100, 172]
abbrev dktX0_provider_2 : List UInt8 := dkwX0_provider_2 ++ []
def dkwX0_provider_1 : List UInt8 := [180, 1, 5, 27, 50, 180, 1, 91, 28, 184, 1, 120, 153, 0, 15, 42, 180, 0, 167, 27, 28, 182, 1, 124]
abbrev dktX0_provider_1 : List UInt8 := dkwX0_provider_1 ++ dktX0_provider_2
def dkwX0_provider_0 : List UInt8 := [42, 27, 182, 1, 9, 28, 184, 1, 117, 42, 180, 0, 167, 27, 182, 0, 124, 153, 0, 34, 42, 180, 0, 167]
abbrev dktX0_provider_0 : List UInt8 := dkwX0_provider_0 ++ dktX0_provider_1
theorem dksX0_provider_0 : cX0_provider.data.toList.drop 0 = dktX0_provider_0 := by decide +kernel
theorem dksX0_provider_1 : cX0_provider.data.toList.drop 24 = dktX0_provider_1 := dk_seg dksX0_provider_0 24 rfl rfl
theorem dksX0_provider_2 : cX0_provider.data.toList.drop 48 = dktX0_provider_2 := dk_seg dksX0_provider_1 24 rfl rfl
theorem dX0_provider_0 : decode cX0_provider 0 = .ok (.aload_n 0, 1) := dk_42 (dk_at dksX0_provider_0 0 rfl rfl)
theorem dX0_provider_1 : decode cX0_provider 1 = .ok (.iload_n 1, 1) := dk_27 (dk_at dksX0_provider_0 1 rfl rfl)
theorem dX0_provider_2 : decode cX0_provider 2 = .ok (.invokevirtual 265, 3) := dk_182 1 9 (dk_at dksX0_provider_0 2 rfl rfl)
theorem dX0_provider_5 : decode cX0_provider 5 = .ok (.iload_n 2, 1) := dk_28 (dk_at dksX0_provider_0 5 rfl rfl)
theorem dX0_provider_6 : decode cX0_provider 6 = .ok (.invokestatic 373, 3) := dk_184 1 117 (dk_at dksX0_provider_0 6 rfl rfl)
theorem dX0_provider_9 : decode cX0_provider 9 = .ok (.aload_n 0, 1) := dk_42 (dk_at dksX0_provider_0 9 rfl rfl)
theorem dX0_provider_10 : decode cX0_provider 10 = .ok (.getfield 167, 3) := dk_180 0 167 (dk_at dksX0_provider_0 10 rfl rfl)
theorem dX0_provider_13 : decode cX0_provider 13 = .ok (.iload_n 1, 1) := dk_27 (dk_at dksX0_provider_0 13 rfl rfl)
theorem dX0_provider_14 : decode cX0_provider 14 = .ok (.invokevirtual 124, 3) := dk_182 0 124 (dk_at dksX0_provider_0 14 rfl rfl)
theorem dX0_provider_17 : decode cX0_provider 17 = .ok (.ifCond .eq 34, 3) := dk_153 0 34 (dk_at dksX0_provider_0 17 rfl rfl)
theorem dX0_provider_20 : decode cX0_provider 20 = .ok (.aload_n 0, 1) := dk_42 (dk_at dksX0_provider_0 20 rfl rfl)
theorem dX0_provider_21 : decode cX0_provider 21 = .ok (.getfield 167, 3) := dk_180 0 167 (dk_at dksX0_provider_0 21 rfl rfl)
theorem dX0_provider_24 : decode cX0_provider 24 = .ok (.getfield 261, 3) := dk_180 1 5 (dk_at dksX0_provider_1 0 rfl rfl)
theorem dX0_provider_27 : decode cX0_provider 27 = .ok (.iload_n 1, 1) := dk_27 (dk_at dksX0_provider_1 3 rfl rfl)
theorem dX0_provider_28 : decode cX0_provider 28 = .ok (.aaload, 1) := dk_50 (dk_at dksX0_provider_1 4 rfl rfl)
theorem dX0_provider_29 : decode cX0_provider 29 = .ok (.getfield 347, 3) := dk_180 1 91 (dk_at dksX0_provider_1 5 rfl rfl)
theorem dX0_provider_32 : decode cX0_provider 32 = .ok (.iload_n 2, 1) := dk_28 (dk_at dksX0_provider_1 8 rfl rfl)
theorem dX0_provider_33 : decode cX0_provider 33 = .ok (.invokestatic 376, 3) := dk_184 1 120 (dk_at dksX0_provider_1 9 rfl rfl)
theorem dX0_provider_36 : decode cX0_provider 36 = .ok (.ifCond .eq 15, 3) := dk_153 0 15 (dk_at dksX0_provider_1 12 rfl rfl)
theorem dX0_provider_39 : decode cX0_provider 39 = .ok (.aload_n 0, 1) := dk_42 (dk_at dksX0_provider_1 15 rfl rfl)
theorem dX0_provider_40 : decode cX0_provider 40 = .ok (.getfield 167, 3) := dk_180 0 167 (dk_at dksX0_provider_1 16 rfl rfl)
theorem dX0_provider_43 : decode cX0_provider 43 = .ok (.iload_n 1, 1) := dk_27 (dk_at dksX0_provider_1 19 rfl rfl)
theorem dX0_provider_44 : decode cX0_provider 44 = .ok (.iload_n 2, 1) := dk_28 (dk_at dksX0_provider_1 20 rfl rfl)
theorem dX0_provider_45 : decode cX0_provider 45 = .ok (.invokevirtual 380, 3) := dk_182 1 124 (dk_at dksX0_provider_1 21 rfl rfl)
theorem dX0_provider_48 : decode cX0_provider 48 = .ok (.goto 4, 3) := dk_167 0 4 (dk_at dksX0_provider_2 0 rfl rfl)
theorem dX0_provider_51 : decode cX0_provider 51 = .ok (.iconst (-1), 1) := dk_2 (dk_at dksX0_provider_2 3 rfl rfl)
theorem dX0_provider_52 : decode cX0_provider 52 = .ok (.ireturn, 1) := dk_172 (dk_at dksX0_provider_2 4 rfl rfl)
theorem dX0_provider_53 : decode cX0_provider 53 = .ok (.astore_n 3, 1) := dk_78 (dk_at dksX0_provider_2 5 rfl rfl)
theorem dX0_provider_54 : decode cX0_provider 54 = .ok (.aload_n 0, 1) := dk_42 (dk_at dksX0_provider_2 6 rfl rfl)
theorem dX0_provider_55 : decode cX0_provider 55 = .ok (.aload_n 3, 1) := dk_45 (dk_at dksX0_provider_2 7 rfl rfl)
theorem dX0_provider_56 : decode cX0_provider 56 = .ok (.invokevirtual 230, 3) := dk_182 0 230 (dk_at dksX0_provider_2 8 rfl rfl)
theorem dX0_provider_59 : decode cX0_provider 59 = .ok (.bipush 10, 2) := dk_16 10 (dk_at dksX0_provider_2 11 rfl rfl)
theorem dX0_provider_61 : decode cX0_provider 61 = .ok (.isub, 1) := dk_100 (dk_at dksX0_provider_2 13 rfl rfl)
theorem dX0_provider_62 : decode cX0_provider 62 = .ok (.ireturn, 1) := dk_172 (dk_at dksX0_provider_2 14 rfl rfl)
abbrev cX0_mustService : ByteArray := prog_1_method_20_code
def yX0_mustService : MethodName := ⟨RX0, "mustService", "(I)V"⟩
def dkwX0_mustService_0 : List UInt8 := [26, 133, 9, 20, 1, 0, 184, 0, 219, 2, 184, 0, 213, 177]
abbrev dktX0_mustService_0 : List UInt8 := dkwX0_mustService_0 ++ []
theorem dksX0_mustService_0 : cX0_mustService.data.toList.drop 0 = dktX0_mustService_0 := by decide +kernel
theorem dX0_mustService_0 : decode cX0_mustService 0 = .ok (.iload_n 0, 1) := dk_26 (dk_at dksX0_mustService_0 0 rfl rfl)
theorem dX0_mustService_1 : decode cX0_mustService 1 = .ok (.i2l, 1) := dk_133 (dk_at dksX0_mustService_0 1 rfl rfl)
theorem dX0_mustService_2 : decode cX0_mustService 2 = .ok (.lconst 0, 1) := dk_9 (dk_at dksX0_mustService_0 2 rfl rfl)
theorem dX0_mustService_3 : decode cX0_mustService 3 = .ok (.ldc2_w 256, 3) := dk_20 1 0 (dk_at dksX0_mustService_0 3 rfl rfl)
theorem dX0_mustService_6 : decode cX0_mustService 6 = .ok (.invokestatic 219, 3) := dk_184 0 219 (dk_at dksX0_mustService_0 6 rfl rfl)
theorem dX0_mustService_9 : decode cX0_mustService 9 = .ok (.iconst (-1), 1) := dk_2 (dk_at dksX0_mustService_0 9 rfl rfl)
theorem dX0_mustService_10 : decode cX0_mustService 10 = .ok (.invokestatic 213, 3) := dk_184 0 213 (dk_at dksX0_mustService_0 10 rfl rfl)
theorem dX0_mustService_13 : decode cX0_mustService 13 = .ok (.return_, 1) := dk_177 (dk_at dksX0_mustService_0 13 rfl rfl)
abbrev cX0_has : ByteArray := prog_1_method_4_code
def yX0_has : MethodName := ⟨RX0, "has", "(II)Z"⟩
def dkwX0_has_0 : List UInt8 := [26, 27, 122, 4, 126, 153, 0, 7, 4, 167, 0, 4, 3, 172]
abbrev dktX0_has_0 : List UInt8 := dkwX0_has_0 ++ []
theorem dksX0_has_0 : cX0_has.data.toList.drop 0 = dktX0_has_0 := by decide +kernel
theorem dX0_has_0 : decode cX0_has 0 = .ok (.iload_n 0, 1) := dk_26 (dk_at dksX0_has_0 0 rfl rfl)
theorem dX0_has_1 : decode cX0_has 1 = .ok (.iload_n 1, 1) := dk_27 (dk_at dksX0_has_0 1 rfl rfl)
theorem dX0_has_2 : decode cX0_has 2 = .ok (.ishr, 1) := dk_122 (dk_at dksX0_has_0 2 rfl rfl)
theorem dX0_has_3 : decode cX0_has 3 = .ok (.iconst 1, 1) := dk_4 (dk_at dksX0_has_0 3 rfl rfl)
theorem dX0_has_4 : decode cX0_has 4 = .ok (.iand, 1) := dk_126 (dk_at dksX0_has_0 4 rfl rfl)
theorem dX0_has_5 : decode cX0_has 5 = .ok (.ifCond .eq 7, 3) := dk_153 0 7 (dk_at dksX0_has_0 5 rfl rfl)
theorem dX0_has_8 : decode cX0_has 8 = .ok (.iconst 1, 1) := dk_4 (dk_at dksX0_has_0 8 rfl rfl)
theorem dX0_has_9 : decode cX0_has 9 = .ok (.goto 4, 3) := dk_167 0 4 (dk_at dksX0_has_0 9 rfl rfl)
theorem dX0_has_12 : decode cX0_has 12 = .ok (.iconst 0, 1) := dk_3 (dk_at dksX0_has_0 12 rfl rfl)
theorem dX0_has_13 : decode cX0_has 13 = .ok (.ireturn, 1) := dk_172 (dk_at dksX0_has_0 13 rfl rfl)
abbrev cX0_start : ByteArray := prog_1_method_36_code
def yX0_start : MethodName := ⟨RX0, "start", "(I)I"⟩
def dkwX0_start_3 : List UInt8 := [182, 0, 230, 172]
abbrev dktX0_start_3 : List UInt8 := dkwX0_start_3 ++ []
def dkwX0_start_2 : List UInt8 := [44, 180, 1, 143, 172, 78, 42, 45, 182, 1, 144, 187, 0, 21, 89, 16, 250, 183, 0, 23, 191, 77, 42, 44]
abbrev dktX0_start_2 : List UInt8 := dkwX0_start_2 ++ dktX0_start_3
def dkwX0_start_1 : List UInt8 := [184, 0, 213, 187, 1, 135, 89, 42, 180, 0, 167, 42, 180, 0, 156, 183, 1, 137, 77, 44, 27, 182, 1, 140]
abbrev dktX0_start_1 : List UInt8 := dkwX0_start_1 ++ dktX0_start_2
def dkwX0_start_0 : List UInt8 := [42, 27, 182, 1, 9, 42, 180, 0, 167, 27, 182, 0, 124, 154, 0, 7, 4, 167, 0, 4, 3, 16, 250]
abbrev dktX0_start_0 : List UInt8 := dkwX0_start_0 ++ dktX0_start_1
theorem dksX0_start_0 : cX0_start.data.toList.drop 0 = dktX0_start_0 := by decide +kernel
theorem dksX0_start_1 : cX0_start.data.toList.drop 23 = dktX0_start_1 := dk_seg dksX0_start_0 23 rfl rfl
theorem dksX0_start_2 : cX0_start.data.toList.drop 47 = dktX0_start_2 := dk_seg dksX0_start_1 24 rfl rfl
theorem dksX0_start_3 : cX0_start.data.toList.drop 71 = dktX0_start_3 := dk_seg dksX0_start_2 24 rfl rfl
theorem dX0_start_0 : decode cX0_start 0 = .ok (.aload_n 0, 1) := dk_42 (dk_at dksX0_start_0 0 rfl rfl)
theorem dX0_start_1 : decode cX0_start 1 = .ok (.iload_n 1, 1) := dk_27 (dk_at dksX0_start_0 1 rfl rfl)
theorem dX0_start_2 : decode cX0_start 2 = .ok (.invokevirtual 265, 3) := dk_182 1 9 (dk_at dksX0_start_0 2 rfl rfl)
theorem dX0_start_5 : decode cX0_start 5 = .ok (.aload_n 0, 1) := dk_42 (dk_at dksX0_start_0 5 rfl rfl)
theorem dX0_start_6 : decode cX0_start 6 = .ok (.getfield 167, 3) := dk_180 0 167 (dk_at dksX0_start_0 6 rfl rfl)
theorem dX0_start_9 : decode cX0_start 9 = .ok (.iload_n 1, 1) := dk_27 (dk_at dksX0_start_0 9 rfl rfl)
theorem dX0_start_10 : decode cX0_start 10 = .ok (.invokevirtual 124, 3) := dk_182 0 124 (dk_at dksX0_start_0 10 rfl rfl)
theorem dX0_start_13 : decode cX0_start 13 = .ok (.ifCond .ne 7, 3) := dk_154 0 7 (dk_at dksX0_start_0 13 rfl rfl)
theorem dX0_start_16 : decode cX0_start 16 = .ok (.iconst 1, 1) := dk_4 (dk_at dksX0_start_0 16 rfl rfl)
theorem dX0_start_17 : decode cX0_start 17 = .ok (.goto 4, 3) := dk_167 0 4 (dk_at dksX0_start_0 17 rfl rfl)
theorem dX0_start_20 : decode cX0_start 20 = .ok (.iconst 0, 1) := dk_3 (dk_at dksX0_start_0 20 rfl rfl)
theorem dX0_start_21 : decode cX0_start 21 = .ok (.bipush (-6), 2) := dk_16 250 (dk_at dksX0_start_0 21 rfl rfl)
theorem dX0_start_23 : decode cX0_start 23 = .ok (.invokestatic 213, 3) := dk_184 0 213 (dk_at dksX0_start_1 0 rfl rfl)
theorem dX0_start_26 : decode cX0_start 26 = .ok (.new 391, 3) := dk_187 1 135 (dk_at dksX0_start_1 3 rfl rfl)
theorem dX0_start_29 : decode cX0_start 29 = .ok (.dup, 1) := dk_89 (dk_at dksX0_start_1 6 rfl rfl)
theorem dX0_start_30 : decode cX0_start 30 = .ok (.aload_n 0, 1) := dk_42 (dk_at dksX0_start_1 7 rfl rfl)
theorem dX0_start_31 : decode cX0_start 31 = .ok (.getfield 167, 3) := dk_180 0 167 (dk_at dksX0_start_1 8 rfl rfl)
theorem dX0_start_34 : decode cX0_start 34 = .ok (.aload_n 0, 1) := dk_42 (dk_at dksX0_start_1 11 rfl rfl)
theorem dX0_start_35 : decode cX0_start 35 = .ok (.getfield 156, 3) := dk_180 0 156 (dk_at dksX0_start_1 12 rfl rfl)
theorem dX0_start_38 : decode cX0_start 38 = .ok (.invokespecial 393, 3) := dk_183 1 137 (dk_at dksX0_start_1 15 rfl rfl)
theorem dX0_start_41 : decode cX0_start 41 = .ok (.astore_n 2, 1) := dk_77 (dk_at dksX0_start_1 18 rfl rfl)
theorem dX0_start_42 : decode cX0_start 42 = .ok (.aload_n 2, 1) := dk_44 (dk_at dksX0_start_1 19 rfl rfl)
theorem dX0_start_43 : decode cX0_start 43 = .ok (.iload_n 1, 1) := dk_27 (dk_at dksX0_start_1 20 rfl rfl)
theorem dX0_start_44 : decode cX0_start 44 = .ok (.invokevirtual 396, 3) := dk_182 1 140 (dk_at dksX0_start_1 21 rfl rfl)
theorem dX0_start_47 : decode cX0_start 47 = .ok (.aload_n 2, 1) := dk_44 (dk_at dksX0_start_2 0 rfl rfl)
theorem dX0_start_48 : decode cX0_start 48 = .ok (.getfield 399, 3) := dk_180 1 143 (dk_at dksX0_start_2 1 rfl rfl)
theorem dX0_start_51 : decode cX0_start 51 = .ok (.ireturn, 1) := dk_172 (dk_at dksX0_start_2 4 rfl rfl)
theorem dX0_start_52 : decode cX0_start 52 = .ok (.astore_n 3, 1) := dk_78 (dk_at dksX0_start_2 5 rfl rfl)
theorem dX0_start_53 : decode cX0_start 53 = .ok (.aload_n 0, 1) := dk_42 (dk_at dksX0_start_2 6 rfl rfl)
theorem dX0_start_54 : decode cX0_start 54 = .ok (.aload_n 3, 1) := dk_45 (dk_at dksX0_start_2 7 rfl rfl)
theorem dX0_start_55 : decode cX0_start 55 = .ok (.invokevirtual 400, 3) := dk_182 1 144 (dk_at dksX0_start_2 8 rfl rfl)
theorem dX0_start_58 : decode cX0_start 58 = .ok (.new 21, 3) := dk_187 0 21 (dk_at dksX0_start_2 11 rfl rfl)
theorem dX0_start_61 : decode cX0_start 61 = .ok (.dup, 1) := dk_89 (dk_at dksX0_start_2 14 rfl rfl)
theorem dX0_start_62 : decode cX0_start 62 = .ok (.bipush (-6), 2) := dk_16 250 (dk_at dksX0_start_2 15 rfl rfl)
theorem dX0_start_64 : decode cX0_start 64 = .ok (.invokespecial 23, 3) := dk_183 0 23 (dk_at dksX0_start_2 17 rfl rfl)
theorem dX0_start_67 : decode cX0_start 67 = .ok (.athrow, 1) := dk_191 (dk_at dksX0_start_2 20 rfl rfl)
theorem dX0_start_68 : decode cX0_start 68 = .ok (.astore_n 2, 1) := dk_77 (dk_at dksX0_start_2 21 rfl rfl)
theorem dX0_start_69 : decode cX0_start 69 = .ok (.aload_n 0, 1) := dk_42 (dk_at dksX0_start_2 22 rfl rfl)
theorem dX0_start_70 : decode cX0_start 70 = .ok (.aload_n 2, 1) := dk_44 (dk_at dksX0_start_2 23 rfl rfl)
theorem dX0_start_71 : decode cX0_start 71 = .ok (.invokevirtual 230, 3) := dk_182 0 230 (dk_at dksX0_start_3 0 rfl rfl)
theorem dX0_start_74 : decode cX0_start 74 = .ok (.ireturn, 1) := dk_172 (dk_at dksX0_start_3 3 rfl rfl)
abbrev cX0_keepCauses : ByteArray := prog_1_method_35_code
def yX0_keepCauses : MethodName := ⟨RX0, "keepCauses", "(LPluginChains$StartFailed;)V"⟩
def dkwX0_keepCauses_1 : List UInt8 := [89, 180, 1, 128, 90, 4, 96, 181, 1, 128, 45, 83, 45, 182, 1, 131, 77, 167, 255, 222, 177]
abbrev dktX0_keepCauses_1 : List UInt8 := dkwX0_keepCauses_1 ++ []
def dkwX0_keepCauses_0 : List UInt8 := [42, 3, 181, 1, 128, 43, 77, 44, 193, 0, 160, 153, 0, 33, 44, 192, 0, 160, 78, 42, 180, 0, 162, 42]
abbrev dktX0_keepCauses_0 : List UInt8 := dkwX0_keepCauses_0 ++ dktX0_keepCauses_1
theorem dksX0_keepCauses_0 : cX0_keepCauses.data.toList.drop 0 = dktX0_keepCauses_0 := by decide +kernel
theorem dksX0_keepCauses_1 : cX0_keepCauses.data.toList.drop 24 = dktX0_keepCauses_1 := dk_seg dksX0_keepCauses_0 24 rfl rfl
theorem dX0_keepCauses_0 : decode cX0_keepCauses 0 = .ok (.aload_n 0, 1) := dk_42 (dk_at dksX0_keepCauses_0 0 rfl rfl)
theorem dX0_keepCauses_1 : decode cX0_keepCauses 1 = .ok (.iconst 0, 1) := dk_3 (dk_at dksX0_keepCauses_0 1 rfl rfl)
theorem dX0_keepCauses_2 : decode cX0_keepCauses 2 = .ok (.putfield 384, 3) := dk_181 1 128 (dk_at dksX0_keepCauses_0 2 rfl rfl)
theorem dX0_keepCauses_5 : decode cX0_keepCauses 5 = .ok (.aload_n 1, 1) := dk_43 (dk_at dksX0_keepCauses_0 5 rfl rfl)
theorem dX0_keepCauses_6 : decode cX0_keepCauses 6 = .ok (.astore_n 2, 1) := dk_77 (dk_at dksX0_keepCauses_0 6 rfl rfl)
theorem dX0_keepCauses_7 : decode cX0_keepCauses 7 = .ok (.aload_n 2, 1) := dk_44 (dk_at dksX0_keepCauses_0 7 rfl rfl)
theorem dX0_keepCauses_8 : decode cX0_keepCauses 8 = .ok (.instanceof 160, 3) := dk_193 0 160 (dk_at dksX0_keepCauses_0 8 rfl rfl)
theorem dX0_keepCauses_11 : decode cX0_keepCauses 11 = .ok (.ifCond .eq 33, 3) := dk_153 0 33 (dk_at dksX0_keepCauses_0 11 rfl rfl)
theorem dX0_keepCauses_14 : decode cX0_keepCauses 14 = .ok (.aload_n 2, 1) := dk_44 (dk_at dksX0_keepCauses_0 14 rfl rfl)
theorem dX0_keepCauses_15 : decode cX0_keepCauses 15 = .ok (.checkcast 160, 3) := dk_192 0 160 (dk_at dksX0_keepCauses_0 15 rfl rfl)
theorem dX0_keepCauses_18 : decode cX0_keepCauses 18 = .ok (.astore_n 3, 1) := dk_78 (dk_at dksX0_keepCauses_0 18 rfl rfl)
theorem dX0_keepCauses_19 : decode cX0_keepCauses 19 = .ok (.aload_n 0, 1) := dk_42 (dk_at dksX0_keepCauses_0 19 rfl rfl)
theorem dX0_keepCauses_20 : decode cX0_keepCauses 20 = .ok (.getfield 162, 3) := dk_180 0 162 (dk_at dksX0_keepCauses_0 20 rfl rfl)
theorem dX0_keepCauses_23 : decode cX0_keepCauses 23 = .ok (.aload_n 0, 1) := dk_42 (dk_at dksX0_keepCauses_0 23 rfl rfl)
theorem dX0_keepCauses_24 : decode cX0_keepCauses 24 = .ok (.dup, 1) := dk_89 (dk_at dksX0_keepCauses_1 0 rfl rfl)
theorem dX0_keepCauses_25 : decode cX0_keepCauses 25 = .ok (.getfield 384, 3) := dk_180 1 128 (dk_at dksX0_keepCauses_1 1 rfl rfl)
theorem dX0_keepCauses_28 : decode cX0_keepCauses 28 = .ok (.dup_x1, 1) := dk_90 (dk_at dksX0_keepCauses_1 4 rfl rfl)
theorem dX0_keepCauses_29 : decode cX0_keepCauses 29 = .ok (.iconst 1, 1) := dk_4 (dk_at dksX0_keepCauses_1 5 rfl rfl)
theorem dX0_keepCauses_30 : decode cX0_keepCauses 30 = .ok (.iadd, 1) := dk_96 (dk_at dksX0_keepCauses_1 6 rfl rfl)
theorem dX0_keepCauses_31 : decode cX0_keepCauses 31 = .ok (.putfield 384, 3) := dk_181 1 128 (dk_at dksX0_keepCauses_1 7 rfl rfl)
theorem dX0_keepCauses_34 : decode cX0_keepCauses 34 = .ok (.aload_n 3, 1) := dk_45 (dk_at dksX0_keepCauses_1 10 rfl rfl)
theorem dX0_keepCauses_35 : decode cX0_keepCauses 35 = .ok (.aastore, 1) := dk_83 (dk_at dksX0_keepCauses_1 11 rfl rfl)
theorem dX0_keepCauses_36 : decode cX0_keepCauses 36 = .ok (.aload_n 3, 1) := dk_45 (dk_at dksX0_keepCauses_1 12 rfl rfl)
theorem dX0_keepCauses_37 : decode cX0_keepCauses 37 = .ok (.invokevirtual 387, 3) := dk_182 1 131 (dk_at dksX0_keepCauses_1 13 rfl rfl)
theorem dX0_keepCauses_40 : decode cX0_keepCauses 40 = .ok (.astore_n 2, 1) := dk_77 (dk_at dksX0_keepCauses_1 16 rfl rfl)
theorem dX0_keepCauses_41 : decode cX0_keepCauses 41 = .ok (.goto (-34), 3) := dk_167 255 222 (dk_at dksX0_keepCauses_1 17 rfl rfl)
theorem dX0_keepCauses_44 : decode cX0_keepCauses 44 = .ok (.return_, 1) := dk_177 (dk_at dksX0_keepCauses_1 20 rfl rfl)
abbrev cX0_cause : ByteArray := prog_1_method_37_code
def yX0_cause : MethodName := ⟨RX0, "cause", "(II)I"⟩
def dkwX0_cause_3 : List UInt8 := [45, 180, 1, 148, 172, 45, 180, 1, 149, 172, 45, 180, 1, 150, 172, 42, 182, 1, 79, 172]
abbrev dktX0_cause_3 : List UInt8 := dkwX0_cause_3 ++ []
def dkwX0_cause_2 : List UInt8 := [170, 0, 0, 0, 0, 0, 42, 0, 0, 0, 0, 0, 0, 0, 2, 0, 0, 0, 27, 0, 0, 0, 32, 0, 0, 0, 37]
abbrev dktX0_cause_2 : List UInt8 := dkwX0_cause_2 ++ dktX0_cause_3
def dkwX0_cause_1 : List UInt8 := [180, 0, 162, 27, 50, 78, 28]
abbrev dktX0_cause_1 : List UInt8 := dkwX0_cause_1 ++ dktX0_cause_2
def dkwX0_cause_0 : List UInt8 := [27, 133, 9, 42, 180, 1, 128, 4, 100, 133, 184, 0, 219, 154, 0, 8, 42, 182, 1, 79, 172, 42]
abbrev dktX0_cause_0 : List UInt8 := dkwX0_cause_0 ++ dktX0_cause_1
theorem dksX0_cause_0 : cX0_cause.data.toList.drop 0 = dktX0_cause_0 := by decide +kernel
theorem dksX0_cause_1 : cX0_cause.data.toList.drop 22 = dktX0_cause_1 := dk_seg dksX0_cause_0 22 rfl rfl
theorem dksX0_cause_2 : cX0_cause.data.toList.drop 29 = dktX0_cause_2 := dk_seg dksX0_cause_1 7 rfl rfl
theorem dksX0_cause_3 : cX0_cause.data.toList.drop 56 = dktX0_cause_3 := dk_seg dksX0_cause_2 27 rfl rfl
theorem dX0_cause_0 : decode cX0_cause 0 = .ok (.iload_n 1, 1) := dk_27 (dk_at dksX0_cause_0 0 rfl rfl)
theorem dX0_cause_1 : decode cX0_cause 1 = .ok (.i2l, 1) := dk_133 (dk_at dksX0_cause_0 1 rfl rfl)
theorem dX0_cause_2 : decode cX0_cause 2 = .ok (.lconst 0, 1) := dk_9 (dk_at dksX0_cause_0 2 rfl rfl)
theorem dX0_cause_3 : decode cX0_cause 3 = .ok (.aload_n 0, 1) := dk_42 (dk_at dksX0_cause_0 3 rfl rfl)
theorem dX0_cause_4 : decode cX0_cause 4 = .ok (.getfield 384, 3) := dk_180 1 128 (dk_at dksX0_cause_0 4 rfl rfl)
theorem dX0_cause_7 : decode cX0_cause 7 = .ok (.iconst 1, 1) := dk_4 (dk_at dksX0_cause_0 7 rfl rfl)
theorem dX0_cause_8 : decode cX0_cause 8 = .ok (.isub, 1) := dk_100 (dk_at dksX0_cause_0 8 rfl rfl)
theorem dX0_cause_9 : decode cX0_cause 9 = .ok (.i2l, 1) := dk_133 (dk_at dksX0_cause_0 9 rfl rfl)
theorem dX0_cause_10 : decode cX0_cause 10 = .ok (.invokestatic 219, 3) := dk_184 0 219 (dk_at dksX0_cause_0 10 rfl rfl)
theorem dX0_cause_13 : decode cX0_cause 13 = .ok (.ifCond .ne 8, 3) := dk_154 0 8 (dk_at dksX0_cause_0 13 rfl rfl)
theorem dX0_cause_16 : decode cX0_cause 16 = .ok (.aload_n 0, 1) := dk_42 (dk_at dksX0_cause_0 16 rfl rfl)
theorem dX0_cause_17 : decode cX0_cause 17 = .ok (.invokevirtual 335, 3) := dk_182 1 79 (dk_at dksX0_cause_0 17 rfl rfl)
theorem dX0_cause_20 : decode cX0_cause 20 = .ok (.ireturn, 1) := dk_172 (dk_at dksX0_cause_0 20 rfl rfl)
theorem dX0_cause_21 : decode cX0_cause 21 = .ok (.aload_n 0, 1) := dk_42 (dk_at dksX0_cause_0 21 rfl rfl)
theorem dX0_cause_22 : decode cX0_cause 22 = .ok (.getfield 162, 3) := dk_180 0 162 (dk_at dksX0_cause_1 0 rfl rfl)
theorem dX0_cause_25 : decode cX0_cause 25 = .ok (.iload_n 1, 1) := dk_27 (dk_at dksX0_cause_1 3 rfl rfl)
theorem dX0_cause_26 : decode cX0_cause 26 = .ok (.aaload, 1) := dk_50 (dk_at dksX0_cause_1 4 rfl rfl)
theorem dX0_cause_27 : decode cX0_cause 27 = .ok (.astore_n 3, 1) := dk_78 (dk_at dksX0_cause_1 5 rfl rfl)
theorem dX0_cause_28 : decode cX0_cause 28 = .ok (.iload_n 2, 1) := dk_28 (dk_at dksX0_cause_1 6 rfl rfl)
theorem dX0_cause_29 : decode cX0_cause 29 = .ok (.tableswitch 42 0 2 #[27, 32, 37], 27) := by decide +kernel
theorem dX0_cause_56 : decode cX0_cause 56 = .ok (.aload_n 3, 1) := dk_45 (dk_at dksX0_cause_3 0 rfl rfl)
theorem dX0_cause_57 : decode cX0_cause 57 = .ok (.getfield 404, 3) := dk_180 1 148 (dk_at dksX0_cause_3 1 rfl rfl)
theorem dX0_cause_60 : decode cX0_cause 60 = .ok (.ireturn, 1) := dk_172 (dk_at dksX0_cause_3 4 rfl rfl)
theorem dX0_cause_61 : decode cX0_cause 61 = .ok (.aload_n 3, 1) := dk_45 (dk_at dksX0_cause_3 5 rfl rfl)
theorem dX0_cause_62 : decode cX0_cause 62 = .ok (.getfield 405, 3) := dk_180 1 149 (dk_at dksX0_cause_3 6 rfl rfl)
theorem dX0_cause_65 : decode cX0_cause 65 = .ok (.ireturn, 1) := dk_172 (dk_at dksX0_cause_3 9 rfl rfl)
theorem dX0_cause_66 : decode cX0_cause 66 = .ok (.aload_n 3, 1) := dk_45 (dk_at dksX0_cause_3 10 rfl rfl)
theorem dX0_cause_67 : decode cX0_cause 67 = .ok (.getfield 406, 3) := dk_180 1 150 (dk_at dksX0_cause_3 11 rfl rfl)
theorem dX0_cause_70 : decode cX0_cause 70 = .ok (.ireturn, 1) := dk_172 (dk_at dksX0_cause_3 14 rfl rfl)
theorem dX0_cause_71 : decode cX0_cause 71 = .ok (.aload_n 0, 1) := dk_42 (dk_at dksX0_cause_3 15 rfl rfl)
theorem dX0_cause_72 : decode cX0_cause 72 = .ok (.invokevirtual 335, 3) := dk_182 1 79 (dk_at dksX0_cause_3 16 rfl rfl)
theorem dX0_cause_75 : decode cX0_cause 75 = .ok (.ireturn, 1) := dk_172 (dk_at dksX0_cause_3 19 rfl rfl)
abbrev cX0_stop : ByteArray := prog_1_method_39_code
def yX0_stop : MethodName := ⟨RX0, "stop", "(I)I"⟩
def dkwX0_stop_1 : List UInt8 := [172]
abbrev dktX0_stop_1 : List UInt8 := dkwX0_stop_1 ++ []
def dkwX0_stop_0 : List UInt8 := [42, 27, 182, 1, 153, 42, 180, 0, 167, 42, 180, 0, 156, 27, 184, 1, 156, 172, 77, 42, 44, 182, 0, 230]
abbrev dktX0_stop_0 : List UInt8 := dkwX0_stop_0 ++ dktX0_stop_1
theorem dksX0_stop_0 : cX0_stop.data.toList.drop 0 = dktX0_stop_0 := by decide +kernel
theorem dksX0_stop_1 : cX0_stop.data.toList.drop 24 = dktX0_stop_1 := dk_seg dksX0_stop_0 24 rfl rfl
theorem dX0_stop_0 : decode cX0_stop 0 = .ok (.aload_n 0, 1) := dk_42 (dk_at dksX0_stop_0 0 rfl rfl)
theorem dX0_stop_1 : decode cX0_stop 1 = .ok (.iload_n 1, 1) := dk_27 (dk_at dksX0_stop_0 1 rfl rfl)
theorem dX0_stop_2 : decode cX0_stop 2 = .ok (.invokevirtual 409, 3) := dk_182 1 153 (dk_at dksX0_stop_0 2 rfl rfl)
theorem dX0_stop_5 : decode cX0_stop 5 = .ok (.aload_n 0, 1) := dk_42 (dk_at dksX0_stop_0 5 rfl rfl)
theorem dX0_stop_6 : decode cX0_stop 6 = .ok (.getfield 167, 3) := dk_180 0 167 (dk_at dksX0_stop_0 6 rfl rfl)
theorem dX0_stop_9 : decode cX0_stop 9 = .ok (.aload_n 0, 1) := dk_42 (dk_at dksX0_stop_0 9 rfl rfl)
theorem dX0_stop_10 : decode cX0_stop 10 = .ok (.getfield 156, 3) := dk_180 0 156 (dk_at dksX0_stop_0 10 rfl rfl)
theorem dX0_stop_13 : decode cX0_stop 13 = .ok (.iload_n 1, 1) := dk_27 (dk_at dksX0_stop_0 13 rfl rfl)
theorem dX0_stop_14 : decode cX0_stop 14 = .ok (.invokestatic 412, 3) := dk_184 1 156 (dk_at dksX0_stop_0 14 rfl rfl)
theorem dX0_stop_17 : decode cX0_stop 17 = .ok (.ireturn, 1) := dk_172 (dk_at dksX0_stop_0 17 rfl rfl)
theorem dX0_stop_18 : decode cX0_stop 18 = .ok (.astore_n 2, 1) := dk_77 (dk_at dksX0_stop_0 18 rfl rfl)
theorem dX0_stop_19 : decode cX0_stop 19 = .ok (.aload_n 0, 1) := dk_42 (dk_at dksX0_stop_0 19 rfl rfl)
theorem dX0_stop_20 : decode cX0_stop 20 = .ok (.aload_n 2, 1) := dk_44 (dk_at dksX0_stop_0 20 rfl rfl)
theorem dX0_stop_21 : decode cX0_stop 21 = .ok (.invokevirtual 230, 3) := dk_182 0 230 (dk_at dksX0_stop_0 21 rfl rfl)
theorem dX0_stop_24 : decode cX0_stop 24 = .ok (.ireturn, 1) := dk_172 (dk_at dksX0_stop_1 0 rfl rfl)
abbrev cX0_mustRun : ByteArray := prog_1_method_38_code
def yX0_mustRun : MethodName := ⟨RX0, "mustRun", "(I)V"⟩
def dkwX0_mustRun_0 : List UInt8 := [42, 27, 182, 1, 9, 42, 180, 0, 167, 27, 182, 0, 124, 16, 250, 184, 0, 213, 177]
abbrev dktX0_mustRun_0 : List UInt8 := dkwX0_mustRun_0 ++ []
theorem dksX0_mustRun_0 : cX0_mustRun.data.toList.drop 0 = dktX0_mustRun_0 := by decide +kernel
theorem dX0_mustRun_0 : decode cX0_mustRun 0 = .ok (.aload_n 0, 1) := dk_42 (dk_at dksX0_mustRun_0 0 rfl rfl)
theorem dX0_mustRun_1 : decode cX0_mustRun 1 = .ok (.iload_n 1, 1) := dk_27 (dk_at dksX0_mustRun_0 1 rfl rfl)
theorem dX0_mustRun_2 : decode cX0_mustRun 2 = .ok (.invokevirtual 265, 3) := dk_182 1 9 (dk_at dksX0_mustRun_0 2 rfl rfl)
theorem dX0_mustRun_5 : decode cX0_mustRun 5 = .ok (.aload_n 0, 1) := dk_42 (dk_at dksX0_mustRun_0 5 rfl rfl)
theorem dX0_mustRun_6 : decode cX0_mustRun 6 = .ok (.getfield 167, 3) := dk_180 0 167 (dk_at dksX0_mustRun_0 6 rfl rfl)
theorem dX0_mustRun_9 : decode cX0_mustRun 9 = .ok (.iload_n 1, 1) := dk_27 (dk_at dksX0_mustRun_0 9 rfl rfl)
theorem dX0_mustRun_10 : decode cX0_mustRun 10 = .ok (.invokevirtual 124, 3) := dk_182 0 124 (dk_at dksX0_mustRun_0 10 rfl rfl)
theorem dX0_mustRun_13 : decode cX0_mustRun 13 = .ok (.bipush (-6), 2) := dk_16 250 (dk_at dksX0_mustRun_0 13 rfl rfl)
theorem dX0_mustRun_15 : decode cX0_mustRun 15 = .ok (.invokestatic 213, 3) := dk_184 0 213 (dk_at dksX0_mustRun_0 15 rfl rfl)
theorem dX0_mustRun_18 : decode cX0_mustRun 18 = .ok (.return_, 1) := dk_177 (dk_at dksX0_mustRun_0 18 rfl rfl)
abbrev cX0_stopWaves : ByteArray := prog_1_method_6_code
def yX0_stopWaves : MethodName := ⟨RX0, "stopWaves", "(LPluginChains$Host;LPluginChains$Log;I)I"⟩
def dkwX0_stopWaves_4 : List UInt8 := [167, 255, 232, 21, 5, 172]
abbrev dktX0_stopWaves_4 : List UInt8 := dkwX0_stopWaves_4 ++ []
def dkwX0_stopWaves_3 : List UInt8 := [182, 0, 79, 154, 0, 22, 42, 25, 4, 182, 0, 83, 192, 0, 67, 182, 0, 86, 43, 182, 0, 89]
abbrev dktX0_stopWaves_3 : List UInt8 := dkwX0_stopWaves_3 ++ dktX0_stopWaves_4
def dkwX0_stopWaves_2 : List UInt8 := [184, 0, 66, 182, 0, 72, 87, 132, 5, 1, 167, 255, 225, 25, 4, 182, 0, 76, 54, 5, 25, 4]
abbrev dktX0_stopWaves_2 : List UInt8 := dkwX0_stopWaves_2 ++ dktX0_stopWaves_3
def dkwX0_stopWaves_1 : List UInt8 := [54, 5, 21, 5, 42, 180, 0, 60, 162, 0, 28, 45, 21, 5, 46, 2, 159, 0, 14, 25, 4, 21, 5]
abbrev dktX0_stopWaves_1 : List UInt8 := dkwX0_stopWaves_1 ++ dktX0_stopWaves_2
def dkwX0_stopWaves_0 : List UInt8 := [42, 28, 182, 0, 44, 78, 187, 0, 50, 89, 187, 0, 52, 89, 42, 183, 0, 54, 183, 0, 57, 58, 4, 3]
abbrev dktX0_stopWaves_0 : List UInt8 := dkwX0_stopWaves_0 ++ dktX0_stopWaves_1
theorem dksX0_stopWaves_0 : cX0_stopWaves.data.toList.drop 0 = dktX0_stopWaves_0 := by decide +kernel
theorem dksX0_stopWaves_1 : cX0_stopWaves.data.toList.drop 24 = dktX0_stopWaves_1 := dk_seg dksX0_stopWaves_0 24 rfl rfl
theorem dksX0_stopWaves_2 : cX0_stopWaves.data.toList.drop 47 = dktX0_stopWaves_2 := dk_seg dksX0_stopWaves_1 23 rfl rfl
theorem dksX0_stopWaves_3 : cX0_stopWaves.data.toList.drop 69 = dktX0_stopWaves_3 := dk_seg dksX0_stopWaves_2 22 rfl rfl
theorem dksX0_stopWaves_4 : cX0_stopWaves.data.toList.drop 91 = dktX0_stopWaves_4 := dk_seg dksX0_stopWaves_3 22 rfl rfl
theorem dX0_stopWaves_0 : decode cX0_stopWaves 0 = .ok (.aload_n 0, 1) := dk_42 (dk_at dksX0_stopWaves_0 0 rfl rfl)
theorem dX0_stopWaves_1 : decode cX0_stopWaves 1 = .ok (.iload_n 2, 1) := dk_28 (dk_at dksX0_stopWaves_0 1 rfl rfl)
theorem dX0_stopWaves_2 : decode cX0_stopWaves 2 = .ok (.invokevirtual 44, 3) := dk_182 0 44 (dk_at dksX0_stopWaves_0 2 rfl rfl)
theorem dX0_stopWaves_5 : decode cX0_stopWaves 5 = .ok (.astore_n 3, 1) := dk_78 (dk_at dksX0_stopWaves_0 5 rfl rfl)
theorem dX0_stopWaves_6 : decode cX0_stopWaves 6 = .ok (.new 50, 3) := dk_187 0 50 (dk_at dksX0_stopWaves_0 6 rfl rfl)
theorem dX0_stopWaves_9 : decode cX0_stopWaves 9 = .ok (.dup, 1) := dk_89 (dk_at dksX0_stopWaves_0 9 rfl rfl)
theorem dX0_stopWaves_10 : decode cX0_stopWaves 10 = .ok (.new 52, 3) := dk_187 0 52 (dk_at dksX0_stopWaves_0 10 rfl rfl)
theorem dX0_stopWaves_13 : decode cX0_stopWaves 13 = .ok (.dup, 1) := dk_89 (dk_at dksX0_stopWaves_0 13 rfl rfl)
theorem dX0_stopWaves_14 : decode cX0_stopWaves 14 = .ok (.aload_n 0, 1) := dk_42 (dk_at dksX0_stopWaves_0 14 rfl rfl)
theorem dX0_stopWaves_15 : decode cX0_stopWaves 15 = .ok (.invokespecial 54, 3) := dk_183 0 54 (dk_at dksX0_stopWaves_0 15 rfl rfl)
theorem dX0_stopWaves_18 : decode cX0_stopWaves 18 = .ok (.invokespecial 57, 3) := dk_183 0 57 (dk_at dksX0_stopWaves_0 18 rfl rfl)
theorem dX0_stopWaves_21 : decode cX0_stopWaves 21 = .ok (.astore 4, 2) := dk_58 4 (dk_at dksX0_stopWaves_0 21 rfl rfl)
theorem dX0_stopWaves_23 : decode cX0_stopWaves 23 = .ok (.iconst 0, 1) := dk_3 (dk_at dksX0_stopWaves_0 23 rfl rfl)
theorem dX0_stopWaves_24 : decode cX0_stopWaves 24 = .ok (.istore 5, 2) := dk_54 5 (dk_at dksX0_stopWaves_1 0 rfl rfl)
theorem dX0_stopWaves_26 : decode cX0_stopWaves 26 = .ok (.iload 5, 2) := dk_21 5 (dk_at dksX0_stopWaves_1 2 rfl rfl)
theorem dX0_stopWaves_28 : decode cX0_stopWaves 28 = .ok (.aload_n 0, 1) := dk_42 (dk_at dksX0_stopWaves_1 4 rfl rfl)
theorem dX0_stopWaves_29 : decode cX0_stopWaves 29 = .ok (.getfield 60, 3) := dk_180 0 60 (dk_at dksX0_stopWaves_1 5 rfl rfl)
theorem dX0_stopWaves_32 : decode cX0_stopWaves 32 = .ok (.if_icmp .ge 28, 3) := dk_162 0 28 (dk_at dksX0_stopWaves_1 8 rfl rfl)
theorem dX0_stopWaves_35 : decode cX0_stopWaves 35 = .ok (.aload_n 3, 1) := dk_45 (dk_at dksX0_stopWaves_1 11 rfl rfl)
theorem dX0_stopWaves_36 : decode cX0_stopWaves 36 = .ok (.iload 5, 2) := dk_21 5 (dk_at dksX0_stopWaves_1 12 rfl rfl)
theorem dX0_stopWaves_38 : decode cX0_stopWaves 38 = .ok (.iaload, 1) := dk_46 (dk_at dksX0_stopWaves_1 14 rfl rfl)
theorem dX0_stopWaves_39 : decode cX0_stopWaves 39 = .ok (.iconst (-1), 1) := dk_2 (dk_at dksX0_stopWaves_1 15 rfl rfl)
theorem dX0_stopWaves_40 : decode cX0_stopWaves 40 = .ok (.if_icmp .eq 14, 3) := dk_159 0 14 (dk_at dksX0_stopWaves_1 16 rfl rfl)
theorem dX0_stopWaves_43 : decode cX0_stopWaves 43 = .ok (.aload 4, 2) := dk_25 4 (dk_at dksX0_stopWaves_1 19 rfl rfl)
theorem dX0_stopWaves_45 : decode cX0_stopWaves 45 = .ok (.iload 5, 2) := dk_21 5 (dk_at dksX0_stopWaves_1 21 rfl rfl)
theorem dX0_stopWaves_47 : decode cX0_stopWaves 47 = .ok (.invokestatic 66, 3) := dk_184 0 66 (dk_at dksX0_stopWaves_2 0 rfl rfl)
theorem dX0_stopWaves_50 : decode cX0_stopWaves 50 = .ok (.invokevirtual 72, 3) := dk_182 0 72 (dk_at dksX0_stopWaves_2 3 rfl rfl)
theorem dX0_stopWaves_53 : decode cX0_stopWaves 53 = .ok (.pop, 1) := dk_87 (dk_at dksX0_stopWaves_2 6 rfl rfl)
theorem dX0_stopWaves_54 : decode cX0_stopWaves 54 = .ok (.iinc 5 1, 3) := dk_132 5 1 (dk_at dksX0_stopWaves_2 7 rfl rfl)
theorem dX0_stopWaves_57 : decode cX0_stopWaves 57 = .ok (.goto (-31), 3) := dk_167 255 225 (dk_at dksX0_stopWaves_2 10 rfl rfl)
theorem dX0_stopWaves_60 : decode cX0_stopWaves 60 = .ok (.aload 4, 2) := dk_25 4 (dk_at dksX0_stopWaves_2 13 rfl rfl)
theorem dX0_stopWaves_62 : decode cX0_stopWaves 62 = .ok (.invokevirtual 76, 3) := dk_182 0 76 (dk_at dksX0_stopWaves_2 15 rfl rfl)
theorem dX0_stopWaves_65 : decode cX0_stopWaves 65 = .ok (.istore 5, 2) := dk_54 5 (dk_at dksX0_stopWaves_2 18 rfl rfl)
theorem dX0_stopWaves_67 : decode cX0_stopWaves 67 = .ok (.aload 4, 2) := dk_25 4 (dk_at dksX0_stopWaves_2 20 rfl rfl)
theorem dX0_stopWaves_69 : decode cX0_stopWaves 69 = .ok (.invokevirtual 79, 3) := dk_182 0 79 (dk_at dksX0_stopWaves_3 0 rfl rfl)
theorem dX0_stopWaves_72 : decode cX0_stopWaves 72 = .ok (.ifCond .ne 22, 3) := dk_154 0 22 (dk_at dksX0_stopWaves_3 3 rfl rfl)
theorem dX0_stopWaves_75 : decode cX0_stopWaves 75 = .ok (.aload_n 0, 1) := dk_42 (dk_at dksX0_stopWaves_3 6 rfl rfl)
theorem dX0_stopWaves_76 : decode cX0_stopWaves 76 = .ok (.aload 4, 2) := dk_25 4 (dk_at dksX0_stopWaves_3 7 rfl rfl)
theorem dX0_stopWaves_78 : decode cX0_stopWaves 78 = .ok (.invokevirtual 83, 3) := dk_182 0 83 (dk_at dksX0_stopWaves_3 9 rfl rfl)
theorem dX0_stopWaves_81 : decode cX0_stopWaves 81 = .ok (.checkcast 67, 3) := dk_192 0 67 (dk_at dksX0_stopWaves_3 12 rfl rfl)
theorem dX0_stopWaves_84 : decode cX0_stopWaves 84 = .ok (.invokevirtual 86, 3) := dk_182 0 86 (dk_at dksX0_stopWaves_3 15 rfl rfl)
theorem dX0_stopWaves_87 : decode cX0_stopWaves 87 = .ok (.aload_n 1, 1) := dk_43 (dk_at dksX0_stopWaves_3 18 rfl rfl)
theorem dX0_stopWaves_88 : decode cX0_stopWaves 88 = .ok (.invokevirtual 89, 3) := dk_182 0 89 (dk_at dksX0_stopWaves_3 19 rfl rfl)
theorem dX0_stopWaves_91 : decode cX0_stopWaves 91 = .ok (.goto (-24), 3) := dk_167 255 232 (dk_at dksX0_stopWaves_4 0 rfl rfl)
theorem dX0_stopWaves_94 : decode cX0_stopWaves 94 = .ok (.iload 5, 2) := dk_21 5 (dk_at dksX0_stopWaves_4 3 rfl rfl)
theorem dX0_stopWaves_96 : decode cX0_stopWaves 96 = .ok (.ireturn, 1) := dk_172 (dk_at dksX0_stopWaves_4 5 rfl rfl)
abbrev cX0_wave : ByteArray := prog_1_method_40_code
def yX0_wave : MethodName := ⟨RX0, "wave", "(II)I"⟩
def dkwX0_wave_1 : List UInt8 := [46, 172, 78, 42, 45, 182, 0, 230, 16, 10, 100, 172]
abbrev dktX0_wave_1 : List UInt8 := dkwX0_wave_1 ++ []
def dkwX0_wave_0 : List UInt8 := [42, 27, 182, 1, 9, 42, 28, 182, 1, 9, 42, 27, 182, 1, 153, 42, 180, 0, 167, 27, 182, 0, 44, 28]
abbrev dktX0_wave_0 : List UInt8 := dkwX0_wave_0 ++ dktX0_wave_1
theorem dksX0_wave_0 : cX0_wave.data.toList.drop 0 = dktX0_wave_0 := by decide +kernel
theorem dksX0_wave_1 : cX0_wave.data.toList.drop 24 = dktX0_wave_1 := dk_seg dksX0_wave_0 24 rfl rfl
theorem dX0_wave_0 : decode cX0_wave 0 = .ok (.aload_n 0, 1) := dk_42 (dk_at dksX0_wave_0 0 rfl rfl)
theorem dX0_wave_1 : decode cX0_wave 1 = .ok (.iload_n 1, 1) := dk_27 (dk_at dksX0_wave_0 1 rfl rfl)
theorem dX0_wave_2 : decode cX0_wave 2 = .ok (.invokevirtual 265, 3) := dk_182 1 9 (dk_at dksX0_wave_0 2 rfl rfl)
theorem dX0_wave_5 : decode cX0_wave 5 = .ok (.aload_n 0, 1) := dk_42 (dk_at dksX0_wave_0 5 rfl rfl)
theorem dX0_wave_6 : decode cX0_wave 6 = .ok (.iload_n 2, 1) := dk_28 (dk_at dksX0_wave_0 6 rfl rfl)
theorem dX0_wave_7 : decode cX0_wave 7 = .ok (.invokevirtual 265, 3) := dk_182 1 9 (dk_at dksX0_wave_0 7 rfl rfl)
theorem dX0_wave_10 : decode cX0_wave 10 = .ok (.aload_n 0, 1) := dk_42 (dk_at dksX0_wave_0 10 rfl rfl)
theorem dX0_wave_11 : decode cX0_wave 11 = .ok (.iload_n 1, 1) := dk_27 (dk_at dksX0_wave_0 11 rfl rfl)
theorem dX0_wave_12 : decode cX0_wave 12 = .ok (.invokevirtual 409, 3) := dk_182 1 153 (dk_at dksX0_wave_0 12 rfl rfl)
theorem dX0_wave_15 : decode cX0_wave 15 = .ok (.aload_n 0, 1) := dk_42 (dk_at dksX0_wave_0 15 rfl rfl)
theorem dX0_wave_16 : decode cX0_wave 16 = .ok (.getfield 167, 3) := dk_180 0 167 (dk_at dksX0_wave_0 16 rfl rfl)
theorem dX0_wave_19 : decode cX0_wave 19 = .ok (.iload_n 1, 1) := dk_27 (dk_at dksX0_wave_0 19 rfl rfl)
theorem dX0_wave_20 : decode cX0_wave 20 = .ok (.invokevirtual 44, 3) := dk_182 0 44 (dk_at dksX0_wave_0 20 rfl rfl)
theorem dX0_wave_23 : decode cX0_wave 23 = .ok (.iload_n 2, 1) := dk_28 (dk_at dksX0_wave_0 23 rfl rfl)
theorem dX0_wave_24 : decode cX0_wave 24 = .ok (.iaload, 1) := dk_46 (dk_at dksX0_wave_1 0 rfl rfl)
theorem dX0_wave_25 : decode cX0_wave 25 = .ok (.ireturn, 1) := dk_172 (dk_at dksX0_wave_1 1 rfl rfl)
theorem dX0_wave_26 : decode cX0_wave 26 = .ok (.astore_n 3, 1) := dk_78 (dk_at dksX0_wave_1 2 rfl rfl)
theorem dX0_wave_27 : decode cX0_wave 27 = .ok (.aload_n 0, 1) := dk_42 (dk_at dksX0_wave_1 3 rfl rfl)
theorem dX0_wave_28 : decode cX0_wave 28 = .ok (.aload_n 3, 1) := dk_45 (dk_at dksX0_wave_1 4 rfl rfl)
theorem dX0_wave_29 : decode cX0_wave 29 = .ok (.invokevirtual 230, 3) := dk_182 0 230 (dk_at dksX0_wave_1 5 rfl rfl)
theorem dX0_wave_32 : decode cX0_wave 32 = .ok (.bipush 10, 2) := dk_16 10 (dk_at dksX0_wave_1 8 rfl rfl)
theorem dX0_wave_34 : decode cX0_wave 34 = .ok (.isub, 1) := dk_100 (dk_at dksX0_wave_1 10 rfl rfl)
theorem dX0_wave_35 : decode cX0_wave 35 = .ok (.ireturn, 1) := dk_172 (dk_at dksX0_wave_1 11 rfl rfl)
abbrev cX0_mend : ByteArray := prog_1_method_41_code
def yX0_mend : MethodName := ⟨RX0, "mend", "(I)I"⟩
def dkwX0_mend_2 : List UInt8 := [172, 77, 42, 44, 182, 0, 230, 172]
abbrev dktX0_mend_2 : List UInt8 := dkwX0_mend_2 ++ []
def dkwX0_mend_1 : List UInt8 := [16, 250, 184, 0, 213, 42, 180, 0, 167, 180, 1, 82, 27, 3, 79, 42, 180, 0, 167, 180, 1, 97, 27, 46]
abbrev dktX0_mend_1 : List UInt8 := dkwX0_mend_1 ++ dktX0_mend_2
def dkwX0_mend_0 : List UInt8 := [42, 27, 182, 1, 9, 42, 180, 0, 167, 180, 1, 82, 27, 46, 5, 160, 0, 7, 4, 167, 0, 4, 3]
abbrev dktX0_mend_0 : List UInt8 := dkwX0_mend_0 ++ dktX0_mend_1
theorem dksX0_mend_0 : cX0_mend.data.toList.drop 0 = dktX0_mend_0 := by decide +kernel
theorem dksX0_mend_1 : cX0_mend.data.toList.drop 23 = dktX0_mend_1 := dk_seg dksX0_mend_0 23 rfl rfl
theorem dksX0_mend_2 : cX0_mend.data.toList.drop 47 = dktX0_mend_2 := dk_seg dksX0_mend_1 24 rfl rfl
theorem dX0_mend_0 : decode cX0_mend 0 = .ok (.aload_n 0, 1) := dk_42 (dk_at dksX0_mend_0 0 rfl rfl)
theorem dX0_mend_1 : decode cX0_mend 1 = .ok (.iload_n 1, 1) := dk_27 (dk_at dksX0_mend_0 1 rfl rfl)
theorem dX0_mend_2 : decode cX0_mend 2 = .ok (.invokevirtual 265, 3) := dk_182 1 9 (dk_at dksX0_mend_0 2 rfl rfl)
theorem dX0_mend_5 : decode cX0_mend 5 = .ok (.aload_n 0, 1) := dk_42 (dk_at dksX0_mend_0 5 rfl rfl)
theorem dX0_mend_6 : decode cX0_mend 6 = .ok (.getfield 167, 3) := dk_180 0 167 (dk_at dksX0_mend_0 6 rfl rfl)
theorem dX0_mend_9 : decode cX0_mend 9 = .ok (.getfield 338, 3) := dk_180 1 82 (dk_at dksX0_mend_0 9 rfl rfl)
theorem dX0_mend_12 : decode cX0_mend 12 = .ok (.iload_n 1, 1) := dk_27 (dk_at dksX0_mend_0 12 rfl rfl)
theorem dX0_mend_13 : decode cX0_mend 13 = .ok (.iaload, 1) := dk_46 (dk_at dksX0_mend_0 13 rfl rfl)
theorem dX0_mend_14 : decode cX0_mend 14 = .ok (.iconst 2, 1) := dk_5 (dk_at dksX0_mend_0 14 rfl rfl)
theorem dX0_mend_15 : decode cX0_mend 15 = .ok (.if_icmp .ne 7, 3) := dk_160 0 7 (dk_at dksX0_mend_0 15 rfl rfl)
theorem dX0_mend_18 : decode cX0_mend 18 = .ok (.iconst 1, 1) := dk_4 (dk_at dksX0_mend_0 18 rfl rfl)
theorem dX0_mend_19 : decode cX0_mend 19 = .ok (.goto 4, 3) := dk_167 0 4 (dk_at dksX0_mend_0 19 rfl rfl)
theorem dX0_mend_22 : decode cX0_mend 22 = .ok (.iconst 0, 1) := dk_3 (dk_at dksX0_mend_0 22 rfl rfl)
theorem dX0_mend_23 : decode cX0_mend 23 = .ok (.bipush (-6), 2) := dk_16 250 (dk_at dksX0_mend_1 0 rfl rfl)
theorem dX0_mend_25 : decode cX0_mend 25 = .ok (.invokestatic 213, 3) := dk_184 0 213 (dk_at dksX0_mend_1 2 rfl rfl)
theorem dX0_mend_28 : decode cX0_mend 28 = .ok (.aload_n 0, 1) := dk_42 (dk_at dksX0_mend_1 5 rfl rfl)
theorem dX0_mend_29 : decode cX0_mend 29 = .ok (.getfield 167, 3) := dk_180 0 167 (dk_at dksX0_mend_1 6 rfl rfl)
theorem dX0_mend_32 : decode cX0_mend 32 = .ok (.getfield 338, 3) := dk_180 1 82 (dk_at dksX0_mend_1 9 rfl rfl)
theorem dX0_mend_35 : decode cX0_mend 35 = .ok (.iload_n 1, 1) := dk_27 (dk_at dksX0_mend_1 12 rfl rfl)
theorem dX0_mend_36 : decode cX0_mend 36 = .ok (.iconst 0, 1) := dk_3 (dk_at dksX0_mend_1 13 rfl rfl)
theorem dX0_mend_37 : decode cX0_mend 37 = .ok (.iastore, 1) := dk_79 (dk_at dksX0_mend_1 14 rfl rfl)
theorem dX0_mend_38 : decode cX0_mend 38 = .ok (.aload_n 0, 1) := dk_42 (dk_at dksX0_mend_1 15 rfl rfl)
theorem dX0_mend_39 : decode cX0_mend 39 = .ok (.getfield 167, 3) := dk_180 0 167 (dk_at dksX0_mend_1 16 rfl rfl)
theorem dX0_mend_42 : decode cX0_mend 42 = .ok (.getfield 353, 3) := dk_180 1 97 (dk_at dksX0_mend_1 19 rfl rfl)
theorem dX0_mend_45 : decode cX0_mend 45 = .ok (.iload_n 1, 1) := dk_27 (dk_at dksX0_mend_1 22 rfl rfl)
theorem dX0_mend_46 : decode cX0_mend 46 = .ok (.iaload, 1) := dk_46 (dk_at dksX0_mend_1 23 rfl rfl)
theorem dX0_mend_47 : decode cX0_mend 47 = .ok (.ireturn, 1) := dk_172 (dk_at dksX0_mend_2 0 rfl rfl)
theorem dX0_mend_48 : decode cX0_mend 48 = .ok (.astore_n 2, 1) := dk_77 (dk_at dksX0_mend_2 1 rfl rfl)
theorem dX0_mend_49 : decode cX0_mend 49 = .ok (.aload_n 0, 1) := dk_42 (dk_at dksX0_mend_2 2 rfl rfl)
theorem dX0_mend_50 : decode cX0_mend 50 = .ok (.aload_n 2, 1) := dk_44 (dk_at dksX0_mend_2 3 rfl rfl)
theorem dX0_mend_51 : decode cX0_mend 51 = .ok (.invokevirtual 230, 3) := dk_182 0 230 (dk_at dksX0_mend_2 4 rfl rfl)
theorem dX0_mend_54 : decode cX0_mend 54 = .ok (.ireturn, 1) := dk_172 (dk_at dksX0_mend_2 7 rfl rfl)
abbrev cX0_remove : ByteArray := prog_1_method_42_code
def yX0_remove : MethodName := ⟨RX0, "remove", "(I)I"⟩
def dkwX0_remove_4 : List UInt8 := [182, 0, 230, 172]
abbrev dktX0_remove_4 : List UInt8 := dkwX0_remove_4 ++ []
def dkwX0_remove_3 : List UInt8 := [180, 1, 50, 42, 180, 0, 167, 180, 1, 5, 27, 50, 180, 1, 103, 182, 1, 160, 87, 28, 172, 77, 42, 44]
abbrev dktX0_remove_3 : List UInt8 := dkwX0_remove_3 ++ dktX0_remove_4
def dkwX0_remove_2 : List UInt8 := [27, 184, 1, 156, 167, 0, 4, 3, 61, 42, 180, 0, 167, 180, 1, 82, 27, 6, 79, 42, 180, 0, 167]
abbrev dktX0_remove_2 : List UInt8 := dkwX0_remove_2 ++ dktX0_remove_3
def dkwX0_remove_1 : List UInt8 := [16, 250, 184, 0, 213, 42, 180, 0, 167, 27, 182, 0, 124, 153, 0, 18, 42, 180, 0, 167, 42, 180, 0, 156]
abbrev dktX0_remove_1 : List UInt8 := dkwX0_remove_1 ++ dktX0_remove_2
def dkwX0_remove_0 : List UInt8 := [42, 27, 182, 1, 9, 42, 180, 0, 167, 180, 1, 82, 27, 46, 6, 159, 0, 7, 4, 167, 0, 4, 3]
abbrev dktX0_remove_0 : List UInt8 := dkwX0_remove_0 ++ dktX0_remove_1
theorem dksX0_remove_0 : cX0_remove.data.toList.drop 0 = dktX0_remove_0 := by decide +kernel
theorem dksX0_remove_1 : cX0_remove.data.toList.drop 23 = dktX0_remove_1 := dk_seg dksX0_remove_0 23 rfl rfl
theorem dksX0_remove_2 : cX0_remove.data.toList.drop 47 = dktX0_remove_2 := dk_seg dksX0_remove_1 24 rfl rfl
theorem dksX0_remove_3 : cX0_remove.data.toList.drop 70 = dktX0_remove_3 := dk_seg dksX0_remove_2 23 rfl rfl
theorem dksX0_remove_4 : cX0_remove.data.toList.drop 94 = dktX0_remove_4 := dk_seg dksX0_remove_3 24 rfl rfl
theorem dX0_remove_0 : decode cX0_remove 0 = .ok (.aload_n 0, 1) := dk_42 (dk_at dksX0_remove_0 0 rfl rfl)
theorem dX0_remove_1 : decode cX0_remove 1 = .ok (.iload_n 1, 1) := dk_27 (dk_at dksX0_remove_0 1 rfl rfl)
theorem dX0_remove_2 : decode cX0_remove 2 = .ok (.invokevirtual 265, 3) := dk_182 1 9 (dk_at dksX0_remove_0 2 rfl rfl)
theorem dX0_remove_5 : decode cX0_remove 5 = .ok (.aload_n 0, 1) := dk_42 (dk_at dksX0_remove_0 5 rfl rfl)
theorem dX0_remove_6 : decode cX0_remove 6 = .ok (.getfield 167, 3) := dk_180 0 167 (dk_at dksX0_remove_0 6 rfl rfl)
theorem dX0_remove_9 : decode cX0_remove 9 = .ok (.getfield 338, 3) := dk_180 1 82 (dk_at dksX0_remove_0 9 rfl rfl)
theorem dX0_remove_12 : decode cX0_remove 12 = .ok (.iload_n 1, 1) := dk_27 (dk_at dksX0_remove_0 12 rfl rfl)
theorem dX0_remove_13 : decode cX0_remove 13 = .ok (.iaload, 1) := dk_46 (dk_at dksX0_remove_0 13 rfl rfl)
theorem dX0_remove_14 : decode cX0_remove 14 = .ok (.iconst 3, 1) := dk_6 (dk_at dksX0_remove_0 14 rfl rfl)
theorem dX0_remove_15 : decode cX0_remove 15 = .ok (.if_icmp .eq 7, 3) := dk_159 0 7 (dk_at dksX0_remove_0 15 rfl rfl)
theorem dX0_remove_18 : decode cX0_remove 18 = .ok (.iconst 1, 1) := dk_4 (dk_at dksX0_remove_0 18 rfl rfl)
theorem dX0_remove_19 : decode cX0_remove 19 = .ok (.goto 4, 3) := dk_167 0 4 (dk_at dksX0_remove_0 19 rfl rfl)
theorem dX0_remove_22 : decode cX0_remove 22 = .ok (.iconst 0, 1) := dk_3 (dk_at dksX0_remove_0 22 rfl rfl)
theorem dX0_remove_23 : decode cX0_remove 23 = .ok (.bipush (-6), 2) := dk_16 250 (dk_at dksX0_remove_1 0 rfl rfl)
theorem dX0_remove_25 : decode cX0_remove 25 = .ok (.invokestatic 213, 3) := dk_184 0 213 (dk_at dksX0_remove_1 2 rfl rfl)
theorem dX0_remove_28 : decode cX0_remove 28 = .ok (.aload_n 0, 1) := dk_42 (dk_at dksX0_remove_1 5 rfl rfl)
theorem dX0_remove_29 : decode cX0_remove 29 = .ok (.getfield 167, 3) := dk_180 0 167 (dk_at dksX0_remove_1 6 rfl rfl)
theorem dX0_remove_32 : decode cX0_remove 32 = .ok (.iload_n 1, 1) := dk_27 (dk_at dksX0_remove_1 9 rfl rfl)
theorem dX0_remove_33 : decode cX0_remove 33 = .ok (.invokevirtual 124, 3) := dk_182 0 124 (dk_at dksX0_remove_1 10 rfl rfl)
theorem dX0_remove_36 : decode cX0_remove 36 = .ok (.ifCond .eq 18, 3) := dk_153 0 18 (dk_at dksX0_remove_1 13 rfl rfl)
theorem dX0_remove_39 : decode cX0_remove 39 = .ok (.aload_n 0, 1) := dk_42 (dk_at dksX0_remove_1 16 rfl rfl)
theorem dX0_remove_40 : decode cX0_remove 40 = .ok (.getfield 167, 3) := dk_180 0 167 (dk_at dksX0_remove_1 17 rfl rfl)
theorem dX0_remove_43 : decode cX0_remove 43 = .ok (.aload_n 0, 1) := dk_42 (dk_at dksX0_remove_1 20 rfl rfl)
theorem dX0_remove_44 : decode cX0_remove 44 = .ok (.getfield 156, 3) := dk_180 0 156 (dk_at dksX0_remove_1 21 rfl rfl)
theorem dX0_remove_47 : decode cX0_remove 47 = .ok (.iload_n 1, 1) := dk_27 (dk_at dksX0_remove_2 0 rfl rfl)
theorem dX0_remove_48 : decode cX0_remove 48 = .ok (.invokestatic 412, 3) := dk_184 1 156 (dk_at dksX0_remove_2 1 rfl rfl)
theorem dX0_remove_51 : decode cX0_remove 51 = .ok (.goto 4, 3) := dk_167 0 4 (dk_at dksX0_remove_2 4 rfl rfl)
theorem dX0_remove_54 : decode cX0_remove 54 = .ok (.iconst 0, 1) := dk_3 (dk_at dksX0_remove_2 7 rfl rfl)
theorem dX0_remove_55 : decode cX0_remove 55 = .ok (.istore_n 2, 1) := dk_61 (dk_at dksX0_remove_2 8 rfl rfl)
theorem dX0_remove_56 : decode cX0_remove 56 = .ok (.aload_n 0, 1) := dk_42 (dk_at dksX0_remove_2 9 rfl rfl)
theorem dX0_remove_57 : decode cX0_remove 57 = .ok (.getfield 167, 3) := dk_180 0 167 (dk_at dksX0_remove_2 10 rfl rfl)
theorem dX0_remove_60 : decode cX0_remove 60 = .ok (.getfield 338, 3) := dk_180 1 82 (dk_at dksX0_remove_2 13 rfl rfl)
theorem dX0_remove_63 : decode cX0_remove 63 = .ok (.iload_n 1, 1) := dk_27 (dk_at dksX0_remove_2 16 rfl rfl)
theorem dX0_remove_64 : decode cX0_remove 64 = .ok (.iconst 3, 1) := dk_6 (dk_at dksX0_remove_2 17 rfl rfl)
theorem dX0_remove_65 : decode cX0_remove 65 = .ok (.iastore, 1) := dk_79 (dk_at dksX0_remove_2 18 rfl rfl)
theorem dX0_remove_66 : decode cX0_remove 66 = .ok (.aload_n 0, 1) := dk_42 (dk_at dksX0_remove_2 19 rfl rfl)
theorem dX0_remove_67 : decode cX0_remove 67 = .ok (.getfield 167, 3) := dk_180 0 167 (dk_at dksX0_remove_2 20 rfl rfl)
theorem dX0_remove_70 : decode cX0_remove 70 = .ok (.getfield 306, 3) := dk_180 1 50 (dk_at dksX0_remove_3 0 rfl rfl)
theorem dX0_remove_73 : decode cX0_remove 73 = .ok (.aload_n 0, 1) := dk_42 (dk_at dksX0_remove_3 3 rfl rfl)
theorem dX0_remove_74 : decode cX0_remove 74 = .ok (.getfield 167, 3) := dk_180 0 167 (dk_at dksX0_remove_3 4 rfl rfl)
theorem dX0_remove_77 : decode cX0_remove 77 = .ok (.getfield 261, 3) := dk_180 1 5 (dk_at dksX0_remove_3 7 rfl rfl)
theorem dX0_remove_80 : decode cX0_remove 80 = .ok (.iload_n 1, 1) := dk_27 (dk_at dksX0_remove_3 10 rfl rfl)
theorem dX0_remove_81 : decode cX0_remove 81 = .ok (.aaload, 1) := dk_50 (dk_at dksX0_remove_3 11 rfl rfl)
theorem dX0_remove_82 : decode cX0_remove 82 = .ok (.getfield 359, 3) := dk_180 1 103 (dk_at dksX0_remove_3 12 rfl rfl)
theorem dX0_remove_85 : decode cX0_remove 85 = .ok (.invokevirtual 416, 3) := dk_182 1 160 (dk_at dksX0_remove_3 15 rfl rfl)
theorem dX0_remove_88 : decode cX0_remove 88 = .ok (.pop, 1) := dk_87 (dk_at dksX0_remove_3 18 rfl rfl)
theorem dX0_remove_89 : decode cX0_remove 89 = .ok (.iload_n 2, 1) := dk_28 (dk_at dksX0_remove_3 19 rfl rfl)
theorem dX0_remove_90 : decode cX0_remove 90 = .ok (.ireturn, 1) := dk_172 (dk_at dksX0_remove_3 20 rfl rfl)
theorem dX0_remove_91 : decode cX0_remove 91 = .ok (.astore_n 2, 1) := dk_77 (dk_at dksX0_remove_3 21 rfl rfl)
theorem dX0_remove_92 : decode cX0_remove 92 = .ok (.aload_n 0, 1) := dk_42 (dk_at dksX0_remove_3 22 rfl rfl)
theorem dX0_remove_93 : decode cX0_remove 93 = .ok (.aload_n 2, 1) := dk_44 (dk_at dksX0_remove_3 23 rfl rfl)
theorem dX0_remove_94 : decode cX0_remove 94 = .ok (.invokevirtual 230, 3) := dk_182 0 230 (dk_at dksX0_remove_4 0 rfl rfl)
theorem dX0_remove_97 : decode cX0_remove 97 = .ok (.ireturn, 1) := dk_172 (dk_at dksX0_remove_4 3 rfl rfl)
abbrev cX0_would : ByteArray := prog_1_method_43_code
def yX0_would : MethodName := ⟨RX0, "would", "(II)I"⟩
def dkwX0_would_4 : List UInt8 := [153, 0, 12, 45, 180, 1, 164, 28, 46, 167, 0, 4, 2, 172, 78, 42, 45, 182, 0, 230, 16, 10, 100, 172]
abbrev dktX0_would_4 : List UInt8 := dkwX0_would_4 ++ []
def dkwX0_would_3 : List UInt8 := [3, 54, 4, 28, 2, 160, 0, 8, 21, 4, 167, 0, 27, 28, 133, 9, 21, 4, 4, 100, 133, 184, 0, 219]
abbrev dktX0_would_3 : List UInt8 := dkwX0_would_3 ++ dktX0_would_4
def dkwX0_would_2 : List UInt8 := [89, 183, 0, 155, 183, 1, 137, 78, 45, 27, 182, 1, 140, 45, 180, 1, 143, 54, 4, 167, 0, 8, 58, 5]
abbrev dktX0_would_2 : List UInt8 := dkwX0_would_2 ++ dktX0_would_3
def dkwX0_would_1 : List UInt8 := [184, 0, 213, 187, 1, 135, 89, 187, 0, 45, 89, 183, 0, 166, 42, 180, 0, 167, 182, 1, 62, 187, 0, 153]
abbrev dktX0_would_1 : List UInt8 := dkwX0_would_1 ++ dktX0_would_2
def dkwX0_would_0 : List UInt8 := [42, 27, 182, 1, 9, 42, 180, 0, 167, 27, 182, 0, 124, 154, 0, 7, 4, 167, 0, 4, 3, 16, 250]
abbrev dktX0_would_0 : List UInt8 := dkwX0_would_0 ++ dktX0_would_1
theorem dksX0_would_0 : cX0_would.data.toList.drop 0 = dktX0_would_0 := by decide +kernel
theorem dksX0_would_1 : cX0_would.data.toList.drop 23 = dktX0_would_1 := dk_seg dksX0_would_0 23 rfl rfl
theorem dksX0_would_2 : cX0_would.data.toList.drop 47 = dktX0_would_2 := dk_seg dksX0_would_1 24 rfl rfl
theorem dksX0_would_3 : cX0_would.data.toList.drop 71 = dktX0_would_3 := dk_seg dksX0_would_2 24 rfl rfl
theorem dksX0_would_4 : cX0_would.data.toList.drop 95 = dktX0_would_4 := dk_seg dksX0_would_3 24 rfl rfl
theorem dX0_would_0 : decode cX0_would 0 = .ok (.aload_n 0, 1) := dk_42 (dk_at dksX0_would_0 0 rfl rfl)
theorem dX0_would_1 : decode cX0_would 1 = .ok (.iload_n 1, 1) := dk_27 (dk_at dksX0_would_0 1 rfl rfl)
theorem dX0_would_2 : decode cX0_would 2 = .ok (.invokevirtual 265, 3) := dk_182 1 9 (dk_at dksX0_would_0 2 rfl rfl)
theorem dX0_would_5 : decode cX0_would 5 = .ok (.aload_n 0, 1) := dk_42 (dk_at dksX0_would_0 5 rfl rfl)
theorem dX0_would_6 : decode cX0_would 6 = .ok (.getfield 167, 3) := dk_180 0 167 (dk_at dksX0_would_0 6 rfl rfl)
theorem dX0_would_9 : decode cX0_would 9 = .ok (.iload_n 1, 1) := dk_27 (dk_at dksX0_would_0 9 rfl rfl)
theorem dX0_would_10 : decode cX0_would 10 = .ok (.invokevirtual 124, 3) := dk_182 0 124 (dk_at dksX0_would_0 10 rfl rfl)
theorem dX0_would_13 : decode cX0_would 13 = .ok (.ifCond .ne 7, 3) := dk_154 0 7 (dk_at dksX0_would_0 13 rfl rfl)
theorem dX0_would_16 : decode cX0_would 16 = .ok (.iconst 1, 1) := dk_4 (dk_at dksX0_would_0 16 rfl rfl)
theorem dX0_would_17 : decode cX0_would 17 = .ok (.goto 4, 3) := dk_167 0 4 (dk_at dksX0_would_0 17 rfl rfl)
theorem dX0_would_20 : decode cX0_would 20 = .ok (.iconst 0, 1) := dk_3 (dk_at dksX0_would_0 20 rfl rfl)
theorem dX0_would_21 : decode cX0_would 21 = .ok (.bipush (-6), 2) := dk_16 250 (dk_at dksX0_would_0 21 rfl rfl)
theorem dX0_would_23 : decode cX0_would 23 = .ok (.invokestatic 213, 3) := dk_184 0 213 (dk_at dksX0_would_1 0 rfl rfl)
theorem dX0_would_26 : decode cX0_would 26 = .ok (.new 391, 3) := dk_187 1 135 (dk_at dksX0_would_1 3 rfl rfl)
theorem dX0_would_29 : decode cX0_would 29 = .ok (.dup, 1) := dk_89 (dk_at dksX0_would_1 6 rfl rfl)
theorem dX0_would_30 : decode cX0_would 30 = .ok (.new 45, 3) := dk_187 0 45 (dk_at dksX0_would_1 7 rfl rfl)
theorem dX0_would_33 : decode cX0_would 33 = .ok (.dup, 1) := dk_89 (dk_at dksX0_would_1 10 rfl rfl)
theorem dX0_would_34 : decode cX0_would 34 = .ok (.invokespecial 166, 3) := dk_183 0 166 (dk_at dksX0_would_1 11 rfl rfl)
theorem dX0_would_37 : decode cX0_would 37 = .ok (.aload_n 0, 1) := dk_42 (dk_at dksX0_would_1 14 rfl rfl)
theorem dX0_would_38 : decode cX0_would 38 = .ok (.getfield 167, 3) := dk_180 0 167 (dk_at dksX0_would_1 15 rfl rfl)
theorem dX0_would_41 : decode cX0_would 41 = .ok (.invokevirtual 318, 3) := dk_182 1 62 (dk_at dksX0_would_1 18 rfl rfl)
theorem dX0_would_44 : decode cX0_would 44 = .ok (.new 153, 3) := dk_187 0 153 (dk_at dksX0_would_1 21 rfl rfl)
theorem dX0_would_47 : decode cX0_would 47 = .ok (.dup, 1) := dk_89 (dk_at dksX0_would_2 0 rfl rfl)
theorem dX0_would_48 : decode cX0_would 48 = .ok (.invokespecial 155, 3) := dk_183 0 155 (dk_at dksX0_would_2 1 rfl rfl)
theorem dX0_would_51 : decode cX0_would 51 = .ok (.invokespecial 393, 3) := dk_183 1 137 (dk_at dksX0_would_2 4 rfl rfl)
theorem dX0_would_54 : decode cX0_would 54 = .ok (.astore_n 3, 1) := dk_78 (dk_at dksX0_would_2 7 rfl rfl)
theorem dX0_would_55 : decode cX0_would 55 = .ok (.aload_n 3, 1) := dk_45 (dk_at dksX0_would_2 8 rfl rfl)
theorem dX0_would_56 : decode cX0_would 56 = .ok (.iload_n 1, 1) := dk_27 (dk_at dksX0_would_2 9 rfl rfl)
theorem dX0_would_57 : decode cX0_would 57 = .ok (.invokevirtual 396, 3) := dk_182 1 140 (dk_at dksX0_would_2 10 rfl rfl)
theorem dX0_would_60 : decode cX0_would 60 = .ok (.aload_n 3, 1) := dk_45 (dk_at dksX0_would_2 13 rfl rfl)
theorem dX0_would_61 : decode cX0_would 61 = .ok (.getfield 399, 3) := dk_180 1 143 (dk_at dksX0_would_2 14 rfl rfl)
theorem dX0_would_64 : decode cX0_would 64 = .ok (.istore 4, 2) := dk_54 4 (dk_at dksX0_would_2 17 rfl rfl)
theorem dX0_would_66 : decode cX0_would 66 = .ok (.goto 8, 3) := dk_167 0 8 (dk_at dksX0_would_2 19 rfl rfl)
theorem dX0_would_69 : decode cX0_would 69 = .ok (.astore 5, 2) := dk_58 5 (dk_at dksX0_would_2 22 rfl rfl)
theorem dX0_would_71 : decode cX0_would 71 = .ok (.iconst 0, 1) := dk_3 (dk_at dksX0_would_3 0 rfl rfl)
theorem dX0_would_72 : decode cX0_would 72 = .ok (.istore 4, 2) := dk_54 4 (dk_at dksX0_would_3 1 rfl rfl)
theorem dX0_would_74 : decode cX0_would 74 = .ok (.iload_n 2, 1) := dk_28 (dk_at dksX0_would_3 3 rfl rfl)
theorem dX0_would_75 : decode cX0_would 75 = .ok (.iconst (-1), 1) := dk_2 (dk_at dksX0_would_3 4 rfl rfl)
theorem dX0_would_76 : decode cX0_would 76 = .ok (.if_icmp .ne 8, 3) := dk_160 0 8 (dk_at dksX0_would_3 5 rfl rfl)
theorem dX0_would_79 : decode cX0_would 79 = .ok (.iload 4, 2) := dk_21 4 (dk_at dksX0_would_3 8 rfl rfl)
theorem dX0_would_81 : decode cX0_would 81 = .ok (.goto 27, 3) := dk_167 0 27 (dk_at dksX0_would_3 10 rfl rfl)
theorem dX0_would_84 : decode cX0_would 84 = .ok (.iload_n 2, 1) := dk_28 (dk_at dksX0_would_3 13 rfl rfl)
theorem dX0_would_85 : decode cX0_would 85 = .ok (.i2l, 1) := dk_133 (dk_at dksX0_would_3 14 rfl rfl)
theorem dX0_would_86 : decode cX0_would 86 = .ok (.lconst 0, 1) := dk_9 (dk_at dksX0_would_3 15 rfl rfl)
theorem dX0_would_87 : decode cX0_would 87 = .ok (.iload 4, 2) := dk_21 4 (dk_at dksX0_would_3 16 rfl rfl)
theorem dX0_would_89 : decode cX0_would 89 = .ok (.iconst 1, 1) := dk_4 (dk_at dksX0_would_3 18 rfl rfl)
theorem dX0_would_90 : decode cX0_would 90 = .ok (.isub, 1) := dk_100 (dk_at dksX0_would_3 19 rfl rfl)
theorem dX0_would_91 : decode cX0_would 91 = .ok (.i2l, 1) := dk_133 (dk_at dksX0_would_3 20 rfl rfl)
theorem dX0_would_92 : decode cX0_would 92 = .ok (.invokestatic 219, 3) := dk_184 0 219 (dk_at dksX0_would_3 21 rfl rfl)
theorem dX0_would_95 : decode cX0_would 95 = .ok (.ifCond .eq 12, 3) := dk_153 0 12 (dk_at dksX0_would_4 0 rfl rfl)
theorem dX0_would_98 : decode cX0_would 98 = .ok (.aload_n 3, 1) := dk_45 (dk_at dksX0_would_4 3 rfl rfl)
theorem dX0_would_99 : decode cX0_would 99 = .ok (.getfield 420, 3) := dk_180 1 164 (dk_at dksX0_would_4 4 rfl rfl)
theorem dX0_would_102 : decode cX0_would 102 = .ok (.iload_n 2, 1) := dk_28 (dk_at dksX0_would_4 7 rfl rfl)
theorem dX0_would_103 : decode cX0_would 103 = .ok (.iaload, 1) := dk_46 (dk_at dksX0_would_4 8 rfl rfl)
theorem dX0_would_104 : decode cX0_would 104 = .ok (.goto 4, 3) := dk_167 0 4 (dk_at dksX0_would_4 9 rfl rfl)
theorem dX0_would_107 : decode cX0_would 107 = .ok (.iconst (-1), 1) := dk_2 (dk_at dksX0_would_4 12 rfl rfl)
theorem dX0_would_108 : decode cX0_would 108 = .ok (.ireturn, 1) := dk_172 (dk_at dksX0_would_4 13 rfl rfl)
theorem dX0_would_109 : decode cX0_would 109 = .ok (.astore_n 3, 1) := dk_78 (dk_at dksX0_would_4 14 rfl rfl)
theorem dX0_would_110 : decode cX0_would 110 = .ok (.aload_n 0, 1) := dk_42 (dk_at dksX0_would_4 15 rfl rfl)
theorem dX0_would_111 : decode cX0_would 111 = .ok (.aload_n 3, 1) := dk_45 (dk_at dksX0_would_4 16 rfl rfl)
theorem dX0_would_112 : decode cX0_would 112 = .ok (.invokevirtual 230, 3) := dk_182 0 230 (dk_at dksX0_would_4 17 rfl rfl)
theorem dX0_would_115 : decode cX0_would 115 = .ok (.bipush 10, 2) := dk_16 10 (dk_at dksX0_would_4 20 rfl rfl)
theorem dX0_would_117 : decode cX0_would 117 = .ok (.isub, 1) := dk_100 (dk_at dksX0_would_4 22 rfl rfl)
theorem dX0_would_118 : decode cX0_would 118 = .ok (.ireturn, 1) := dk_172 (dk_at dksX0_would_4 23 rfl rfl)
abbrev cX0_running : ByteArray := prog_1_method_44_code
def yX0_running : MethodName := ⟨RX0, "running", "(I)I"⟩
def dkwX0_running_2 : List UInt8 := [172, 132, 2, 1, 167, 255, 222, 2, 172]
abbrev dktX0_running_2 : List UInt8 := dkwX0_running_2 ++ []
def dkwX0_running_1 : List UInt8 := [153, 0, 31, 45, 185, 1, 179, 1, 0, 192, 0, 67, 182, 0, 86, 54, 4, 28, 27, 160, 0, 6, 21, 4]
abbrev dktX0_running_1 : List UInt8 := dkwX0_running_1 ++ dktX0_running_2
def dkwX0_running_0 : List UInt8 := [3, 61, 187, 1, 167, 89, 42, 180, 0, 167, 183, 1, 169, 182, 1, 170, 78, 45, 185, 1, 174, 1, 0]
abbrev dktX0_running_0 : List UInt8 := dkwX0_running_0 ++ dktX0_running_1
theorem dksX0_running_0 : cX0_running.data.toList.drop 0 = dktX0_running_0 := by decide +kernel
theorem dksX0_running_1 : cX0_running.data.toList.drop 23 = dktX0_running_1 := dk_seg dksX0_running_0 23 rfl rfl
theorem dksX0_running_2 : cX0_running.data.toList.drop 47 = dktX0_running_2 := dk_seg dksX0_running_1 24 rfl rfl
theorem dX0_running_0 : decode cX0_running 0 = .ok (.iconst 0, 1) := dk_3 (dk_at dksX0_running_0 0 rfl rfl)
theorem dX0_running_1 : decode cX0_running 1 = .ok (.istore_n 2, 1) := dk_61 (dk_at dksX0_running_0 1 rfl rfl)
theorem dX0_running_2 : decode cX0_running 2 = .ok (.new 423, 3) := dk_187 1 167 (dk_at dksX0_running_0 2 rfl rfl)
theorem dX0_running_5 : decode cX0_running 5 = .ok (.dup, 1) := dk_89 (dk_at dksX0_running_0 5 rfl rfl)
theorem dX0_running_6 : decode cX0_running 6 = .ok (.aload_n 0, 1) := dk_42 (dk_at dksX0_running_0 6 rfl rfl)
theorem dX0_running_7 : decode cX0_running 7 = .ok (.getfield 167, 3) := dk_180 0 167 (dk_at dksX0_running_0 7 rfl rfl)
theorem dX0_running_10 : decode cX0_running 10 = .ok (.invokespecial 425, 3) := dk_183 1 169 (dk_at dksX0_running_0 10 rfl rfl)
theorem dX0_running_13 : decode cX0_running 13 = .ok (.invokevirtual 426, 3) := dk_182 1 170 (dk_at dksX0_running_0 13 rfl rfl)
theorem dX0_running_16 : decode cX0_running 16 = .ok (.astore_n 3, 1) := dk_78 (dk_at dksX0_running_0 16 rfl rfl)
theorem dX0_running_17 : decode cX0_running 17 = .ok (.aload_n 3, 1) := dk_45 (dk_at dksX0_running_0 17 rfl rfl)
theorem dX0_running_18 : decode cX0_running 18 = .ok (.invokeinterface 430 1, 5) := by decide +kernel
theorem dX0_running_23 : decode cX0_running 23 = .ok (.ifCond .eq 31, 3) := dk_153 0 31 (dk_at dksX0_running_1 0 rfl rfl)
theorem dX0_running_26 : decode cX0_running 26 = .ok (.aload_n 3, 1) := dk_45 (dk_at dksX0_running_1 3 rfl rfl)
theorem dX0_running_27 : decode cX0_running 27 = .ok (.invokeinterface 435 1, 5) := by decide +kernel
theorem dX0_running_32 : decode cX0_running 32 = .ok (.checkcast 67, 3) := dk_192 0 67 (dk_at dksX0_running_1 9 rfl rfl)
theorem dX0_running_35 : decode cX0_running 35 = .ok (.invokevirtual 86, 3) := dk_182 0 86 (dk_at dksX0_running_1 12 rfl rfl)
theorem dX0_running_38 : decode cX0_running 38 = .ok (.istore 4, 2) := dk_54 4 (dk_at dksX0_running_1 15 rfl rfl)
theorem dX0_running_40 : decode cX0_running 40 = .ok (.iload_n 2, 1) := dk_28 (dk_at dksX0_running_1 17 rfl rfl)
theorem dX0_running_41 : decode cX0_running 41 = .ok (.iload_n 1, 1) := dk_27 (dk_at dksX0_running_1 18 rfl rfl)
theorem dX0_running_42 : decode cX0_running 42 = .ok (.if_icmp .ne 6, 3) := dk_160 0 6 (dk_at dksX0_running_1 19 rfl rfl)
theorem dX0_running_45 : decode cX0_running 45 = .ok (.iload 4, 2) := dk_21 4 (dk_at dksX0_running_1 22 rfl rfl)
theorem dX0_running_47 : decode cX0_running 47 = .ok (.ireturn, 1) := dk_172 (dk_at dksX0_running_2 0 rfl rfl)
theorem dX0_running_48 : decode cX0_running 48 = .ok (.iinc 2 1, 3) := dk_132 2 1 (dk_at dksX0_running_2 1 rfl rfl)
theorem dX0_running_51 : decode cX0_running 51 = .ok (.goto (-34), 3) := dk_167 255 222 (dk_at dksX0_running_2 4 rfl rfl)
theorem dX0_running_54 : decode cX0_running 54 = .ok (.iconst (-1), 1) := dk_2 (dk_at dksX0_running_2 7 rfl rfl)
theorem dX0_running_55 : decode cX0_running 55 = .ok (.ireturn, 1) := dk_172 (dk_at dksX0_running_2 8 rfl rfl)
abbrev cX0_offered : ByteArray := prog_1_method_45_code
def yX0_offered : MethodName := ⟨RX0, "offered", "(I)I"⟩
def dkwX0_offered_3 : List UInt8 := [167, 0, 4, 3, 128, 61, 167, 255, 202, 28, 172, 77, 42, 44, 182, 0, 230, 172]
abbrev dktX0_offered_3 : List UInt8 := dkwX0_offered_3 ++ []
def dkwX0_offered_2 : List UInt8 := [180, 0, 167, 180, 1, 5, 21, 4, 50, 180, 1, 94, 27, 184, 1, 120, 153, 0, 10, 4, 21, 4, 120]
abbrev dktX0_offered_2 : List UInt8 := dkwX0_offered_2 ++ dktX0_offered_3
def dkwX0_offered_1 : List UInt8 := [185, 1, 174, 1, 0, 153, 0, 51, 45, 185, 1, 179, 1, 0, 192, 0, 67, 182, 0, 86, 54, 4, 28, 42]
abbrev dktX0_offered_1 : List UInt8 := dkwX0_offered_1 ++ dktX0_offered_2
def dkwX0_offered_0 : List UInt8 := [27, 184, 1, 117, 3, 61, 187, 1, 167, 89, 42, 180, 0, 167, 183, 1, 169, 182, 1, 170, 78, 45]
abbrev dktX0_offered_0 : List UInt8 := dkwX0_offered_0 ++ dktX0_offered_1
theorem dksX0_offered_0 : cX0_offered.data.toList.drop 0 = dktX0_offered_0 := by decide +kernel
theorem dksX0_offered_1 : cX0_offered.data.toList.drop 22 = dktX0_offered_1 := dk_seg dksX0_offered_0 22 rfl rfl
theorem dksX0_offered_2 : cX0_offered.data.toList.drop 46 = dktX0_offered_2 := dk_seg dksX0_offered_1 24 rfl rfl
theorem dksX0_offered_3 : cX0_offered.data.toList.drop 69 = dktX0_offered_3 := dk_seg dksX0_offered_2 23 rfl rfl
theorem dX0_offered_0 : decode cX0_offered 0 = .ok (.iload_n 1, 1) := dk_27 (dk_at dksX0_offered_0 0 rfl rfl)
theorem dX0_offered_1 : decode cX0_offered 1 = .ok (.invokestatic 373, 3) := dk_184 1 117 (dk_at dksX0_offered_0 1 rfl rfl)
theorem dX0_offered_4 : decode cX0_offered 4 = .ok (.iconst 0, 1) := dk_3 (dk_at dksX0_offered_0 4 rfl rfl)
theorem dX0_offered_5 : decode cX0_offered 5 = .ok (.istore_n 2, 1) := dk_61 (dk_at dksX0_offered_0 5 rfl rfl)
theorem dX0_offered_6 : decode cX0_offered 6 = .ok (.new 423, 3) := dk_187 1 167 (dk_at dksX0_offered_0 6 rfl rfl)
theorem dX0_offered_9 : decode cX0_offered 9 = .ok (.dup, 1) := dk_89 (dk_at dksX0_offered_0 9 rfl rfl)
theorem dX0_offered_10 : decode cX0_offered 10 = .ok (.aload_n 0, 1) := dk_42 (dk_at dksX0_offered_0 10 rfl rfl)
theorem dX0_offered_11 : decode cX0_offered 11 = .ok (.getfield 167, 3) := dk_180 0 167 (dk_at dksX0_offered_0 11 rfl rfl)
theorem dX0_offered_14 : decode cX0_offered 14 = .ok (.invokespecial 425, 3) := dk_183 1 169 (dk_at dksX0_offered_0 14 rfl rfl)
theorem dX0_offered_17 : decode cX0_offered 17 = .ok (.invokevirtual 426, 3) := dk_182 1 170 (dk_at dksX0_offered_0 17 rfl rfl)
theorem dX0_offered_20 : decode cX0_offered 20 = .ok (.astore_n 3, 1) := dk_78 (dk_at dksX0_offered_0 20 rfl rfl)
theorem dX0_offered_21 : decode cX0_offered 21 = .ok (.aload_n 3, 1) := dk_45 (dk_at dksX0_offered_0 21 rfl rfl)
theorem dX0_offered_22 : decode cX0_offered 22 = .ok (.invokeinterface 430 1, 5) := by decide +kernel
theorem dX0_offered_27 : decode cX0_offered 27 = .ok (.ifCond .eq 51, 3) := dk_153 0 51 (dk_at dksX0_offered_1 5 rfl rfl)
theorem dX0_offered_30 : decode cX0_offered 30 = .ok (.aload_n 3, 1) := dk_45 (dk_at dksX0_offered_1 8 rfl rfl)
theorem dX0_offered_31 : decode cX0_offered 31 = .ok (.invokeinterface 435 1, 5) := by decide +kernel
theorem dX0_offered_36 : decode cX0_offered 36 = .ok (.checkcast 67, 3) := dk_192 0 67 (dk_at dksX0_offered_1 14 rfl rfl)
theorem dX0_offered_39 : decode cX0_offered 39 = .ok (.invokevirtual 86, 3) := dk_182 0 86 (dk_at dksX0_offered_1 17 rfl rfl)
theorem dX0_offered_42 : decode cX0_offered 42 = .ok (.istore 4, 2) := dk_54 4 (dk_at dksX0_offered_1 20 rfl rfl)
theorem dX0_offered_44 : decode cX0_offered 44 = .ok (.iload_n 2, 1) := dk_28 (dk_at dksX0_offered_1 22 rfl rfl)
theorem dX0_offered_45 : decode cX0_offered 45 = .ok (.aload_n 0, 1) := dk_42 (dk_at dksX0_offered_1 23 rfl rfl)
theorem dX0_offered_46 : decode cX0_offered 46 = .ok (.getfield 167, 3) := dk_180 0 167 (dk_at dksX0_offered_2 0 rfl rfl)
theorem dX0_offered_49 : decode cX0_offered 49 = .ok (.getfield 261, 3) := dk_180 1 5 (dk_at dksX0_offered_2 3 rfl rfl)
theorem dX0_offered_52 : decode cX0_offered 52 = .ok (.iload 4, 2) := dk_21 4 (dk_at dksX0_offered_2 6 rfl rfl)
theorem dX0_offered_54 : decode cX0_offered 54 = .ok (.aaload, 1) := dk_50 (dk_at dksX0_offered_2 8 rfl rfl)
theorem dX0_offered_55 : decode cX0_offered 55 = .ok (.getfield 350, 3) := dk_180 1 94 (dk_at dksX0_offered_2 9 rfl rfl)
theorem dX0_offered_58 : decode cX0_offered 58 = .ok (.iload_n 1, 1) := dk_27 (dk_at dksX0_offered_2 12 rfl rfl)
theorem dX0_offered_59 : decode cX0_offered 59 = .ok (.invokestatic 376, 3) := dk_184 1 120 (dk_at dksX0_offered_2 13 rfl rfl)
theorem dX0_offered_62 : decode cX0_offered 62 = .ok (.ifCond .eq 10, 3) := dk_153 0 10 (dk_at dksX0_offered_2 16 rfl rfl)
theorem dX0_offered_65 : decode cX0_offered 65 = .ok (.iconst 1, 1) := dk_4 (dk_at dksX0_offered_2 19 rfl rfl)
theorem dX0_offered_66 : decode cX0_offered 66 = .ok (.iload 4, 2) := dk_21 4 (dk_at dksX0_offered_2 20 rfl rfl)
theorem dX0_offered_68 : decode cX0_offered 68 = .ok (.ishl, 1) := dk_120 (dk_at dksX0_offered_2 22 rfl rfl)
theorem dX0_offered_69 : decode cX0_offered 69 = .ok (.goto 4, 3) := dk_167 0 4 (dk_at dksX0_offered_3 0 rfl rfl)
theorem dX0_offered_72 : decode cX0_offered 72 = .ok (.iconst 0, 1) := dk_3 (dk_at dksX0_offered_3 3 rfl rfl)
theorem dX0_offered_73 : decode cX0_offered 73 = .ok (.ior, 1) := dk_128 (dk_at dksX0_offered_3 4 rfl rfl)
theorem dX0_offered_74 : decode cX0_offered 74 = .ok (.istore_n 2, 1) := dk_61 (dk_at dksX0_offered_3 5 rfl rfl)
theorem dX0_offered_75 : decode cX0_offered 75 = .ok (.goto (-54), 3) := dk_167 255 202 (dk_at dksX0_offered_3 6 rfl rfl)
theorem dX0_offered_78 : decode cX0_offered 78 = .ok (.iload_n 2, 1) := dk_28 (dk_at dksX0_offered_3 9 rfl rfl)
theorem dX0_offered_79 : decode cX0_offered 79 = .ok (.ireturn, 1) := dk_172 (dk_at dksX0_offered_3 10 rfl rfl)
theorem dX0_offered_80 : decode cX0_offered 80 = .ok (.astore_n 2, 1) := dk_77 (dk_at dksX0_offered_3 11 rfl rfl)
theorem dX0_offered_81 : decode cX0_offered 81 = .ok (.aload_n 0, 1) := dk_42 (dk_at dksX0_offered_3 12 rfl rfl)
theorem dX0_offered_82 : decode cX0_offered 82 = .ok (.aload_n 2, 1) := dk_44 (dk_at dksX0_offered_3 13 rfl rfl)
theorem dX0_offered_83 : decode cX0_offered 83 = .ok (.invokevirtual 230, 3) := dk_182 0 230 (dk_at dksX0_offered_3 14 rfl rfl)
theorem dX0_offered_86 : decode cX0_offered 86 = .ok (.ireturn, 1) := dk_172 (dk_at dksX0_offered_3 17 rfl rfl)
abbrev cX0_hook : ByteArray := prog_1_method_46_code
def yX0_hook : MethodName := ⟨RX0, "hook", "(IIIII)I"⟩
def dkwX0_hook_7 : List UInt8 := [172]
abbrev dktX0_hook_7 : List UInt8 := dkwX0_hook_7 ++ []
def dkwX0_hook_6 : List UInt8 := [83, 42, 180, 0, 167, 89, 180, 0, 109, 90, 4, 96, 181, 0, 109, 172, 58, 6, 42, 25, 6, 182, 0, 230]
abbrev dktX0_hook_6 : List UInt8 := dkwX0_hook_6 ++ dktX0_hook_7
def dkwX0_hook_5 : List UInt8 := [180, 0, 109, 187, 0, 117, 89, 42, 180, 0, 167, 180, 0, 109, 27, 28, 29, 21, 4, 21, 5, 183, 1, 193]
abbrev dktX0_hook_5 : List UInt8 := dkwX0_hook_5 ++ dktX0_hook_6
def dkwX0_hook_4 : List UInt8 := [162, 0, 7, 4, 167, 0, 4, 3, 16, 249, 184, 0, 213, 42, 180, 0, 167, 180, 0, 112, 42, 180, 0, 167]
abbrev dktX0_hook_4 : List UInt8 := dkwX0_hook_4 ++ dktX0_hook_5
def dkwX0_hook_3 : List UInt8 := [153, 0, 7, 4, 167, 0, 4, 3, 16, 250, 184, 0, 213, 42, 180, 0, 167, 180, 0, 109, 16, 24]
abbrev dktX0_hook_3 : List UInt8 := dkwX0_hook_3 ++ dktX0_hook_4
def dkwX0_hook_2 : List UInt8 := [9, 20, 1, 187, 184, 0, 219, 153, 0, 22, 21, 5, 133, 20, 1, 189, 20, 1, 191, 184, 0, 219]
abbrev dktX0_hook_2 : List UInt8 := dkwX0_hook_2 ++ dktX0_hook_3
def dkwX0_hook_1 : List UInt8 := [184, 0, 213, 28, 184, 1, 182, 29, 133, 20, 1, 185, 20, 1, 41, 184, 0, 219, 153, 0, 35, 21, 4, 133]
abbrev dktX0_hook_1 : List UInt8 := dkwX0_hook_1 ++ dktX0_hook_2
def dkwX0_hook_0 : List UInt8 := [42, 27, 182, 1, 9, 42, 180, 0, 167, 180, 1, 82, 27, 46, 6, 159, 0, 7, 4, 167, 0, 4, 3, 2]
abbrev dktX0_hook_0 : List UInt8 := dkwX0_hook_0 ++ dktX0_hook_1
theorem dksX0_hook_0 : cX0_hook.data.toList.drop 0 = dktX0_hook_0 := by decide +kernel
theorem dksX0_hook_1 : cX0_hook.data.toList.drop 24 = dktX0_hook_1 := dk_seg dksX0_hook_0 24 rfl rfl
theorem dksX0_hook_2 : cX0_hook.data.toList.drop 48 = dktX0_hook_2 := dk_seg dksX0_hook_1 24 rfl rfl
theorem dksX0_hook_3 : cX0_hook.data.toList.drop 70 = dktX0_hook_3 := dk_seg dksX0_hook_2 22 rfl rfl
theorem dksX0_hook_4 : cX0_hook.data.toList.drop 92 = dktX0_hook_4 := dk_seg dksX0_hook_3 22 rfl rfl
theorem dksX0_hook_5 : cX0_hook.data.toList.drop 116 = dktX0_hook_5 := dk_seg dksX0_hook_4 24 rfl rfl
theorem dksX0_hook_6 : cX0_hook.data.toList.drop 140 = dktX0_hook_6 := dk_seg dksX0_hook_5 24 rfl rfl
theorem dksX0_hook_7 : cX0_hook.data.toList.drop 164 = dktX0_hook_7 := dk_seg dksX0_hook_6 24 rfl rfl
theorem dX0_hook_0 : decode cX0_hook 0 = .ok (.aload_n 0, 1) := dk_42 (dk_at dksX0_hook_0 0 rfl rfl)
theorem dX0_hook_1 : decode cX0_hook 1 = .ok (.iload_n 1, 1) := dk_27 (dk_at dksX0_hook_0 1 rfl rfl)
theorem dX0_hook_2 : decode cX0_hook 2 = .ok (.invokevirtual 265, 3) := dk_182 1 9 (dk_at dksX0_hook_0 2 rfl rfl)
theorem dX0_hook_5 : decode cX0_hook 5 = .ok (.aload_n 0, 1) := dk_42 (dk_at dksX0_hook_0 5 rfl rfl)
theorem dX0_hook_6 : decode cX0_hook 6 = .ok (.getfield 167, 3) := dk_180 0 167 (dk_at dksX0_hook_0 6 rfl rfl)
theorem dX0_hook_9 : decode cX0_hook 9 = .ok (.getfield 338, 3) := dk_180 1 82 (dk_at dksX0_hook_0 9 rfl rfl)
theorem dX0_hook_12 : decode cX0_hook 12 = .ok (.iload_n 1, 1) := dk_27 (dk_at dksX0_hook_0 12 rfl rfl)
theorem dX0_hook_13 : decode cX0_hook 13 = .ok (.iaload, 1) := dk_46 (dk_at dksX0_hook_0 13 rfl rfl)
theorem dX0_hook_14 : decode cX0_hook 14 = .ok (.iconst 3, 1) := dk_6 (dk_at dksX0_hook_0 14 rfl rfl)
theorem dX0_hook_15 : decode cX0_hook 15 = .ok (.if_icmp .eq 7, 3) := dk_159 0 7 (dk_at dksX0_hook_0 15 rfl rfl)
theorem dX0_hook_18 : decode cX0_hook 18 = .ok (.iconst 1, 1) := dk_4 (dk_at dksX0_hook_0 18 rfl rfl)
theorem dX0_hook_19 : decode cX0_hook 19 = .ok (.goto 4, 3) := dk_167 0 4 (dk_at dksX0_hook_0 19 rfl rfl)
theorem dX0_hook_22 : decode cX0_hook 22 = .ok (.iconst 0, 1) := dk_3 (dk_at dksX0_hook_0 22 rfl rfl)
theorem dX0_hook_23 : decode cX0_hook 23 = .ok (.iconst (-1), 1) := dk_2 (dk_at dksX0_hook_0 23 rfl rfl)
theorem dX0_hook_24 : decode cX0_hook 24 = .ok (.invokestatic 213, 3) := dk_184 0 213 (dk_at dksX0_hook_1 0 rfl rfl)
theorem dX0_hook_27 : decode cX0_hook 27 = .ok (.iload_n 2, 1) := dk_28 (dk_at dksX0_hook_1 3 rfl rfl)
theorem dX0_hook_28 : decode cX0_hook 28 = .ok (.invokestatic 438, 3) := dk_184 1 182 (dk_at dksX0_hook_1 4 rfl rfl)
theorem dX0_hook_31 : decode cX0_hook 31 = .ok (.iload_n 3, 1) := dk_29 (dk_at dksX0_hook_1 7 rfl rfl)
theorem dX0_hook_32 : decode cX0_hook 32 = .ok (.i2l, 1) := dk_133 (dk_at dksX0_hook_1 8 rfl rfl)
theorem dX0_hook_33 : decode cX0_hook 33 = .ok (.ldc2_w 441, 3) := dk_20 1 185 (dk_at dksX0_hook_1 9 rfl rfl)
theorem dX0_hook_36 : decode cX0_hook 36 = .ok (.ldc2_w 297, 3) := dk_20 1 41 (dk_at dksX0_hook_1 12 rfl rfl)
theorem dX0_hook_39 : decode cX0_hook 39 = .ok (.invokestatic 219, 3) := dk_184 0 219 (dk_at dksX0_hook_1 15 rfl rfl)
theorem dX0_hook_42 : decode cX0_hook 42 = .ok (.ifCond .eq 35, 3) := dk_153 0 35 (dk_at dksX0_hook_1 18 rfl rfl)
theorem dX0_hook_45 : decode cX0_hook 45 = .ok (.iload 4, 2) := dk_21 4 (dk_at dksX0_hook_1 21 rfl rfl)
theorem dX0_hook_47 : decode cX0_hook 47 = .ok (.i2l, 1) := dk_133 (dk_at dksX0_hook_1 23 rfl rfl)
theorem dX0_hook_48 : decode cX0_hook 48 = .ok (.lconst 0, 1) := dk_9 (dk_at dksX0_hook_2 0 rfl rfl)
theorem dX0_hook_49 : decode cX0_hook 49 = .ok (.ldc2_w 443, 3) := dk_20 1 187 (dk_at dksX0_hook_2 1 rfl rfl)
theorem dX0_hook_52 : decode cX0_hook 52 = .ok (.invokestatic 219, 3) := dk_184 0 219 (dk_at dksX0_hook_2 4 rfl rfl)
theorem dX0_hook_55 : decode cX0_hook 55 = .ok (.ifCond .eq 22, 3) := dk_153 0 22 (dk_at dksX0_hook_2 7 rfl rfl)
theorem dX0_hook_58 : decode cX0_hook 58 = .ok (.iload 5, 2) := dk_21 5 (dk_at dksX0_hook_2 10 rfl rfl)
theorem dX0_hook_60 : decode cX0_hook 60 = .ok (.i2l, 1) := dk_133 (dk_at dksX0_hook_2 12 rfl rfl)
theorem dX0_hook_61 : decode cX0_hook 61 = .ok (.ldc2_w 445, 3) := dk_20 1 189 (dk_at dksX0_hook_2 13 rfl rfl)
theorem dX0_hook_64 : decode cX0_hook 64 = .ok (.ldc2_w 447, 3) := dk_20 1 191 (dk_at dksX0_hook_2 16 rfl rfl)
theorem dX0_hook_67 : decode cX0_hook 67 = .ok (.invokestatic 219, 3) := dk_184 0 219 (dk_at dksX0_hook_2 19 rfl rfl)
theorem dX0_hook_70 : decode cX0_hook 70 = .ok (.ifCond .eq 7, 3) := dk_153 0 7 (dk_at dksX0_hook_3 0 rfl rfl)
theorem dX0_hook_73 : decode cX0_hook 73 = .ok (.iconst 1, 1) := dk_4 (dk_at dksX0_hook_3 3 rfl rfl)
theorem dX0_hook_74 : decode cX0_hook 74 = .ok (.goto 4, 3) := dk_167 0 4 (dk_at dksX0_hook_3 4 rfl rfl)
theorem dX0_hook_77 : decode cX0_hook 77 = .ok (.iconst 0, 1) := dk_3 (dk_at dksX0_hook_3 7 rfl rfl)
theorem dX0_hook_78 : decode cX0_hook 78 = .ok (.bipush (-6), 2) := dk_16 250 (dk_at dksX0_hook_3 8 rfl rfl)
theorem dX0_hook_80 : decode cX0_hook 80 = .ok (.invokestatic 213, 3) := dk_184 0 213 (dk_at dksX0_hook_3 10 rfl rfl)
theorem dX0_hook_83 : decode cX0_hook 83 = .ok (.aload_n 0, 1) := dk_42 (dk_at dksX0_hook_3 13 rfl rfl)
theorem dX0_hook_84 : decode cX0_hook 84 = .ok (.getfield 167, 3) := dk_180 0 167 (dk_at dksX0_hook_3 14 rfl rfl)
theorem dX0_hook_87 : decode cX0_hook 87 = .ok (.getfield 109, 3) := dk_180 0 109 (dk_at dksX0_hook_3 17 rfl rfl)
theorem dX0_hook_90 : decode cX0_hook 90 = .ok (.bipush 24, 2) := dk_16 24 (dk_at dksX0_hook_3 20 rfl rfl)
theorem dX0_hook_92 : decode cX0_hook 92 = .ok (.if_icmp .ge 7, 3) := dk_162 0 7 (dk_at dksX0_hook_4 0 rfl rfl)
theorem dX0_hook_95 : decode cX0_hook 95 = .ok (.iconst 1, 1) := dk_4 (dk_at dksX0_hook_4 3 rfl rfl)
theorem dX0_hook_96 : decode cX0_hook 96 = .ok (.goto 4, 3) := dk_167 0 4 (dk_at dksX0_hook_4 4 rfl rfl)
theorem dX0_hook_99 : decode cX0_hook 99 = .ok (.iconst 0, 1) := dk_3 (dk_at dksX0_hook_4 7 rfl rfl)
theorem dX0_hook_100 : decode cX0_hook 100 = .ok (.bipush (-7), 2) := dk_16 249 (dk_at dksX0_hook_4 8 rfl rfl)
theorem dX0_hook_102 : decode cX0_hook 102 = .ok (.invokestatic 213, 3) := dk_184 0 213 (dk_at dksX0_hook_4 10 rfl rfl)
theorem dX0_hook_105 : decode cX0_hook 105 = .ok (.aload_n 0, 1) := dk_42 (dk_at dksX0_hook_4 13 rfl rfl)
theorem dX0_hook_106 : decode cX0_hook 106 = .ok (.getfield 167, 3) := dk_180 0 167 (dk_at dksX0_hook_4 14 rfl rfl)
theorem dX0_hook_109 : decode cX0_hook 109 = .ok (.getfield 112, 3) := dk_180 0 112 (dk_at dksX0_hook_4 17 rfl rfl)
theorem dX0_hook_112 : decode cX0_hook 112 = .ok (.aload_n 0, 1) := dk_42 (dk_at dksX0_hook_4 20 rfl rfl)
theorem dX0_hook_113 : decode cX0_hook 113 = .ok (.getfield 167, 3) := dk_180 0 167 (dk_at dksX0_hook_4 21 rfl rfl)
theorem dX0_hook_116 : decode cX0_hook 116 = .ok (.getfield 109, 3) := dk_180 0 109 (dk_at dksX0_hook_5 0 rfl rfl)
theorem dX0_hook_119 : decode cX0_hook 119 = .ok (.new 117, 3) := dk_187 0 117 (dk_at dksX0_hook_5 3 rfl rfl)
theorem dX0_hook_122 : decode cX0_hook 122 = .ok (.dup, 1) := dk_89 (dk_at dksX0_hook_5 6 rfl rfl)
theorem dX0_hook_123 : decode cX0_hook 123 = .ok (.aload_n 0, 1) := dk_42 (dk_at dksX0_hook_5 7 rfl rfl)
theorem dX0_hook_124 : decode cX0_hook 124 = .ok (.getfield 167, 3) := dk_180 0 167 (dk_at dksX0_hook_5 8 rfl rfl)
theorem dX0_hook_127 : decode cX0_hook 127 = .ok (.getfield 109, 3) := dk_180 0 109 (dk_at dksX0_hook_5 11 rfl rfl)
theorem dX0_hook_130 : decode cX0_hook 130 = .ok (.iload_n 1, 1) := dk_27 (dk_at dksX0_hook_5 14 rfl rfl)
theorem dX0_hook_131 : decode cX0_hook 131 = .ok (.iload_n 2, 1) := dk_28 (dk_at dksX0_hook_5 15 rfl rfl)
theorem dX0_hook_132 : decode cX0_hook 132 = .ok (.iload_n 3, 1) := dk_29 (dk_at dksX0_hook_5 16 rfl rfl)
theorem dX0_hook_133 : decode cX0_hook 133 = .ok (.iload 4, 2) := dk_21 4 (dk_at dksX0_hook_5 17 rfl rfl)
theorem dX0_hook_135 : decode cX0_hook 135 = .ok (.iload 5, 2) := dk_21 5 (dk_at dksX0_hook_5 19 rfl rfl)
theorem dX0_hook_137 : decode cX0_hook 137 = .ok (.invokespecial 449, 3) := dk_183 1 193 (dk_at dksX0_hook_5 21 rfl rfl)
theorem dX0_hook_140 : decode cX0_hook 140 = .ok (.aastore, 1) := dk_83 (dk_at dksX0_hook_6 0 rfl rfl)
theorem dX0_hook_141 : decode cX0_hook 141 = .ok (.aload_n 0, 1) := dk_42 (dk_at dksX0_hook_6 1 rfl rfl)
theorem dX0_hook_142 : decode cX0_hook 142 = .ok (.getfield 167, 3) := dk_180 0 167 (dk_at dksX0_hook_6 2 rfl rfl)
theorem dX0_hook_145 : decode cX0_hook 145 = .ok (.dup, 1) := dk_89 (dk_at dksX0_hook_6 5 rfl rfl)
theorem dX0_hook_146 : decode cX0_hook 146 = .ok (.getfield 109, 3) := dk_180 0 109 (dk_at dksX0_hook_6 6 rfl rfl)
theorem dX0_hook_149 : decode cX0_hook 149 = .ok (.dup_x1, 1) := dk_90 (dk_at dksX0_hook_6 9 rfl rfl)
theorem dX0_hook_150 : decode cX0_hook 150 = .ok (.iconst 1, 1) := dk_4 (dk_at dksX0_hook_6 10 rfl rfl)
theorem dX0_hook_151 : decode cX0_hook 151 = .ok (.iadd, 1) := dk_96 (dk_at dksX0_hook_6 11 rfl rfl)
theorem dX0_hook_152 : decode cX0_hook 152 = .ok (.putfield 109, 3) := dk_181 0 109 (dk_at dksX0_hook_6 12 rfl rfl)
theorem dX0_hook_155 : decode cX0_hook 155 = .ok (.ireturn, 1) := dk_172 (dk_at dksX0_hook_6 15 rfl rfl)
theorem dX0_hook_156 : decode cX0_hook 156 = .ok (.astore 6, 2) := dk_58 6 (dk_at dksX0_hook_6 16 rfl rfl)
theorem dX0_hook_158 : decode cX0_hook 158 = .ok (.aload_n 0, 1) := dk_42 (dk_at dksX0_hook_6 18 rfl rfl)
theorem dX0_hook_159 : decode cX0_hook 159 = .ok (.aload 6, 2) := dk_25 6 (dk_at dksX0_hook_6 19 rfl rfl)
theorem dX0_hook_161 : decode cX0_hook 161 = .ok (.invokevirtual 230, 3) := dk_182 0 230 (dk_at dksX0_hook_6 21 rfl rfl)
theorem dX0_hook_164 : decode cX0_hook 164 = .ok (.ireturn, 1) := dk_172 (dk_at dksX0_hook_7 0 rfl rfl)
abbrev cX0_mustPoint : ByteArray := prog_1_method_19_code
def yX0_mustPoint : MethodName := ⟨RX0, "mustPoint", "(I)V"⟩
def dkwX0_mustPoint_0 : List UInt8 := [26, 133, 9, 20, 0, 217, 184, 0, 219, 2, 184, 0, 213, 177]
abbrev dktX0_mustPoint_0 : List UInt8 := dkwX0_mustPoint_0 ++ []
theorem dksX0_mustPoint_0 : cX0_mustPoint.data.toList.drop 0 = dktX0_mustPoint_0 := by decide +kernel
theorem dX0_mustPoint_0 : decode cX0_mustPoint 0 = .ok (.iload_n 0, 1) := dk_26 (dk_at dksX0_mustPoint_0 0 rfl rfl)
theorem dX0_mustPoint_1 : decode cX0_mustPoint 1 = .ok (.i2l, 1) := dk_133 (dk_at dksX0_mustPoint_0 1 rfl rfl)
theorem dX0_mustPoint_2 : decode cX0_mustPoint 2 = .ok (.lconst 0, 1) := dk_9 (dk_at dksX0_mustPoint_0 2 rfl rfl)
theorem dX0_mustPoint_3 : decode cX0_mustPoint 3 = .ok (.ldc2_w 217, 3) := dk_20 0 217 (dk_at dksX0_mustPoint_0 3 rfl rfl)
theorem dX0_mustPoint_6 : decode cX0_mustPoint 6 = .ok (.invokestatic 219, 3) := dk_184 0 219 (dk_at dksX0_mustPoint_0 6 rfl rfl)
theorem dX0_mustPoint_9 : decode cX0_mustPoint 9 = .ok (.iconst (-1), 1) := dk_2 (dk_at dksX0_mustPoint_0 9 rfl rfl)
theorem dX0_mustPoint_10 : decode cX0_mustPoint 10 = .ok (.invokestatic 213, 3) := dk_184 0 213 (dk_at dksX0_mustPoint_0 10 rfl rfl)
theorem dX0_mustPoint_13 : decode cX0_mustPoint 13 = .ok (.return_, 1) := dk_177 (dk_at dksX0_mustPoint_0 13 rfl rfl)
abbrev cX0_hookOf : ByteArray := prog_1_method_47_code
def yX0_hookOf : MethodName := ⟨RX0, "hookOf", "(II)I"⟩
def dkwX0_hookOf_4 : List UInt8 := [180, 1, 202, 16, 100, 96, 172, 42, 182, 1, 79, 172]
abbrev dktX0_hookOf_4 : List UInt8 := dkwX0_hookOf_4 ++ []
def dkwX0_hookOf_3 : List UInt8 := [45, 180, 0, 121, 172, 45, 180, 0, 116, 172, 45, 180, 1, 196, 16, 10, 96, 172, 45, 180, 1, 199, 172, 45]
abbrev dktX0_hookOf_3 : List UInt8 := dkwX0_hookOf_3 ++ dktX0_hookOf_4
def dkwX0_hookOf_2 : List UInt8 := [170, 0, 0, 0, 64, 0, 0, 0, 0, 0, 0, 0, 4, 0, 0, 0, 33, 0, 0, 0, 38, 0, 0, 0, 43, 0, 0, 0, 51, 0, 0, 0, 56]
abbrev dktX0_hookOf_2 : List UInt8 := dkwX0_hookOf_2 ++ dktX0_hookOf_3
def dkwX0_hookOf_1 : List UInt8 := [42, 180, 0, 167, 180, 0, 112, 27, 50, 78, 28]
abbrev dktX0_hookOf_1 : List UInt8 := dkwX0_hookOf_1 ++ dktX0_hookOf_2
def dkwX0_hookOf_0 : List UInt8 := [27, 133, 9, 42, 180, 0, 167, 180, 0, 109, 4, 100, 133, 184, 0, 219, 154, 0, 8, 42, 182, 1, 79, 172]
abbrev dktX0_hookOf_0 : List UInt8 := dkwX0_hookOf_0 ++ dktX0_hookOf_1
theorem dksX0_hookOf_0 : cX0_hookOf.data.toList.drop 0 = dktX0_hookOf_0 := by decide +kernel
theorem dksX0_hookOf_1 : cX0_hookOf.data.toList.drop 24 = dktX0_hookOf_1 := dk_seg dksX0_hookOf_0 24 rfl rfl
theorem dksX0_hookOf_2 : cX0_hookOf.data.toList.drop 35 = dktX0_hookOf_2 := dk_seg dksX0_hookOf_1 11 rfl rfl
theorem dksX0_hookOf_3 : cX0_hookOf.data.toList.drop 68 = dktX0_hookOf_3 := dk_seg dksX0_hookOf_2 33 rfl rfl
theorem dksX0_hookOf_4 : cX0_hookOf.data.toList.drop 92 = dktX0_hookOf_4 := dk_seg dksX0_hookOf_3 24 rfl rfl
theorem dX0_hookOf_0 : decode cX0_hookOf 0 = .ok (.iload_n 1, 1) := dk_27 (dk_at dksX0_hookOf_0 0 rfl rfl)
theorem dX0_hookOf_1 : decode cX0_hookOf 1 = .ok (.i2l, 1) := dk_133 (dk_at dksX0_hookOf_0 1 rfl rfl)
theorem dX0_hookOf_2 : decode cX0_hookOf 2 = .ok (.lconst 0, 1) := dk_9 (dk_at dksX0_hookOf_0 2 rfl rfl)
theorem dX0_hookOf_3 : decode cX0_hookOf 3 = .ok (.aload_n 0, 1) := dk_42 (dk_at dksX0_hookOf_0 3 rfl rfl)
theorem dX0_hookOf_4 : decode cX0_hookOf 4 = .ok (.getfield 167, 3) := dk_180 0 167 (dk_at dksX0_hookOf_0 4 rfl rfl)
theorem dX0_hookOf_7 : decode cX0_hookOf 7 = .ok (.getfield 109, 3) := dk_180 0 109 (dk_at dksX0_hookOf_0 7 rfl rfl)
theorem dX0_hookOf_10 : decode cX0_hookOf 10 = .ok (.iconst 1, 1) := dk_4 (dk_at dksX0_hookOf_0 10 rfl rfl)
theorem dX0_hookOf_11 : decode cX0_hookOf 11 = .ok (.isub, 1) := dk_100 (dk_at dksX0_hookOf_0 11 rfl rfl)
theorem dX0_hookOf_12 : decode cX0_hookOf 12 = .ok (.i2l, 1) := dk_133 (dk_at dksX0_hookOf_0 12 rfl rfl)
theorem dX0_hookOf_13 : decode cX0_hookOf 13 = .ok (.invokestatic 219, 3) := dk_184 0 219 (dk_at dksX0_hookOf_0 13 rfl rfl)
theorem dX0_hookOf_16 : decode cX0_hookOf 16 = .ok (.ifCond .ne 8, 3) := dk_154 0 8 (dk_at dksX0_hookOf_0 16 rfl rfl)
theorem dX0_hookOf_19 : decode cX0_hookOf 19 = .ok (.aload_n 0, 1) := dk_42 (dk_at dksX0_hookOf_0 19 rfl rfl)
theorem dX0_hookOf_20 : decode cX0_hookOf 20 = .ok (.invokevirtual 335, 3) := dk_182 1 79 (dk_at dksX0_hookOf_0 20 rfl rfl)
theorem dX0_hookOf_23 : decode cX0_hookOf 23 = .ok (.ireturn, 1) := dk_172 (dk_at dksX0_hookOf_0 23 rfl rfl)
theorem dX0_hookOf_24 : decode cX0_hookOf 24 = .ok (.aload_n 0, 1) := dk_42 (dk_at dksX0_hookOf_1 0 rfl rfl)
theorem dX0_hookOf_25 : decode cX0_hookOf 25 = .ok (.getfield 167, 3) := dk_180 0 167 (dk_at dksX0_hookOf_1 1 rfl rfl)
theorem dX0_hookOf_28 : decode cX0_hookOf 28 = .ok (.getfield 112, 3) := dk_180 0 112 (dk_at dksX0_hookOf_1 4 rfl rfl)
theorem dX0_hookOf_31 : decode cX0_hookOf 31 = .ok (.iload_n 1, 1) := dk_27 (dk_at dksX0_hookOf_1 7 rfl rfl)
theorem dX0_hookOf_32 : decode cX0_hookOf 32 = .ok (.aaload, 1) := dk_50 (dk_at dksX0_hookOf_1 8 rfl rfl)
theorem dX0_hookOf_33 : decode cX0_hookOf 33 = .ok (.astore_n 3, 1) := dk_78 (dk_at dksX0_hookOf_1 9 rfl rfl)
theorem dX0_hookOf_34 : decode cX0_hookOf 34 = .ok (.iload_n 2, 1) := dk_28 (dk_at dksX0_hookOf_1 10 rfl rfl)
theorem dX0_hookOf_35 : decode cX0_hookOf 35 = .ok (.tableswitch 64 0 4 #[33, 38, 43, 51, 56], 33) := by decide +kernel
theorem dX0_hookOf_68 : decode cX0_hookOf 68 = .ok (.aload_n 3, 1) := dk_45 (dk_at dksX0_hookOf_3 0 rfl rfl)
theorem dX0_hookOf_69 : decode cX0_hookOf 69 = .ok (.getfield 121, 3) := dk_180 0 121 (dk_at dksX0_hookOf_3 1 rfl rfl)
theorem dX0_hookOf_72 : decode cX0_hookOf 72 = .ok (.ireturn, 1) := dk_172 (dk_at dksX0_hookOf_3 4 rfl rfl)
theorem dX0_hookOf_73 : decode cX0_hookOf 73 = .ok (.aload_n 3, 1) := dk_45 (dk_at dksX0_hookOf_3 5 rfl rfl)
theorem dX0_hookOf_74 : decode cX0_hookOf 74 = .ok (.getfield 116, 3) := dk_180 0 116 (dk_at dksX0_hookOf_3 6 rfl rfl)
theorem dX0_hookOf_77 : decode cX0_hookOf 77 = .ok (.ireturn, 1) := dk_172 (dk_at dksX0_hookOf_3 9 rfl rfl)
theorem dX0_hookOf_78 : decode cX0_hookOf 78 = .ok (.aload_n 3, 1) := dk_45 (dk_at dksX0_hookOf_3 10 rfl rfl)
theorem dX0_hookOf_79 : decode cX0_hookOf 79 = .ok (.getfield 452, 3) := dk_180 1 196 (dk_at dksX0_hookOf_3 11 rfl rfl)
theorem dX0_hookOf_82 : decode cX0_hookOf 82 = .ok (.bipush 10, 2) := dk_16 10 (dk_at dksX0_hookOf_3 14 rfl rfl)
theorem dX0_hookOf_84 : decode cX0_hookOf 84 = .ok (.iadd, 1) := dk_96 (dk_at dksX0_hookOf_3 16 rfl rfl)
theorem dX0_hookOf_85 : decode cX0_hookOf 85 = .ok (.ireturn, 1) := dk_172 (dk_at dksX0_hookOf_3 17 rfl rfl)
theorem dX0_hookOf_86 : decode cX0_hookOf 86 = .ok (.aload_n 3, 1) := dk_45 (dk_at dksX0_hookOf_3 18 rfl rfl)
theorem dX0_hookOf_87 : decode cX0_hookOf 87 = .ok (.getfield 455, 3) := dk_180 1 199 (dk_at dksX0_hookOf_3 19 rfl rfl)
theorem dX0_hookOf_90 : decode cX0_hookOf 90 = .ok (.ireturn, 1) := dk_172 (dk_at dksX0_hookOf_3 22 rfl rfl)
theorem dX0_hookOf_91 : decode cX0_hookOf 91 = .ok (.aload_n 3, 1) := dk_45 (dk_at dksX0_hookOf_3 23 rfl rfl)
theorem dX0_hookOf_92 : decode cX0_hookOf 92 = .ok (.getfield 458, 3) := dk_180 1 202 (dk_at dksX0_hookOf_4 0 rfl rfl)
theorem dX0_hookOf_95 : decode cX0_hookOf 95 = .ok (.bipush 100, 2) := dk_16 100 (dk_at dksX0_hookOf_4 3 rfl rfl)
theorem dX0_hookOf_97 : decode cX0_hookOf 97 = .ok (.iadd, 1) := dk_96 (dk_at dksX0_hookOf_4 5 rfl rfl)
theorem dX0_hookOf_98 : decode cX0_hookOf 98 = .ok (.ireturn, 1) := dk_172 (dk_at dksX0_hookOf_4 6 rfl rfl)
theorem dX0_hookOf_99 : decode cX0_hookOf 99 = .ok (.aload_n 0, 1) := dk_42 (dk_at dksX0_hookOf_4 7 rfl rfl)
theorem dX0_hookOf_100 : decode cX0_hookOf 100 = .ok (.invokevirtual 335, 3) := dk_182 1 79 (dk_at dksX0_hookOf_4 8 rfl rfl)
theorem dX0_hookOf_103 : decode cX0_hookOf 103 = .ok (.ireturn, 1) := dk_172 (dk_at dksX0_hookOf_4 11 rfl rfl)
abbrev cX0_chain : ByteArray := prog_1_method_48_code
def yX0_chain : MethodName := ⟨RX0, "chain", "(II)I"⟩
def dkwX0_chain_3 : List UInt8 := [16, 10, 100, 172]
abbrev dktX0_chain_3 : List UInt8 := dkwX0_chain_3 ++ []
def dkwX0_chain_2 : List UInt8 := [160, 0, 9, 25, 5, 180, 1, 210, 172, 132, 3, 1, 167, 255, 220, 2, 172, 78, 42, 45, 182, 0, 230]
abbrev dktX0_chain_2 : List UInt8 := dkwX0_chain_2 ++ dktX0_chain_3
def dkwX0_chain_1 : List UInt8 := [185, 1, 174, 1, 0, 153, 0, 32, 25, 4, 185, 1, 179, 1, 0, 192, 0, 117, 58, 5, 29, 28]
abbrev dktX0_chain_1 : List UInt8 := dkwX0_chain_1 ++ dktX0_chain_2
def dkwX0_chain_0 : List UInt8 := [27, 184, 1, 182, 3, 62, 42, 180, 0, 167, 27, 184, 1, 205, 182, 1, 209, 58, 4, 25, 4]
abbrev dktX0_chain_0 : List UInt8 := dkwX0_chain_0 ++ dktX0_chain_1
theorem dksX0_chain_0 : cX0_chain.data.toList.drop 0 = dktX0_chain_0 := by decide +kernel
theorem dksX0_chain_1 : cX0_chain.data.toList.drop 21 = dktX0_chain_1 := dk_seg dksX0_chain_0 21 rfl rfl
theorem dksX0_chain_2 : cX0_chain.data.toList.drop 43 = dktX0_chain_2 := dk_seg dksX0_chain_1 22 rfl rfl
theorem dksX0_chain_3 : cX0_chain.data.toList.drop 66 = dktX0_chain_3 := dk_seg dksX0_chain_2 23 rfl rfl
theorem dX0_chain_0 : decode cX0_chain 0 = .ok (.iload_n 1, 1) := dk_27 (dk_at dksX0_chain_0 0 rfl rfl)
theorem dX0_chain_1 : decode cX0_chain 1 = .ok (.invokestatic 438, 3) := dk_184 1 182 (dk_at dksX0_chain_0 1 rfl rfl)
theorem dX0_chain_4 : decode cX0_chain 4 = .ok (.iconst 0, 1) := dk_3 (dk_at dksX0_chain_0 4 rfl rfl)
theorem dX0_chain_5 : decode cX0_chain 5 = .ok (.istore_n 3, 1) := dk_62 (dk_at dksX0_chain_0 5 rfl rfl)
theorem dX0_chain_6 : decode cX0_chain 6 = .ok (.aload_n 0, 1) := dk_42 (dk_at dksX0_chain_0 6 rfl rfl)
theorem dX0_chain_7 : decode cX0_chain 7 = .ok (.getfield 167, 3) := dk_180 0 167 (dk_at dksX0_chain_0 7 rfl rfl)
theorem dX0_chain_10 : decode cX0_chain 10 = .ok (.iload_n 1, 1) := dk_27 (dk_at dksX0_chain_0 10 rfl rfl)
theorem dX0_chain_11 : decode cX0_chain 11 = .ok (.invokestatic 461, 3) := dk_184 1 205 (dk_at dksX0_chain_0 11 rfl rfl)
theorem dX0_chain_14 : decode cX0_chain 14 = .ok (.invokevirtual 465, 3) := dk_182 1 209 (dk_at dksX0_chain_0 14 rfl rfl)
theorem dX0_chain_17 : decode cX0_chain 17 = .ok (.astore 4, 2) := dk_58 4 (dk_at dksX0_chain_0 17 rfl rfl)
theorem dX0_chain_19 : decode cX0_chain 19 = .ok (.aload 4, 2) := dk_25 4 (dk_at dksX0_chain_0 19 rfl rfl)
theorem dX0_chain_21 : decode cX0_chain 21 = .ok (.invokeinterface 430 1, 5) := by decide +kernel
theorem dX0_chain_26 : decode cX0_chain 26 = .ok (.ifCond .eq 32, 3) := dk_153 0 32 (dk_at dksX0_chain_1 5 rfl rfl)
theorem dX0_chain_29 : decode cX0_chain 29 = .ok (.aload 4, 2) := dk_25 4 (dk_at dksX0_chain_1 8 rfl rfl)
theorem dX0_chain_31 : decode cX0_chain 31 = .ok (.invokeinterface 435 1, 5) := by decide +kernel
theorem dX0_chain_36 : decode cX0_chain 36 = .ok (.checkcast 117, 3) := dk_192 0 117 (dk_at dksX0_chain_1 15 rfl rfl)
theorem dX0_chain_39 : decode cX0_chain 39 = .ok (.astore 5, 2) := dk_58 5 (dk_at dksX0_chain_1 18 rfl rfl)
theorem dX0_chain_41 : decode cX0_chain 41 = .ok (.iload_n 3, 1) := dk_29 (dk_at dksX0_chain_1 20 rfl rfl)
theorem dX0_chain_42 : decode cX0_chain 42 = .ok (.iload_n 2, 1) := dk_28 (dk_at dksX0_chain_1 21 rfl rfl)
theorem dX0_chain_43 : decode cX0_chain 43 = .ok (.if_icmp .ne 9, 3) := dk_160 0 9 (dk_at dksX0_chain_2 0 rfl rfl)
theorem dX0_chain_46 : decode cX0_chain 46 = .ok (.aload 5, 2) := dk_25 5 (dk_at dksX0_chain_2 3 rfl rfl)
theorem dX0_chain_48 : decode cX0_chain 48 = .ok (.getfield 466, 3) := dk_180 1 210 (dk_at dksX0_chain_2 5 rfl rfl)
theorem dX0_chain_51 : decode cX0_chain 51 = .ok (.ireturn, 1) := dk_172 (dk_at dksX0_chain_2 8 rfl rfl)
theorem dX0_chain_52 : decode cX0_chain 52 = .ok (.iinc 3 1, 3) := dk_132 3 1 (dk_at dksX0_chain_2 9 rfl rfl)
theorem dX0_chain_55 : decode cX0_chain 55 = .ok (.goto (-36), 3) := dk_167 255 220 (dk_at dksX0_chain_2 12 rfl rfl)
theorem dX0_chain_58 : decode cX0_chain 58 = .ok (.iconst (-1), 1) := dk_2 (dk_at dksX0_chain_2 15 rfl rfl)
theorem dX0_chain_59 : decode cX0_chain 59 = .ok (.ireturn, 1) := dk_172 (dk_at dksX0_chain_2 16 rfl rfl)
theorem dX0_chain_60 : decode cX0_chain 60 = .ok (.astore_n 3, 1) := dk_78 (dk_at dksX0_chain_2 17 rfl rfl)
theorem dX0_chain_61 : decode cX0_chain 61 = .ok (.aload_n 0, 1) := dk_42 (dk_at dksX0_chain_2 18 rfl rfl)
theorem dX0_chain_62 : decode cX0_chain 62 = .ok (.aload_n 3, 1) := dk_45 (dk_at dksX0_chain_2 19 rfl rfl)
theorem dX0_chain_63 : decode cX0_chain 63 = .ok (.invokevirtual 230, 3) := dk_182 0 230 (dk_at dksX0_chain_2 20 rfl rfl)
theorem dX0_chain_66 : decode cX0_chain 66 = .ok (.bipush 10, 2) := dk_16 10 (dk_at dksX0_chain_3 0 rfl rfl)
theorem dX0_chain_68 : decode cX0_chain 68 = .ok (.isub, 1) := dk_100 (dk_at dksX0_chain_3 2 rfl rfl)
theorem dX0_chain_69 : decode cX0_chain 69 = .ok (.ireturn, 1) := dk_172 (dk_at dksX0_chain_3 3 rfl rfl)
abbrev cX0_chainOf : ByteArray := prog_1_method_8_code
def yX0_chainOf : MethodName := ⟨RX0, "chainOf", "(LPluginChains$Host;I)Ljava/util/TreeSet;"⟩
def dkwX0_chainOf_3 : List UInt8 := [167, 255, 205, 44, 176]
abbrev dktX0_chainOf_3 : List UInt8 := dkwX0_chainOf_3 ++ []
def dkwX0_chainOf_2 : List UInt8 := [180, 0, 121, 182, 0, 124, 153, 0, 14, 44, 42, 180, 0, 112, 29, 50, 182, 0, 128, 87, 132, 3, 1]
abbrev dktX0_chainOf_2 : List UInt8 := dkwX0_chainOf_2 ++ dktX0_chainOf_3
def dkwX0_chainOf_1 : List UInt8 := [162, 0, 49, 42, 180, 0, 112, 29, 50, 180, 0, 116, 27, 160, 0, 30, 42, 42, 180, 0, 112, 29, 50]
abbrev dktX0_chainOf_1 : List UInt8 := dkwX0_chainOf_1 ++ dktX0_chainOf_2
def dkwX0_chainOf_0 : List UInt8 := [187, 0, 103, 89, 187, 0, 105, 89, 42, 183, 0, 107, 183, 0, 108, 77, 3, 62, 29, 42, 180, 0, 109]
abbrev dktX0_chainOf_0 : List UInt8 := dkwX0_chainOf_0 ++ dktX0_chainOf_1
theorem dksX0_chainOf_0 : cX0_chainOf.data.toList.drop 0 = dktX0_chainOf_0 := by decide +kernel
theorem dksX0_chainOf_1 : cX0_chainOf.data.toList.drop 23 = dktX0_chainOf_1 := dk_seg dksX0_chainOf_0 23 rfl rfl
theorem dksX0_chainOf_2 : cX0_chainOf.data.toList.drop 46 = dktX0_chainOf_2 := dk_seg dksX0_chainOf_1 23 rfl rfl
theorem dksX0_chainOf_3 : cX0_chainOf.data.toList.drop 69 = dktX0_chainOf_3 := dk_seg dksX0_chainOf_2 23 rfl rfl
theorem dX0_chainOf_0 : decode cX0_chainOf 0 = .ok (.new 103, 3) := dk_187 0 103 (dk_at dksX0_chainOf_0 0 rfl rfl)
theorem dX0_chainOf_3 : decode cX0_chainOf 3 = .ok (.dup, 1) := dk_89 (dk_at dksX0_chainOf_0 3 rfl rfl)
theorem dX0_chainOf_4 : decode cX0_chainOf 4 = .ok (.new 105, 3) := dk_187 0 105 (dk_at dksX0_chainOf_0 4 rfl rfl)
theorem dX0_chainOf_7 : decode cX0_chainOf 7 = .ok (.dup, 1) := dk_89 (dk_at dksX0_chainOf_0 7 rfl rfl)
theorem dX0_chainOf_8 : decode cX0_chainOf 8 = .ok (.aload_n 0, 1) := dk_42 (dk_at dksX0_chainOf_0 8 rfl rfl)
theorem dX0_chainOf_9 : decode cX0_chainOf 9 = .ok (.invokespecial 107, 3) := dk_183 0 107 (dk_at dksX0_chainOf_0 9 rfl rfl)
theorem dX0_chainOf_12 : decode cX0_chainOf 12 = .ok (.invokespecial 108, 3) := dk_183 0 108 (dk_at dksX0_chainOf_0 12 rfl rfl)
theorem dX0_chainOf_15 : decode cX0_chainOf 15 = .ok (.astore_n 2, 1) := dk_77 (dk_at dksX0_chainOf_0 15 rfl rfl)
theorem dX0_chainOf_16 : decode cX0_chainOf 16 = .ok (.iconst 0, 1) := dk_3 (dk_at dksX0_chainOf_0 16 rfl rfl)
theorem dX0_chainOf_17 : decode cX0_chainOf 17 = .ok (.istore_n 3, 1) := dk_62 (dk_at dksX0_chainOf_0 17 rfl rfl)
theorem dX0_chainOf_18 : decode cX0_chainOf 18 = .ok (.iload_n 3, 1) := dk_29 (dk_at dksX0_chainOf_0 18 rfl rfl)
theorem dX0_chainOf_19 : decode cX0_chainOf 19 = .ok (.aload_n 0, 1) := dk_42 (dk_at dksX0_chainOf_0 19 rfl rfl)
theorem dX0_chainOf_20 : decode cX0_chainOf 20 = .ok (.getfield 109, 3) := dk_180 0 109 (dk_at dksX0_chainOf_0 20 rfl rfl)
theorem dX0_chainOf_23 : decode cX0_chainOf 23 = .ok (.if_icmp .ge 49, 3) := dk_162 0 49 (dk_at dksX0_chainOf_1 0 rfl rfl)
theorem dX0_chainOf_26 : decode cX0_chainOf 26 = .ok (.aload_n 0, 1) := dk_42 (dk_at dksX0_chainOf_1 3 rfl rfl)
theorem dX0_chainOf_27 : decode cX0_chainOf 27 = .ok (.getfield 112, 3) := dk_180 0 112 (dk_at dksX0_chainOf_1 4 rfl rfl)
theorem dX0_chainOf_30 : decode cX0_chainOf 30 = .ok (.iload_n 3, 1) := dk_29 (dk_at dksX0_chainOf_1 7 rfl rfl)
theorem dX0_chainOf_31 : decode cX0_chainOf 31 = .ok (.aaload, 1) := dk_50 (dk_at dksX0_chainOf_1 8 rfl rfl)
theorem dX0_chainOf_32 : decode cX0_chainOf 32 = .ok (.getfield 116, 3) := dk_180 0 116 (dk_at dksX0_chainOf_1 9 rfl rfl)
theorem dX0_chainOf_35 : decode cX0_chainOf 35 = .ok (.iload_n 1, 1) := dk_27 (dk_at dksX0_chainOf_1 12 rfl rfl)
theorem dX0_chainOf_36 : decode cX0_chainOf 36 = .ok (.if_icmp .ne 30, 3) := dk_160 0 30 (dk_at dksX0_chainOf_1 13 rfl rfl)
theorem dX0_chainOf_39 : decode cX0_chainOf 39 = .ok (.aload_n 0, 1) := dk_42 (dk_at dksX0_chainOf_1 16 rfl rfl)
theorem dX0_chainOf_40 : decode cX0_chainOf 40 = .ok (.aload_n 0, 1) := dk_42 (dk_at dksX0_chainOf_1 17 rfl rfl)
theorem dX0_chainOf_41 : decode cX0_chainOf 41 = .ok (.getfield 112, 3) := dk_180 0 112 (dk_at dksX0_chainOf_1 18 rfl rfl)
theorem dX0_chainOf_44 : decode cX0_chainOf 44 = .ok (.iload_n 3, 1) := dk_29 (dk_at dksX0_chainOf_1 21 rfl rfl)
theorem dX0_chainOf_45 : decode cX0_chainOf 45 = .ok (.aaload, 1) := dk_50 (dk_at dksX0_chainOf_1 22 rfl rfl)
theorem dX0_chainOf_46 : decode cX0_chainOf 46 = .ok (.getfield 121, 3) := dk_180 0 121 (dk_at dksX0_chainOf_2 0 rfl rfl)
theorem dX0_chainOf_49 : decode cX0_chainOf 49 = .ok (.invokevirtual 124, 3) := dk_182 0 124 (dk_at dksX0_chainOf_2 3 rfl rfl)
theorem dX0_chainOf_52 : decode cX0_chainOf 52 = .ok (.ifCond .eq 14, 3) := dk_153 0 14 (dk_at dksX0_chainOf_2 6 rfl rfl)
theorem dX0_chainOf_55 : decode cX0_chainOf 55 = .ok (.aload_n 2, 1) := dk_44 (dk_at dksX0_chainOf_2 9 rfl rfl)
theorem dX0_chainOf_56 : decode cX0_chainOf 56 = .ok (.aload_n 0, 1) := dk_42 (dk_at dksX0_chainOf_2 10 rfl rfl)
theorem dX0_chainOf_57 : decode cX0_chainOf 57 = .ok (.getfield 112, 3) := dk_180 0 112 (dk_at dksX0_chainOf_2 11 rfl rfl)
theorem dX0_chainOf_60 : decode cX0_chainOf 60 = .ok (.iload_n 3, 1) := dk_29 (dk_at dksX0_chainOf_2 14 rfl rfl)
theorem dX0_chainOf_61 : decode cX0_chainOf 61 = .ok (.aaload, 1) := dk_50 (dk_at dksX0_chainOf_2 15 rfl rfl)
theorem dX0_chainOf_62 : decode cX0_chainOf 62 = .ok (.invokevirtual 128, 3) := dk_182 0 128 (dk_at dksX0_chainOf_2 16 rfl rfl)
theorem dX0_chainOf_65 : decode cX0_chainOf 65 = .ok (.pop, 1) := dk_87 (dk_at dksX0_chainOf_2 19 rfl rfl)
theorem dX0_chainOf_66 : decode cX0_chainOf 66 = .ok (.iinc 3 1, 3) := dk_132 3 1 (dk_at dksX0_chainOf_2 20 rfl rfl)
theorem dX0_chainOf_69 : decode cX0_chainOf 69 = .ok (.goto (-51), 3) := dk_167 255 205 (dk_at dksX0_chainOf_3 0 rfl rfl)
theorem dX0_chainOf_72 : decode cX0_chainOf 72 = .ok (.aload_n 2, 1) := dk_44 (dk_at dksX0_chainOf_3 3 rfl rfl)
theorem dX0_chainOf_73 : decode cX0_chainOf 73 = .ok (.areturn, 1) := dk_176 (dk_at dksX0_chainOf_3 4 rfl rfl)
abbrev cX0_fire : ByteArray := prog_1_method_51_code
def yX0_fire : MethodName := ⟨RX0, "fire", "(II)I"⟩
def dkwX0_fire_2 : List UInt8 := [172, 78, 42, 45, 182, 0, 230, 172]
abbrev dktX0_fire_2 : List UInt8 := dkwX0_fire_2 ++ []
def dkwX0_fire_1 : List UInt8 := [2, 182, 1, 216, 28, 182, 1, 220, 58, 4, 42, 25, 4, 184, 1, 224, 181, 1, 227, 25, 4, 184, 1, 230]
abbrev dktX0_fire_1 : List UInt8 := dkwX0_fire_1 ++ dktX0_fire_2
def dkwX0_fire_0 : List UInt8 := [27, 184, 1, 182, 187, 1, 211, 89, 42, 4, 183, 1, 213, 78, 45, 45, 42, 180, 0, 167, 27, 184, 1, 205]
abbrev dktX0_fire_0 : List UInt8 := dkwX0_fire_0 ++ dktX0_fire_1
theorem dksX0_fire_0 : cX0_fire.data.toList.drop 0 = dktX0_fire_0 := by decide +kernel
theorem dksX0_fire_1 : cX0_fire.data.toList.drop 24 = dktX0_fire_1 := dk_seg dksX0_fire_0 24 rfl rfl
theorem dksX0_fire_2 : cX0_fire.data.toList.drop 48 = dktX0_fire_2 := dk_seg dksX0_fire_1 24 rfl rfl
theorem dX0_fire_0 : decode cX0_fire 0 = .ok (.iload_n 1, 1) := dk_27 (dk_at dksX0_fire_0 0 rfl rfl)
theorem dX0_fire_1 : decode cX0_fire 1 = .ok (.invokestatic 438, 3) := dk_184 1 182 (dk_at dksX0_fire_0 1 rfl rfl)
theorem dX0_fire_4 : decode cX0_fire 4 = .ok (.new 467, 3) := dk_187 1 211 (dk_at dksX0_fire_0 4 rfl rfl)
theorem dX0_fire_7 : decode cX0_fire 7 = .ok (.dup, 1) := dk_89 (dk_at dksX0_fire_0 7 rfl rfl)
theorem dX0_fire_8 : decode cX0_fire 8 = .ok (.aload_n 0, 1) := dk_42 (dk_at dksX0_fire_0 8 rfl rfl)
theorem dX0_fire_9 : decode cX0_fire 9 = .ok (.iconst 1, 1) := dk_4 (dk_at dksX0_fire_0 9 rfl rfl)
theorem dX0_fire_10 : decode cX0_fire 10 = .ok (.invokespecial 469, 3) := dk_183 1 213 (dk_at dksX0_fire_0 10 rfl rfl)
theorem dX0_fire_13 : decode cX0_fire 13 = .ok (.astore_n 3, 1) := dk_78 (dk_at dksX0_fire_0 13 rfl rfl)
theorem dX0_fire_14 : decode cX0_fire 14 = .ok (.aload_n 3, 1) := dk_45 (dk_at dksX0_fire_0 14 rfl rfl)
theorem dX0_fire_15 : decode cX0_fire 15 = .ok (.aload_n 3, 1) := dk_45 (dk_at dksX0_fire_0 15 rfl rfl)
theorem dX0_fire_16 : decode cX0_fire 16 = .ok (.aload_n 0, 1) := dk_42 (dk_at dksX0_fire_0 16 rfl rfl)
theorem dX0_fire_17 : decode cX0_fire 17 = .ok (.getfield 167, 3) := dk_180 0 167 (dk_at dksX0_fire_0 17 rfl rfl)
theorem dX0_fire_20 : decode cX0_fire 20 = .ok (.iload_n 1, 1) := dk_27 (dk_at dksX0_fire_0 20 rfl rfl)
theorem dX0_fire_21 : decode cX0_fire 21 = .ok (.invokestatic 461, 3) := dk_184 1 205 (dk_at dksX0_fire_0 21 rfl rfl)
theorem dX0_fire_24 : decode cX0_fire 24 = .ok (.iconst (-1), 1) := dk_2 (dk_at dksX0_fire_1 0 rfl rfl)
theorem dX0_fire_25 : decode cX0_fire 25 = .ok (.invokevirtual 472, 3) := dk_182 1 216 (dk_at dksX0_fire_1 1 rfl rfl)
theorem dX0_fire_28 : decode cX0_fire 28 = .ok (.iload_n 2, 1) := dk_28 (dk_at dksX0_fire_1 4 rfl rfl)
theorem dX0_fire_29 : decode cX0_fire 29 = .ok (.invokevirtual 476, 3) := dk_182 1 220 (dk_at dksX0_fire_1 5 rfl rfl)
theorem dX0_fire_32 : decode cX0_fire 32 = .ok (.astore 4, 2) := dk_58 4 (dk_at dksX0_fire_1 8 rfl rfl)
theorem dX0_fire_34 : decode cX0_fire 34 = .ok (.aload_n 0, 1) := dk_42 (dk_at dksX0_fire_1 10 rfl rfl)
theorem dX0_fire_35 : decode cX0_fire 35 = .ok (.aload 4, 2) := dk_25 4 (dk_at dksX0_fire_1 11 rfl rfl)
theorem dX0_fire_37 : decode cX0_fire 37 = .ok (.invokestatic 480, 3) := dk_184 1 224 (dk_at dksX0_fire_1 13 rfl rfl)
theorem dX0_fire_40 : decode cX0_fire 40 = .ok (.putfield 483, 3) := dk_181 1 227 (dk_at dksX0_fire_1 16 rfl rfl)
theorem dX0_fire_43 : decode cX0_fire 43 = .ok (.aload 4, 2) := dk_25 4 (dk_at dksX0_fire_1 19 rfl rfl)
theorem dX0_fire_45 : decode cX0_fire 45 = .ok (.invokestatic 486, 3) := dk_184 1 230 (dk_at dksX0_fire_1 21 rfl rfl)
theorem dX0_fire_48 : decode cX0_fire 48 = .ok (.ireturn, 1) := dk_172 (dk_at dksX0_fire_2 0 rfl rfl)
theorem dX0_fire_49 : decode cX0_fire 49 = .ok (.astore_n 3, 1) := dk_78 (dk_at dksX0_fire_2 1 rfl rfl)
theorem dX0_fire_50 : decode cX0_fire 50 = .ok (.aload_n 0, 1) := dk_42 (dk_at dksX0_fire_2 2 rfl rfl)
theorem dX0_fire_51 : decode cX0_fire 51 = .ok (.aload_n 3, 1) := dk_45 (dk_at dksX0_fire_2 3 rfl rfl)
theorem dX0_fire_52 : decode cX0_fire 52 = .ok (.invokevirtual 230, 3) := dk_182 0 230 (dk_at dksX0_fire_2 4 rfl rfl)
theorem dX0_fire_55 : decode cX0_fire 55 = .ok (.ireturn, 1) := dk_172 (dk_at dksX0_fire_2 7 rfl rfl)
abbrev cX0_valueOf : ByteArray := prog_1_method_50_code
def yX0_valueOf : MethodName := ⟨RX0, "valueOf", "(LPluginChains$Outcome;)I"⟩
def dkwX0_valueOf_1 : List UInt8 := [42, 192, 0, 98, 76, 43, 180, 0, 100, 167, 0, 4, 3, 172]
abbrev dktX0_valueOf_1 : List UInt8 := dkwX0_valueOf_1 ++ []
def dkwX0_valueOf_0 : List UInt8 := [42, 193, 0, 93, 153, 0, 13, 42, 192, 0, 93, 76, 43, 180, 0, 95, 172, 42, 193, 0, 98, 153, 0, 15]
abbrev dktX0_valueOf_0 : List UInt8 := dkwX0_valueOf_0 ++ dktX0_valueOf_1
theorem dksX0_valueOf_0 : cX0_valueOf.data.toList.drop 0 = dktX0_valueOf_0 := by decide +kernel
theorem dksX0_valueOf_1 : cX0_valueOf.data.toList.drop 24 = dktX0_valueOf_1 := dk_seg dksX0_valueOf_0 24 rfl rfl
theorem dX0_valueOf_0 : decode cX0_valueOf 0 = .ok (.aload_n 0, 1) := dk_42 (dk_at dksX0_valueOf_0 0 rfl rfl)
theorem dX0_valueOf_1 : decode cX0_valueOf 1 = .ok (.instanceof 93, 3) := dk_193 0 93 (dk_at dksX0_valueOf_0 1 rfl rfl)
theorem dX0_valueOf_4 : decode cX0_valueOf 4 = .ok (.ifCond .eq 13, 3) := dk_153 0 13 (dk_at dksX0_valueOf_0 4 rfl rfl)
theorem dX0_valueOf_7 : decode cX0_valueOf 7 = .ok (.aload_n 0, 1) := dk_42 (dk_at dksX0_valueOf_0 7 rfl rfl)
theorem dX0_valueOf_8 : decode cX0_valueOf 8 = .ok (.checkcast 93, 3) := dk_192 0 93 (dk_at dksX0_valueOf_0 8 rfl rfl)
theorem dX0_valueOf_11 : decode cX0_valueOf 11 = .ok (.astore_n 1, 1) := dk_76 (dk_at dksX0_valueOf_0 11 rfl rfl)
theorem dX0_valueOf_12 : decode cX0_valueOf 12 = .ok (.aload_n 1, 1) := dk_43 (dk_at dksX0_valueOf_0 12 rfl rfl)
theorem dX0_valueOf_13 : decode cX0_valueOf 13 = .ok (.getfield 95, 3) := dk_180 0 95 (dk_at dksX0_valueOf_0 13 rfl rfl)
theorem dX0_valueOf_16 : decode cX0_valueOf 16 = .ok (.ireturn, 1) := dk_172 (dk_at dksX0_valueOf_0 16 rfl rfl)
theorem dX0_valueOf_17 : decode cX0_valueOf 17 = .ok (.aload_n 0, 1) := dk_42 (dk_at dksX0_valueOf_0 17 rfl rfl)
theorem dX0_valueOf_18 : decode cX0_valueOf 18 = .ok (.instanceof 98, 3) := dk_193 0 98 (dk_at dksX0_valueOf_0 18 rfl rfl)
theorem dX0_valueOf_21 : decode cX0_valueOf 21 = .ok (.ifCond .eq 15, 3) := dk_153 0 15 (dk_at dksX0_valueOf_0 21 rfl rfl)
theorem dX0_valueOf_24 : decode cX0_valueOf 24 = .ok (.aload_n 0, 1) := dk_42 (dk_at dksX0_valueOf_1 0 rfl rfl)
theorem dX0_valueOf_25 : decode cX0_valueOf 25 = .ok (.checkcast 98, 3) := dk_192 0 98 (dk_at dksX0_valueOf_1 1 rfl rfl)
theorem dX0_valueOf_28 : decode cX0_valueOf 28 = .ok (.astore_n 1, 1) := dk_76 (dk_at dksX0_valueOf_1 4 rfl rfl)
theorem dX0_valueOf_29 : decode cX0_valueOf 29 = .ok (.aload_n 1, 1) := dk_43 (dk_at dksX0_valueOf_1 5 rfl rfl)
theorem dX0_valueOf_30 : decode cX0_valueOf 30 = .ok (.getfield 100, 3) := dk_180 0 100 (dk_at dksX0_valueOf_1 6 rfl rfl)
theorem dX0_valueOf_33 : decode cX0_valueOf 33 = .ok (.goto 4, 3) := dk_167 0 4 (dk_at dksX0_valueOf_1 9 rfl rfl)
theorem dX0_valueOf_36 : decode cX0_valueOf 36 = .ok (.iconst 0, 1) := dk_3 (dk_at dksX0_valueOf_1 12 rfl rfl)
theorem dX0_valueOf_37 : decode cX0_valueOf 37 = .ok (.ireturn, 1) := dk_172 (dk_at dksX0_valueOf_1 13 rfl rfl)
abbrev cX0_sortOf : ByteArray := prog_1_method_49_code
def yX0_sortOf : MethodName := ⟨RX0, "sortOf", "(LPluginChains$Outcome;)I"⟩
def dkwX0_sortOf_0 : List UInt8 := [42, 193, 0, 93, 153, 0, 7, 3, 167, 0, 15, 42, 193, 0, 98, 153, 0, 7, 4, 167, 0, 4, 5, 172]
abbrev dktX0_sortOf_0 : List UInt8 := dkwX0_sortOf_0 ++ []
theorem dksX0_sortOf_0 : cX0_sortOf.data.toList.drop 0 = dktX0_sortOf_0 := by decide +kernel
theorem dX0_sortOf_0 : decode cX0_sortOf 0 = .ok (.aload_n 0, 1) := dk_42 (dk_at dksX0_sortOf_0 0 rfl rfl)
theorem dX0_sortOf_1 : decode cX0_sortOf 1 = .ok (.instanceof 93, 3) := dk_193 0 93 (dk_at dksX0_sortOf_0 1 rfl rfl)
theorem dX0_sortOf_4 : decode cX0_sortOf 4 = .ok (.ifCond .eq 7, 3) := dk_153 0 7 (dk_at dksX0_sortOf_0 4 rfl rfl)
theorem dX0_sortOf_7 : decode cX0_sortOf 7 = .ok (.iconst 0, 1) := dk_3 (dk_at dksX0_sortOf_0 7 rfl rfl)
theorem dX0_sortOf_8 : decode cX0_sortOf 8 = .ok (.goto 15, 3) := dk_167 0 15 (dk_at dksX0_sortOf_0 8 rfl rfl)
theorem dX0_sortOf_11 : decode cX0_sortOf 11 = .ok (.aload_n 0, 1) := dk_42 (dk_at dksX0_sortOf_0 11 rfl rfl)
theorem dX0_sortOf_12 : decode cX0_sortOf 12 = .ok (.instanceof 98, 3) := dk_193 0 98 (dk_at dksX0_sortOf_0 12 rfl rfl)
theorem dX0_sortOf_15 : decode cX0_sortOf 15 = .ok (.ifCond .eq 7, 3) := dk_153 0 7 (dk_at dksX0_sortOf_0 15 rfl rfl)
theorem dX0_sortOf_18 : decode cX0_sortOf 18 = .ok (.iconst 1, 1) := dk_4 (dk_at dksX0_sortOf_0 18 rfl rfl)
theorem dX0_sortOf_19 : decode cX0_sortOf 19 = .ok (.goto 4, 3) := dk_167 0 4 (dk_at dksX0_sortOf_0 19 rfl rfl)
theorem dX0_sortOf_22 : decode cX0_sortOf 22 = .ok (.iconst 2, 1) := dk_5 (dk_at dksX0_sortOf_0 22 rfl rfl)
theorem dX0_sortOf_23 : decode cX0_sortOf 23 = .ok (.ireturn, 1) := dk_172 (dk_at dksX0_sortOf_0 23 rfl rfl)
abbrev cX0_given : ByteArray := prog_1_method_52_code
def yX0_given : MethodName := ⟨RX0, "given", "()I"⟩
theorem dX0_given_0 : decode cX0_given 0 = .ok (.aload_n 0, 1) := by decide +kernel
theorem dX0_given_1 : decode cX0_given 1 = .ok (.getfield 483, 3) := by decide +kernel
theorem dX0_given_4 : decode cX0_given 4 = .ok (.ireturn, 1) := by decide +kernel
abbrev cX0_pure : ByteArray := prog_1_method_53_code
def yX0_pure : MethodName := ⟨RX0, "pure", "(III)J"⟩
def dkwX0_pure_3 : List UInt8 := [184, 1, 224, 133, 97, 173, 58, 4, 42, 25, 4, 182, 0, 230, 133, 173]
abbrev dktX0_pure_3 : List UInt8 := dkwX0_pure_3 ++ []
def dkwX0_pure_2 : List UInt8 := [182, 1, 220, 58, 5, 29, 154, 0, 12, 25, 5, 184, 1, 230, 133, 167, 0, 13, 20, 1, 233, 25, 5]
abbrev dktX0_pure_2 : List UInt8 := dkwX0_pure_2 ++ dktX0_pure_3
def dkwX0_pure_1 : List UInt8 := [183, 1, 213, 58, 4, 25, 4, 25, 4, 42, 180, 0, 167, 27, 184, 1, 205, 2, 182, 1, 216, 28]
abbrev dktX0_pure_1 : List UInt8 := dkwX0_pure_1 ++ dktX0_pure_2
def dkwX0_pure_0 : List UInt8 := [27, 184, 1, 182, 29, 133, 9, 10, 184, 0, 219, 16, 251, 184, 0, 213, 187, 1, 211, 89, 42, 3]
abbrev dktX0_pure_0 : List UInt8 := dkwX0_pure_0 ++ dktX0_pure_1
theorem dksX0_pure_0 : cX0_pure.data.toList.drop 0 = dktX0_pure_0 := by decide +kernel
theorem dksX0_pure_1 : cX0_pure.data.toList.drop 22 = dktX0_pure_1 := dk_seg dksX0_pure_0 22 rfl rfl
theorem dksX0_pure_2 : cX0_pure.data.toList.drop 44 = dktX0_pure_2 := dk_seg dksX0_pure_1 22 rfl rfl
theorem dksX0_pure_3 : cX0_pure.data.toList.drop 67 = dktX0_pure_3 := dk_seg dksX0_pure_2 23 rfl rfl
theorem dX0_pure_0 : decode cX0_pure 0 = .ok (.iload_n 1, 1) := dk_27 (dk_at dksX0_pure_0 0 rfl rfl)
theorem dX0_pure_1 : decode cX0_pure 1 = .ok (.invokestatic 438, 3) := dk_184 1 182 (dk_at dksX0_pure_0 1 rfl rfl)
theorem dX0_pure_4 : decode cX0_pure 4 = .ok (.iload_n 3, 1) := dk_29 (dk_at dksX0_pure_0 4 rfl rfl)
theorem dX0_pure_5 : decode cX0_pure 5 = .ok (.i2l, 1) := dk_133 (dk_at dksX0_pure_0 5 rfl rfl)
theorem dX0_pure_6 : decode cX0_pure 6 = .ok (.lconst 0, 1) := dk_9 (dk_at dksX0_pure_0 6 rfl rfl)
theorem dX0_pure_7 : decode cX0_pure 7 = .ok (.lconst 1, 1) := dk_10 (dk_at dksX0_pure_0 7 rfl rfl)
theorem dX0_pure_8 : decode cX0_pure 8 = .ok (.invokestatic 219, 3) := dk_184 0 219 (dk_at dksX0_pure_0 8 rfl rfl)
theorem dX0_pure_11 : decode cX0_pure 11 = .ok (.bipush (-5), 2) := dk_16 251 (dk_at dksX0_pure_0 11 rfl rfl)
theorem dX0_pure_13 : decode cX0_pure 13 = .ok (.invokestatic 213, 3) := dk_184 0 213 (dk_at dksX0_pure_0 13 rfl rfl)
theorem dX0_pure_16 : decode cX0_pure 16 = .ok (.new 467, 3) := dk_187 1 211 (dk_at dksX0_pure_0 16 rfl rfl)
theorem dX0_pure_19 : decode cX0_pure 19 = .ok (.dup, 1) := dk_89 (dk_at dksX0_pure_0 19 rfl rfl)
theorem dX0_pure_20 : decode cX0_pure 20 = .ok (.aload_n 0, 1) := dk_42 (dk_at dksX0_pure_0 20 rfl rfl)
theorem dX0_pure_21 : decode cX0_pure 21 = .ok (.iconst 0, 1) := dk_3 (dk_at dksX0_pure_0 21 rfl rfl)
theorem dX0_pure_22 : decode cX0_pure 22 = .ok (.invokespecial 469, 3) := dk_183 1 213 (dk_at dksX0_pure_1 0 rfl rfl)
theorem dX0_pure_25 : decode cX0_pure 25 = .ok (.astore 4, 2) := dk_58 4 (dk_at dksX0_pure_1 3 rfl rfl)
theorem dX0_pure_27 : decode cX0_pure 27 = .ok (.aload 4, 2) := dk_25 4 (dk_at dksX0_pure_1 5 rfl rfl)
theorem dX0_pure_29 : decode cX0_pure 29 = .ok (.aload 4, 2) := dk_25 4 (dk_at dksX0_pure_1 7 rfl rfl)
theorem dX0_pure_31 : decode cX0_pure 31 = .ok (.aload_n 0, 1) := dk_42 (dk_at dksX0_pure_1 9 rfl rfl)
theorem dX0_pure_32 : decode cX0_pure 32 = .ok (.getfield 167, 3) := dk_180 0 167 (dk_at dksX0_pure_1 10 rfl rfl)
theorem dX0_pure_35 : decode cX0_pure 35 = .ok (.iload_n 1, 1) := dk_27 (dk_at dksX0_pure_1 13 rfl rfl)
theorem dX0_pure_36 : decode cX0_pure 36 = .ok (.invokestatic 461, 3) := dk_184 1 205 (dk_at dksX0_pure_1 14 rfl rfl)
theorem dX0_pure_39 : decode cX0_pure 39 = .ok (.iconst (-1), 1) := dk_2 (dk_at dksX0_pure_1 17 rfl rfl)
theorem dX0_pure_40 : decode cX0_pure 40 = .ok (.invokevirtual 472, 3) := dk_182 1 216 (dk_at dksX0_pure_1 18 rfl rfl)
theorem dX0_pure_43 : decode cX0_pure 43 = .ok (.iload_n 2, 1) := dk_28 (dk_at dksX0_pure_1 21 rfl rfl)
theorem dX0_pure_44 : decode cX0_pure 44 = .ok (.invokevirtual 476, 3) := dk_182 1 220 (dk_at dksX0_pure_2 0 rfl rfl)
theorem dX0_pure_47 : decode cX0_pure 47 = .ok (.astore 5, 2) := dk_58 5 (dk_at dksX0_pure_2 3 rfl rfl)
theorem dX0_pure_49 : decode cX0_pure 49 = .ok (.iload_n 3, 1) := dk_29 (dk_at dksX0_pure_2 5 rfl rfl)
theorem dX0_pure_50 : decode cX0_pure 50 = .ok (.ifCond .ne 12, 3) := dk_154 0 12 (dk_at dksX0_pure_2 6 rfl rfl)
theorem dX0_pure_53 : decode cX0_pure 53 = .ok (.aload 5, 2) := dk_25 5 (dk_at dksX0_pure_2 9 rfl rfl)
theorem dX0_pure_55 : decode cX0_pure 55 = .ok (.invokestatic 486, 3) := dk_184 1 230 (dk_at dksX0_pure_2 11 rfl rfl)
theorem dX0_pure_58 : decode cX0_pure 58 = .ok (.i2l, 1) := dk_133 (dk_at dksX0_pure_2 14 rfl rfl)
theorem dX0_pure_59 : decode cX0_pure 59 = .ok (.goto 13, 3) := dk_167 0 13 (dk_at dksX0_pure_2 15 rfl rfl)
theorem dX0_pure_62 : decode cX0_pure 62 = .ok (.ldc2_w 489, 3) := dk_20 1 233 (dk_at dksX0_pure_2 18 rfl rfl)
theorem dX0_pure_65 : decode cX0_pure 65 = .ok (.aload 5, 2) := dk_25 5 (dk_at dksX0_pure_2 21 rfl rfl)
theorem dX0_pure_67 : decode cX0_pure 67 = .ok (.invokestatic 480, 3) := dk_184 1 224 (dk_at dksX0_pure_3 0 rfl rfl)
theorem dX0_pure_70 : decode cX0_pure 70 = .ok (.i2l, 1) := dk_133 (dk_at dksX0_pure_3 3 rfl rfl)
theorem dX0_pure_71 : decode cX0_pure 71 = .ok (.ladd, 1) := dk_97 (dk_at dksX0_pure_3 4 rfl rfl)
theorem dX0_pure_72 : decode cX0_pure 72 = .ok (.lreturn, 1) := dk_173 (dk_at dksX0_pure_3 5 rfl rfl)
theorem dX0_pure_73 : decode cX0_pure 73 = .ok (.astore 4, 2) := dk_58 4 (dk_at dksX0_pure_3 6 rfl rfl)
theorem dX0_pure_75 : decode cX0_pure 75 = .ok (.aload_n 0, 1) := dk_42 (dk_at dksX0_pure_3 8 rfl rfl)
theorem dX0_pure_76 : decode cX0_pure 76 = .ok (.aload 4, 2) := dk_25 4 (dk_at dksX0_pure_3 9 rfl rfl)
theorem dX0_pure_78 : decode cX0_pure 78 = .ok (.invokevirtual 230, 3) := dk_182 0 230 (dk_at dksX0_pure_3 11 rfl rfl)
theorem dX0_pure_81 : decode cX0_pure 81 = .ok (.i2l, 1) := dk_133 (dk_at dksX0_pure_3 14 rfl rfl)
theorem dX0_pure_82 : decode cX0_pure 82 = .ok (.lreturn, 1) := dk_173 (dk_at dksX0_pure_3 15 rfl rfl)
abbrev cX0_matter : ByteArray := prog_1_method_54_code
def yX0_matter : MethodName := ⟨RX0, "matter", "(II)I"⟩
def dkwX0_matter_5 : List UInt8 := [21, 6, 172, 78, 42, 45, 182, 0, 230, 172]
abbrev dktX0_matter_5 : List UInt8 := dkwX0_matter_5 ++ []
def dkwX0_matter_4 : List UInt8 := [184, 1, 235, 153, 0, 7, 3, 167, 0, 10, 4, 25, 8, 180, 1, 210, 120, 128, 54, 6, 167, 255, 190]
abbrev dktX0_matter_4 : List UInt8 := dkwX0_matter_4 ++ dktX0_matter_5
def dkwX0_matter_3 : List UInt8 := [25, 4, 25, 8, 180, 1, 210, 182, 1, 216, 28, 182, 1, 220, 58, 9, 21, 6, 25, 5, 25, 9]
abbrev dktX0_matter_3 : List UInt8 := dkwX0_matter_3 ++ dktX0_matter_4
def dkwX0_matter_2 : List UInt8 := [25, 7, 185, 1, 174, 1, 0, 153, 0, 62, 25, 7, 185, 1, 179, 1, 0, 192, 0, 117, 58, 8, 45, 45]
abbrev dktX0_matter_2 : List UInt8 := dkwX0_matter_2 ++ dktX0_matter_3
def dkwX0_matter_1 : List UInt8 := [45, 45, 25, 4, 2, 182, 1, 216, 28, 182, 1, 220, 58, 5, 3, 54, 6, 25, 4, 182, 1, 209, 58, 7]
abbrev dktX0_matter_1 : List UInt8 := dkwX0_matter_1 ++ dktX0_matter_2
def dkwX0_matter_0 : List UInt8 := [27, 184, 1, 182, 187, 1, 211, 89, 42, 3, 183, 1, 213, 78, 42, 180, 0, 167, 27, 184, 1, 205, 58, 4]
abbrev dktX0_matter_0 : List UInt8 := dkwX0_matter_0 ++ dktX0_matter_1
theorem dksX0_matter_0 : cX0_matter.data.toList.drop 0 = dktX0_matter_0 := by decide +kernel
theorem dksX0_matter_1 : cX0_matter.data.toList.drop 24 = dktX0_matter_1 := dk_seg dksX0_matter_0 24 rfl rfl
theorem dksX0_matter_2 : cX0_matter.data.toList.drop 48 = dktX0_matter_2 := dk_seg dksX0_matter_1 24 rfl rfl
theorem dksX0_matter_3 : cX0_matter.data.toList.drop 72 = dktX0_matter_3 := dk_seg dksX0_matter_2 24 rfl rfl
theorem dksX0_matter_4 : cX0_matter.data.toList.drop 94 = dktX0_matter_4 := dk_seg dksX0_matter_3 22 rfl rfl
theorem dksX0_matter_5 : cX0_matter.data.toList.drop 117 = dktX0_matter_5 := dk_seg dksX0_matter_4 23 rfl rfl
theorem dX0_matter_0 : decode cX0_matter 0 = .ok (.iload_n 1, 1) := dk_27 (dk_at dksX0_matter_0 0 rfl rfl)
theorem dX0_matter_1 : decode cX0_matter 1 = .ok (.invokestatic 438, 3) := dk_184 1 182 (dk_at dksX0_matter_0 1 rfl rfl)
theorem dX0_matter_4 : decode cX0_matter 4 = .ok (.new 467, 3) := dk_187 1 211 (dk_at dksX0_matter_0 4 rfl rfl)
theorem dX0_matter_7 : decode cX0_matter 7 = .ok (.dup, 1) := dk_89 (dk_at dksX0_matter_0 7 rfl rfl)
theorem dX0_matter_8 : decode cX0_matter 8 = .ok (.aload_n 0, 1) := dk_42 (dk_at dksX0_matter_0 8 rfl rfl)
theorem dX0_matter_9 : decode cX0_matter 9 = .ok (.iconst 0, 1) := dk_3 (dk_at dksX0_matter_0 9 rfl rfl)
theorem dX0_matter_10 : decode cX0_matter 10 = .ok (.invokespecial 469, 3) := dk_183 1 213 (dk_at dksX0_matter_0 10 rfl rfl)
theorem dX0_matter_13 : decode cX0_matter 13 = .ok (.astore_n 3, 1) := dk_78 (dk_at dksX0_matter_0 13 rfl rfl)
theorem dX0_matter_14 : decode cX0_matter 14 = .ok (.aload_n 0, 1) := dk_42 (dk_at dksX0_matter_0 14 rfl rfl)
theorem dX0_matter_15 : decode cX0_matter 15 = .ok (.getfield 167, 3) := dk_180 0 167 (dk_at dksX0_matter_0 15 rfl rfl)
theorem dX0_matter_18 : decode cX0_matter 18 = .ok (.iload_n 1, 1) := dk_27 (dk_at dksX0_matter_0 18 rfl rfl)
theorem dX0_matter_19 : decode cX0_matter 19 = .ok (.invokestatic 461, 3) := dk_184 1 205 (dk_at dksX0_matter_0 19 rfl rfl)
theorem dX0_matter_22 : decode cX0_matter 22 = .ok (.astore 4, 2) := dk_58 4 (dk_at dksX0_matter_0 22 rfl rfl)
theorem dX0_matter_24 : decode cX0_matter 24 = .ok (.aload_n 3, 1) := dk_45 (dk_at dksX0_matter_1 0 rfl rfl)
theorem dX0_matter_25 : decode cX0_matter 25 = .ok (.aload_n 3, 1) := dk_45 (dk_at dksX0_matter_1 1 rfl rfl)
theorem dX0_matter_26 : decode cX0_matter 26 = .ok (.aload 4, 2) := dk_25 4 (dk_at dksX0_matter_1 2 rfl rfl)
theorem dX0_matter_28 : decode cX0_matter 28 = .ok (.iconst (-1), 1) := dk_2 (dk_at dksX0_matter_1 4 rfl rfl)
theorem dX0_matter_29 : decode cX0_matter 29 = .ok (.invokevirtual 472, 3) := dk_182 1 216 (dk_at dksX0_matter_1 5 rfl rfl)
theorem dX0_matter_32 : decode cX0_matter 32 = .ok (.iload_n 2, 1) := dk_28 (dk_at dksX0_matter_1 8 rfl rfl)
theorem dX0_matter_33 : decode cX0_matter 33 = .ok (.invokevirtual 476, 3) := dk_182 1 220 (dk_at dksX0_matter_1 9 rfl rfl)
theorem dX0_matter_36 : decode cX0_matter 36 = .ok (.astore 5, 2) := dk_58 5 (dk_at dksX0_matter_1 12 rfl rfl)
theorem dX0_matter_38 : decode cX0_matter 38 = .ok (.iconst 0, 1) := dk_3 (dk_at dksX0_matter_1 14 rfl rfl)
theorem dX0_matter_39 : decode cX0_matter 39 = .ok (.istore 6, 2) := dk_54 6 (dk_at dksX0_matter_1 15 rfl rfl)
theorem dX0_matter_41 : decode cX0_matter 41 = .ok (.aload 4, 2) := dk_25 4 (dk_at dksX0_matter_1 17 rfl rfl)
theorem dX0_matter_43 : decode cX0_matter 43 = .ok (.invokevirtual 465, 3) := dk_182 1 209 (dk_at dksX0_matter_1 19 rfl rfl)
theorem dX0_matter_46 : decode cX0_matter 46 = .ok (.astore 7, 2) := dk_58 7 (dk_at dksX0_matter_1 22 rfl rfl)
theorem dX0_matter_48 : decode cX0_matter 48 = .ok (.aload 7, 2) := dk_25 7 (dk_at dksX0_matter_2 0 rfl rfl)
theorem dX0_matter_50 : decode cX0_matter 50 = .ok (.invokeinterface 430 1, 5) := by decide +kernel
theorem dX0_matter_55 : decode cX0_matter 55 = .ok (.ifCond .eq 62, 3) := dk_153 0 62 (dk_at dksX0_matter_2 7 rfl rfl)
theorem dX0_matter_58 : decode cX0_matter 58 = .ok (.aload 7, 2) := dk_25 7 (dk_at dksX0_matter_2 10 rfl rfl)
theorem dX0_matter_60 : decode cX0_matter 60 = .ok (.invokeinterface 435 1, 5) := by decide +kernel
theorem dX0_matter_65 : decode cX0_matter 65 = .ok (.checkcast 117, 3) := dk_192 0 117 (dk_at dksX0_matter_2 17 rfl rfl)
theorem dX0_matter_68 : decode cX0_matter 68 = .ok (.astore 8, 2) := dk_58 8 (dk_at dksX0_matter_2 20 rfl rfl)
theorem dX0_matter_70 : decode cX0_matter 70 = .ok (.aload_n 3, 1) := dk_45 (dk_at dksX0_matter_2 22 rfl rfl)
theorem dX0_matter_71 : decode cX0_matter 71 = .ok (.aload_n 3, 1) := dk_45 (dk_at dksX0_matter_2 23 rfl rfl)
theorem dX0_matter_72 : decode cX0_matter 72 = .ok (.aload 4, 2) := dk_25 4 (dk_at dksX0_matter_3 0 rfl rfl)
theorem dX0_matter_74 : decode cX0_matter 74 = .ok (.aload 8, 2) := dk_25 8 (dk_at dksX0_matter_3 2 rfl rfl)
theorem dX0_matter_76 : decode cX0_matter 76 = .ok (.getfield 466, 3) := dk_180 1 210 (dk_at dksX0_matter_3 4 rfl rfl)
theorem dX0_matter_79 : decode cX0_matter 79 = .ok (.invokevirtual 472, 3) := dk_182 1 216 (dk_at dksX0_matter_3 7 rfl rfl)
theorem dX0_matter_82 : decode cX0_matter 82 = .ok (.iload_n 2, 1) := dk_28 (dk_at dksX0_matter_3 10 rfl rfl)
theorem dX0_matter_83 : decode cX0_matter 83 = .ok (.invokevirtual 476, 3) := dk_182 1 220 (dk_at dksX0_matter_3 11 rfl rfl)
theorem dX0_matter_86 : decode cX0_matter 86 = .ok (.astore 9, 2) := dk_58 9 (dk_at dksX0_matter_3 14 rfl rfl)
theorem dX0_matter_88 : decode cX0_matter 88 = .ok (.iload 6, 2) := dk_21 6 (dk_at dksX0_matter_3 16 rfl rfl)
theorem dX0_matter_90 : decode cX0_matter 90 = .ok (.aload 5, 2) := dk_25 5 (dk_at dksX0_matter_3 18 rfl rfl)
theorem dX0_matter_92 : decode cX0_matter 92 = .ok (.aload 9, 2) := dk_25 9 (dk_at dksX0_matter_3 20 rfl rfl)
theorem dX0_matter_94 : decode cX0_matter 94 = .ok (.invokestatic 491, 3) := dk_184 1 235 (dk_at dksX0_matter_4 0 rfl rfl)
theorem dX0_matter_97 : decode cX0_matter 97 = .ok (.ifCond .eq 7, 3) := dk_153 0 7 (dk_at dksX0_matter_4 3 rfl rfl)
theorem dX0_matter_100 : decode cX0_matter 100 = .ok (.iconst 0, 1) := dk_3 (dk_at dksX0_matter_4 6 rfl rfl)
theorem dX0_matter_101 : decode cX0_matter 101 = .ok (.goto 10, 3) := dk_167 0 10 (dk_at dksX0_matter_4 7 rfl rfl)
theorem dX0_matter_104 : decode cX0_matter 104 = .ok (.iconst 1, 1) := dk_4 (dk_at dksX0_matter_4 10 rfl rfl)
theorem dX0_matter_105 : decode cX0_matter 105 = .ok (.aload 8, 2) := dk_25 8 (dk_at dksX0_matter_4 11 rfl rfl)
theorem dX0_matter_107 : decode cX0_matter 107 = .ok (.getfield 466, 3) := dk_180 1 210 (dk_at dksX0_matter_4 13 rfl rfl)
theorem dX0_matter_110 : decode cX0_matter 110 = .ok (.ishl, 1) := dk_120 (dk_at dksX0_matter_4 16 rfl rfl)
theorem dX0_matter_111 : decode cX0_matter 111 = .ok (.ior, 1) := dk_128 (dk_at dksX0_matter_4 17 rfl rfl)
theorem dX0_matter_112 : decode cX0_matter 112 = .ok (.istore 6, 2) := dk_54 6 (dk_at dksX0_matter_4 18 rfl rfl)
theorem dX0_matter_114 : decode cX0_matter 114 = .ok (.goto (-66), 3) := dk_167 255 190 (dk_at dksX0_matter_4 20 rfl rfl)
theorem dX0_matter_117 : decode cX0_matter 117 = .ok (.iload 6, 2) := dk_21 6 (dk_at dksX0_matter_5 0 rfl rfl)
theorem dX0_matter_119 : decode cX0_matter 119 = .ok (.ireturn, 1) := dk_172 (dk_at dksX0_matter_5 2 rfl rfl)
theorem dX0_matter_120 : decode cX0_matter 120 = .ok (.astore_n 3, 1) := dk_78 (dk_at dksX0_matter_5 3 rfl rfl)
theorem dX0_matter_121 : decode cX0_matter 121 = .ok (.aload_n 0, 1) := dk_42 (dk_at dksX0_matter_5 4 rfl rfl)
theorem dX0_matter_122 : decode cX0_matter 122 = .ok (.aload_n 3, 1) := dk_45 (dk_at dksX0_matter_5 5 rfl rfl)
theorem dX0_matter_123 : decode cX0_matter 123 = .ok (.invokevirtual 230, 3) := dk_182 0 230 (dk_at dksX0_matter_5 6 rfl rfl)
theorem dX0_matter_126 : decode cX0_matter 126 = .ok (.ireturn, 1) := dk_172 (dk_at dksX0_matter_5 9 rfl rfl)
abbrev cX0_isAlike : ByteArray := prog_1_method_7_code
def yX0_isAlike : MethodName := ⟨RX0, "isAlike", "(LPluginChains$Outcome;LPluginChains$Outcome;)Z"⟩
def dkwX0_isAlike_4 : List UInt8 := [153, 0, 7, 4, 167, 0, 4, 3, 172]
abbrev dktX0_isAlike_4 : List UInt8 := dkwX0_isAlike_4 ++ []
def dkwX0_isAlike_3 : List UInt8 := [180, 0, 100, 160, 0, 7, 4, 167, 0, 4, 3, 172, 42, 193, 0, 101, 153, 0, 14, 43, 193, 0, 101]
abbrev dktX0_isAlike_3 : List UInt8 := dkwX0_isAlike_3 ++ dktX0_isAlike_4
def dkwX0_isAlike_2 : List UInt8 := [42, 192, 0, 98, 77, 43, 193, 0, 98, 153, 0, 25, 43, 192, 0, 98, 78, 44, 180, 0, 100, 45]
abbrev dktX0_isAlike_2 : List UInt8 := dkwX0_isAlike_2 ++ dktX0_isAlike_3
def dkwX0_isAlike_1 : List UInt8 := [44, 180, 0, 95, 45, 180, 0, 95, 160, 0, 7, 4, 167, 0, 4, 3, 172, 42, 193, 0, 98, 153, 0, 37]
abbrev dktX0_isAlike_1 : List UInt8 := dkwX0_isAlike_1 ++ dktX0_isAlike_2
def dkwX0_isAlike_0 : List UInt8 := [42, 193, 0, 93, 153, 0, 37, 42, 192, 0, 93, 77, 43, 193, 0, 93, 153, 0, 25, 43, 192, 0, 93, 78]
abbrev dktX0_isAlike_0 : List UInt8 := dkwX0_isAlike_0 ++ dktX0_isAlike_1
theorem dksX0_isAlike_0 : cX0_isAlike.data.toList.drop 0 = dktX0_isAlike_0 := by decide +kernel
theorem dksX0_isAlike_1 : cX0_isAlike.data.toList.drop 24 = dktX0_isAlike_1 := dk_seg dksX0_isAlike_0 24 rfl rfl
theorem dksX0_isAlike_2 : cX0_isAlike.data.toList.drop 48 = dktX0_isAlike_2 := dk_seg dksX0_isAlike_1 24 rfl rfl
theorem dksX0_isAlike_3 : cX0_isAlike.data.toList.drop 70 = dktX0_isAlike_3 := dk_seg dksX0_isAlike_2 22 rfl rfl
theorem dksX0_isAlike_4 : cX0_isAlike.data.toList.drop 93 = dktX0_isAlike_4 := dk_seg dksX0_isAlike_3 23 rfl rfl
theorem dX0_isAlike_0 : decode cX0_isAlike 0 = .ok (.aload_n 0, 1) := dk_42 (dk_at dksX0_isAlike_0 0 rfl rfl)
theorem dX0_isAlike_1 : decode cX0_isAlike 1 = .ok (.instanceof 93, 3) := dk_193 0 93 (dk_at dksX0_isAlike_0 1 rfl rfl)
theorem dX0_isAlike_4 : decode cX0_isAlike 4 = .ok (.ifCond .eq 37, 3) := dk_153 0 37 (dk_at dksX0_isAlike_0 4 rfl rfl)
theorem dX0_isAlike_7 : decode cX0_isAlike 7 = .ok (.aload_n 0, 1) := dk_42 (dk_at dksX0_isAlike_0 7 rfl rfl)
theorem dX0_isAlike_8 : decode cX0_isAlike 8 = .ok (.checkcast 93, 3) := dk_192 0 93 (dk_at dksX0_isAlike_0 8 rfl rfl)
theorem dX0_isAlike_11 : decode cX0_isAlike 11 = .ok (.astore_n 2, 1) := dk_77 (dk_at dksX0_isAlike_0 11 rfl rfl)
theorem dX0_isAlike_12 : decode cX0_isAlike 12 = .ok (.aload_n 1, 1) := dk_43 (dk_at dksX0_isAlike_0 12 rfl rfl)
theorem dX0_isAlike_13 : decode cX0_isAlike 13 = .ok (.instanceof 93, 3) := dk_193 0 93 (dk_at dksX0_isAlike_0 13 rfl rfl)
theorem dX0_isAlike_16 : decode cX0_isAlike 16 = .ok (.ifCond .eq 25, 3) := dk_153 0 25 (dk_at dksX0_isAlike_0 16 rfl rfl)
theorem dX0_isAlike_19 : decode cX0_isAlike 19 = .ok (.aload_n 1, 1) := dk_43 (dk_at dksX0_isAlike_0 19 rfl rfl)
theorem dX0_isAlike_20 : decode cX0_isAlike 20 = .ok (.checkcast 93, 3) := dk_192 0 93 (dk_at dksX0_isAlike_0 20 rfl rfl)
theorem dX0_isAlike_23 : decode cX0_isAlike 23 = .ok (.astore_n 3, 1) := dk_78 (dk_at dksX0_isAlike_0 23 rfl rfl)
theorem dX0_isAlike_24 : decode cX0_isAlike 24 = .ok (.aload_n 2, 1) := dk_44 (dk_at dksX0_isAlike_1 0 rfl rfl)
theorem dX0_isAlike_25 : decode cX0_isAlike 25 = .ok (.getfield 95, 3) := dk_180 0 95 (dk_at dksX0_isAlike_1 1 rfl rfl)
theorem dX0_isAlike_28 : decode cX0_isAlike 28 = .ok (.aload_n 3, 1) := dk_45 (dk_at dksX0_isAlike_1 4 rfl rfl)
theorem dX0_isAlike_29 : decode cX0_isAlike 29 = .ok (.getfield 95, 3) := dk_180 0 95 (dk_at dksX0_isAlike_1 5 rfl rfl)
theorem dX0_isAlike_32 : decode cX0_isAlike 32 = .ok (.if_icmp .ne 7, 3) := dk_160 0 7 (dk_at dksX0_isAlike_1 8 rfl rfl)
theorem dX0_isAlike_35 : decode cX0_isAlike 35 = .ok (.iconst 1, 1) := dk_4 (dk_at dksX0_isAlike_1 11 rfl rfl)
theorem dX0_isAlike_36 : decode cX0_isAlike 36 = .ok (.goto 4, 3) := dk_167 0 4 (dk_at dksX0_isAlike_1 12 rfl rfl)
theorem dX0_isAlike_39 : decode cX0_isAlike 39 = .ok (.iconst 0, 1) := dk_3 (dk_at dksX0_isAlike_1 15 rfl rfl)
theorem dX0_isAlike_40 : decode cX0_isAlike 40 = .ok (.ireturn, 1) := dk_172 (dk_at dksX0_isAlike_1 16 rfl rfl)
theorem dX0_isAlike_41 : decode cX0_isAlike 41 = .ok (.aload_n 0, 1) := dk_42 (dk_at dksX0_isAlike_1 17 rfl rfl)
theorem dX0_isAlike_42 : decode cX0_isAlike 42 = .ok (.instanceof 98, 3) := dk_193 0 98 (dk_at dksX0_isAlike_1 18 rfl rfl)
theorem dX0_isAlike_45 : decode cX0_isAlike 45 = .ok (.ifCond .eq 37, 3) := dk_153 0 37 (dk_at dksX0_isAlike_1 21 rfl rfl)
theorem dX0_isAlike_48 : decode cX0_isAlike 48 = .ok (.aload_n 0, 1) := dk_42 (dk_at dksX0_isAlike_2 0 rfl rfl)
theorem dX0_isAlike_49 : decode cX0_isAlike 49 = .ok (.checkcast 98, 3) := dk_192 0 98 (dk_at dksX0_isAlike_2 1 rfl rfl)
theorem dX0_isAlike_52 : decode cX0_isAlike 52 = .ok (.astore_n 2, 1) := dk_77 (dk_at dksX0_isAlike_2 4 rfl rfl)
theorem dX0_isAlike_53 : decode cX0_isAlike 53 = .ok (.aload_n 1, 1) := dk_43 (dk_at dksX0_isAlike_2 5 rfl rfl)
theorem dX0_isAlike_54 : decode cX0_isAlike 54 = .ok (.instanceof 98, 3) := dk_193 0 98 (dk_at dksX0_isAlike_2 6 rfl rfl)
theorem dX0_isAlike_57 : decode cX0_isAlike 57 = .ok (.ifCond .eq 25, 3) := dk_153 0 25 (dk_at dksX0_isAlike_2 9 rfl rfl)
theorem dX0_isAlike_60 : decode cX0_isAlike 60 = .ok (.aload_n 1, 1) := dk_43 (dk_at dksX0_isAlike_2 12 rfl rfl)
theorem dX0_isAlike_61 : decode cX0_isAlike 61 = .ok (.checkcast 98, 3) := dk_192 0 98 (dk_at dksX0_isAlike_2 13 rfl rfl)
theorem dX0_isAlike_64 : decode cX0_isAlike 64 = .ok (.astore_n 3, 1) := dk_78 (dk_at dksX0_isAlike_2 16 rfl rfl)
theorem dX0_isAlike_65 : decode cX0_isAlike 65 = .ok (.aload_n 2, 1) := dk_44 (dk_at dksX0_isAlike_2 17 rfl rfl)
theorem dX0_isAlike_66 : decode cX0_isAlike 66 = .ok (.getfield 100, 3) := dk_180 0 100 (dk_at dksX0_isAlike_2 18 rfl rfl)
theorem dX0_isAlike_69 : decode cX0_isAlike 69 = .ok (.aload_n 3, 1) := dk_45 (dk_at dksX0_isAlike_2 21 rfl rfl)
theorem dX0_isAlike_70 : decode cX0_isAlike 70 = .ok (.getfield 100, 3) := dk_180 0 100 (dk_at dksX0_isAlike_3 0 rfl rfl)
theorem dX0_isAlike_73 : decode cX0_isAlike 73 = .ok (.if_icmp .ne 7, 3) := dk_160 0 7 (dk_at dksX0_isAlike_3 3 rfl rfl)
theorem dX0_isAlike_76 : decode cX0_isAlike 76 = .ok (.iconst 1, 1) := dk_4 (dk_at dksX0_isAlike_3 6 rfl rfl)
theorem dX0_isAlike_77 : decode cX0_isAlike 77 = .ok (.goto 4, 3) := dk_167 0 4 (dk_at dksX0_isAlike_3 7 rfl rfl)
theorem dX0_isAlike_80 : decode cX0_isAlike 80 = .ok (.iconst 0, 1) := dk_3 (dk_at dksX0_isAlike_3 10 rfl rfl)
theorem dX0_isAlike_81 : decode cX0_isAlike 81 = .ok (.ireturn, 1) := dk_172 (dk_at dksX0_isAlike_3 11 rfl rfl)
theorem dX0_isAlike_82 : decode cX0_isAlike 82 = .ok (.aload_n 0, 1) := dk_42 (dk_at dksX0_isAlike_3 12 rfl rfl)
theorem dX0_isAlike_83 : decode cX0_isAlike 83 = .ok (.instanceof 101, 3) := dk_193 0 101 (dk_at dksX0_isAlike_3 13 rfl rfl)
theorem dX0_isAlike_86 : decode cX0_isAlike 86 = .ok (.ifCond .eq 14, 3) := dk_153 0 14 (dk_at dksX0_isAlike_3 16 rfl rfl)
theorem dX0_isAlike_89 : decode cX0_isAlike 89 = .ok (.aload_n 1, 1) := dk_43 (dk_at dksX0_isAlike_3 19 rfl rfl)
theorem dX0_isAlike_90 : decode cX0_isAlike 90 = .ok (.instanceof 101, 3) := dk_193 0 101 (dk_at dksX0_isAlike_3 20 rfl rfl)
theorem dX0_isAlike_93 : decode cX0_isAlike 93 = .ok (.ifCond .eq 7, 3) := dk_153 0 7 (dk_at dksX0_isAlike_4 0 rfl rfl)
theorem dX0_isAlike_96 : decode cX0_isAlike 96 = .ok (.iconst 1, 1) := dk_4 (dk_at dksX0_isAlike_4 3 rfl rfl)
theorem dX0_isAlike_97 : decode cX0_isAlike 97 = .ok (.goto 4, 3) := dk_167 0 4 (dk_at dksX0_isAlike_4 4 rfl rfl)
theorem dX0_isAlike_100 : decode cX0_isAlike 100 = .ok (.iconst 0, 1) := dk_3 (dk_at dksX0_isAlike_4 7 rfl rfl)
theorem dX0_isAlike_101 : decode cX0_isAlike 101 = .ok (.ireturn, 1) := dk_172 (dk_at dksX0_isAlike_4 8 rfl rfl)
abbrev cX0_source : ByteArray := prog_1_method_55_code
def yX0_source : MethodName := ⟨RX0, "source", "(IIII)J"⟩
def dkwX0_source_5 : List UInt8 := [58, 5, 42, 25, 5, 182, 0, 230, 133, 173]
abbrev dktX0_source_5 : List UInt8 := dkwX0_source_5 ++ []
def dkwX0_source_4 : List UInt8 := [184, 1, 235, 153, 0, 10, 20, 1, 233, 22, 8, 97, 173, 22, 8, 10, 97, 55, 8, 167, 255, 216, 9, 173]
abbrev dktX0_source_4 : List UInt8 := dkwX0_source_4 ++ dktX0_source_5
def dkwX0_source_3 : List UInt8 := [55, 8, 22, 8, 21, 4, 133, 148, 157, 0, 37, 25, 6, 25, 7, 22, 8, 136, 182, 1, 220, 25, 5]
abbrev dktX0_source_3 : List UInt8 := dkwX0_source_3 ++ dktX0_source_4
def dkwX0_source_2 : List UInt8 := [3, 183, 1, 213, 58, 6, 25, 6, 42, 180, 0, 167, 27, 184, 1, 205, 2, 182, 1, 216, 58, 7, 29, 133]
abbrev dktX0_source_2 : List UInt8 := dkwX0_source_2 ++ dktX0_source_3
def dkwX0_source_1 : List UInt8 := [167, 0, 4, 3, 16, 250, 184, 0, 213, 187, 0, 93, 89, 28, 183, 1, 241, 58, 5, 187, 1, 211, 89, 42]
abbrev dktX0_source_1 : List UInt8 := dkwX0_source_1 ++ dktX0_source_2
def dkwX0_source_0 : List UInt8 := [27, 184, 1, 182, 29, 21, 4, 163, 0, 20, 21, 4, 133, 29, 133, 101, 20, 1, 239, 148, 156, 0, 7, 4]
abbrev dktX0_source_0 : List UInt8 := dkwX0_source_0 ++ dktX0_source_1
theorem dksX0_source_0 : cX0_source.data.toList.drop 0 = dktX0_source_0 := by decide +kernel
theorem dksX0_source_1 : cX0_source.data.toList.drop 24 = dktX0_source_1 := dk_seg dksX0_source_0 24 rfl rfl
theorem dksX0_source_2 : cX0_source.data.toList.drop 48 = dktX0_source_2 := dk_seg dksX0_source_1 24 rfl rfl
theorem dksX0_source_3 : cX0_source.data.toList.drop 72 = dktX0_source_3 := dk_seg dksX0_source_2 24 rfl rfl
theorem dksX0_source_4 : cX0_source.data.toList.drop 95 = dktX0_source_4 := dk_seg dksX0_source_3 23 rfl rfl
theorem dksX0_source_5 : cX0_source.data.toList.drop 119 = dktX0_source_5 := dk_seg dksX0_source_4 24 rfl rfl
theorem dX0_source_0 : decode cX0_source 0 = .ok (.iload_n 1, 1) := dk_27 (dk_at dksX0_source_0 0 rfl rfl)
theorem dX0_source_1 : decode cX0_source 1 = .ok (.invokestatic 438, 3) := dk_184 1 182 (dk_at dksX0_source_0 1 rfl rfl)
theorem dX0_source_4 : decode cX0_source 4 = .ok (.iload_n 3, 1) := dk_29 (dk_at dksX0_source_0 4 rfl rfl)
theorem dX0_source_5 : decode cX0_source 5 = .ok (.iload 4, 2) := dk_21 4 (dk_at dksX0_source_0 5 rfl rfl)
theorem dX0_source_7 : decode cX0_source 7 = .ok (.if_icmp .gt 20, 3) := dk_163 0 20 (dk_at dksX0_source_0 7 rfl rfl)
theorem dX0_source_10 : decode cX0_source 10 = .ok (.iload 4, 2) := dk_21 4 (dk_at dksX0_source_0 10 rfl rfl)
theorem dX0_source_12 : decode cX0_source 12 = .ok (.i2l, 1) := dk_133 (dk_at dksX0_source_0 12 rfl rfl)
theorem dX0_source_13 : decode cX0_source 13 = .ok (.iload_n 3, 1) := dk_29 (dk_at dksX0_source_0 13 rfl rfl)
theorem dX0_source_14 : decode cX0_source 14 = .ok (.i2l, 1) := dk_133 (dk_at dksX0_source_0 14 rfl rfl)
theorem dX0_source_15 : decode cX0_source 15 = .ok (.lsub, 1) := dk_101 (dk_at dksX0_source_0 15 rfl rfl)
theorem dX0_source_16 : decode cX0_source 16 = .ok (.ldc2_w 495, 3) := dk_20 1 239 (dk_at dksX0_source_0 16 rfl rfl)
theorem dX0_source_19 : decode cX0_source 19 = .ok (.lcmp, 1) := dk_148 (dk_at dksX0_source_0 19 rfl rfl)
theorem dX0_source_20 : decode cX0_source 20 = .ok (.ifCond .ge 7, 3) := dk_156 0 7 (dk_at dksX0_source_0 20 rfl rfl)
theorem dX0_source_23 : decode cX0_source 23 = .ok (.iconst 1, 1) := dk_4 (dk_at dksX0_source_0 23 rfl rfl)
theorem dX0_source_24 : decode cX0_source 24 = .ok (.goto 4, 3) := dk_167 0 4 (dk_at dksX0_source_1 0 rfl rfl)
theorem dX0_source_27 : decode cX0_source 27 = .ok (.iconst 0, 1) := dk_3 (dk_at dksX0_source_1 3 rfl rfl)
theorem dX0_source_28 : decode cX0_source 28 = .ok (.bipush (-6), 2) := dk_16 250 (dk_at dksX0_source_1 4 rfl rfl)
theorem dX0_source_30 : decode cX0_source 30 = .ok (.invokestatic 213, 3) := dk_184 0 213 (dk_at dksX0_source_1 6 rfl rfl)
theorem dX0_source_33 : decode cX0_source 33 = .ok (.new 93, 3) := dk_187 0 93 (dk_at dksX0_source_1 9 rfl rfl)
theorem dX0_source_36 : decode cX0_source 36 = .ok (.dup, 1) := dk_89 (dk_at dksX0_source_1 12 rfl rfl)
theorem dX0_source_37 : decode cX0_source 37 = .ok (.iload_n 2, 1) := dk_28 (dk_at dksX0_source_1 13 rfl rfl)
theorem dX0_source_38 : decode cX0_source 38 = .ok (.invokespecial 497, 3) := dk_183 1 241 (dk_at dksX0_source_1 14 rfl rfl)
theorem dX0_source_41 : decode cX0_source 41 = .ok (.astore 5, 2) := dk_58 5 (dk_at dksX0_source_1 17 rfl rfl)
theorem dX0_source_43 : decode cX0_source 43 = .ok (.new 467, 3) := dk_187 1 211 (dk_at dksX0_source_1 19 rfl rfl)
theorem dX0_source_46 : decode cX0_source 46 = .ok (.dup, 1) := dk_89 (dk_at dksX0_source_1 22 rfl rfl)
theorem dX0_source_47 : decode cX0_source 47 = .ok (.aload_n 0, 1) := dk_42 (dk_at dksX0_source_1 23 rfl rfl)
theorem dX0_source_48 : decode cX0_source 48 = .ok (.iconst 0, 1) := dk_3 (dk_at dksX0_source_2 0 rfl rfl)
theorem dX0_source_49 : decode cX0_source 49 = .ok (.invokespecial 469, 3) := dk_183 1 213 (dk_at dksX0_source_2 1 rfl rfl)
theorem dX0_source_52 : decode cX0_source 52 = .ok (.astore 6, 2) := dk_58 6 (dk_at dksX0_source_2 4 rfl rfl)
theorem dX0_source_54 : decode cX0_source 54 = .ok (.aload 6, 2) := dk_25 6 (dk_at dksX0_source_2 6 rfl rfl)
theorem dX0_source_56 : decode cX0_source 56 = .ok (.aload_n 0, 1) := dk_42 (dk_at dksX0_source_2 8 rfl rfl)
theorem dX0_source_57 : decode cX0_source 57 = .ok (.getfield 167, 3) := dk_180 0 167 (dk_at dksX0_source_2 9 rfl rfl)
theorem dX0_source_60 : decode cX0_source 60 = .ok (.iload_n 1, 1) := dk_27 (dk_at dksX0_source_2 12 rfl rfl)
theorem dX0_source_61 : decode cX0_source 61 = .ok (.invokestatic 461, 3) := dk_184 1 205 (dk_at dksX0_source_2 13 rfl rfl)
theorem dX0_source_64 : decode cX0_source 64 = .ok (.iconst (-1), 1) := dk_2 (dk_at dksX0_source_2 16 rfl rfl)
theorem dX0_source_65 : decode cX0_source 65 = .ok (.invokevirtual 472, 3) := dk_182 1 216 (dk_at dksX0_source_2 17 rfl rfl)
theorem dX0_source_68 : decode cX0_source 68 = .ok (.astore 7, 2) := dk_58 7 (dk_at dksX0_source_2 20 rfl rfl)
theorem dX0_source_70 : decode cX0_source 70 = .ok (.iload_n 3, 1) := dk_29 (dk_at dksX0_source_2 22 rfl rfl)
theorem dX0_source_71 : decode cX0_source 71 = .ok (.i2l, 1) := dk_133 (dk_at dksX0_source_2 23 rfl rfl)
theorem dX0_source_72 : decode cX0_source 72 = .ok (.lstore 8, 2) := dk_55 8 (dk_at dksX0_source_3 0 rfl rfl)
theorem dX0_source_74 : decode cX0_source 74 = .ok (.lload 8, 2) := dk_22 8 (dk_at dksX0_source_3 2 rfl rfl)
theorem dX0_source_76 : decode cX0_source 76 = .ok (.iload 4, 2) := dk_21 4 (dk_at dksX0_source_3 4 rfl rfl)
theorem dX0_source_78 : decode cX0_source 78 = .ok (.i2l, 1) := dk_133 (dk_at dksX0_source_3 6 rfl rfl)
theorem dX0_source_79 : decode cX0_source 79 = .ok (.lcmp, 1) := dk_148 (dk_at dksX0_source_3 7 rfl rfl)
theorem dX0_source_80 : decode cX0_source 80 = .ok (.ifCond .gt 37, 3) := dk_157 0 37 (dk_at dksX0_source_3 8 rfl rfl)
theorem dX0_source_83 : decode cX0_source 83 = .ok (.aload 6, 2) := dk_25 6 (dk_at dksX0_source_3 11 rfl rfl)
theorem dX0_source_85 : decode cX0_source 85 = .ok (.aload 7, 2) := dk_25 7 (dk_at dksX0_source_3 13 rfl rfl)
theorem dX0_source_87 : decode cX0_source 87 = .ok (.lload 8, 2) := dk_22 8 (dk_at dksX0_source_3 15 rfl rfl)
theorem dX0_source_89 : decode cX0_source 89 = .ok (.l2i, 1) := dk_136 (dk_at dksX0_source_3 17 rfl rfl)
theorem dX0_source_90 : decode cX0_source 90 = .ok (.invokevirtual 476, 3) := dk_182 1 220 (dk_at dksX0_source_3 18 rfl rfl)
theorem dX0_source_93 : decode cX0_source 93 = .ok (.aload 5, 2) := dk_25 5 (dk_at dksX0_source_3 21 rfl rfl)
theorem dX0_source_95 : decode cX0_source 95 = .ok (.invokestatic 491, 3) := dk_184 1 235 (dk_at dksX0_source_4 0 rfl rfl)
theorem dX0_source_98 : decode cX0_source 98 = .ok (.ifCond .eq 10, 3) := dk_153 0 10 (dk_at dksX0_source_4 3 rfl rfl)
theorem dX0_source_101 : decode cX0_source 101 = .ok (.ldc2_w 489, 3) := dk_20 1 233 (dk_at dksX0_source_4 6 rfl rfl)
theorem dX0_source_104 : decode cX0_source 104 = .ok (.lload 8, 2) := dk_22 8 (dk_at dksX0_source_4 9 rfl rfl)
theorem dX0_source_106 : decode cX0_source 106 = .ok (.ladd, 1) := dk_97 (dk_at dksX0_source_4 11 rfl rfl)
theorem dX0_source_107 : decode cX0_source 107 = .ok (.lreturn, 1) := dk_173 (dk_at dksX0_source_4 12 rfl rfl)
theorem dX0_source_108 : decode cX0_source 108 = .ok (.lload 8, 2) := dk_22 8 (dk_at dksX0_source_4 13 rfl rfl)
theorem dX0_source_110 : decode cX0_source 110 = .ok (.lconst 1, 1) := dk_10 (dk_at dksX0_source_4 15 rfl rfl)
theorem dX0_source_111 : decode cX0_source 111 = .ok (.ladd, 1) := dk_97 (dk_at dksX0_source_4 16 rfl rfl)
theorem dX0_source_112 : decode cX0_source 112 = .ok (.lstore 8, 2) := dk_55 8 (dk_at dksX0_source_4 17 rfl rfl)
theorem dX0_source_114 : decode cX0_source 114 = .ok (.goto (-40), 3) := dk_167 255 216 (dk_at dksX0_source_4 19 rfl rfl)
theorem dX0_source_117 : decode cX0_source 117 = .ok (.lconst 0, 1) := dk_9 (dk_at dksX0_source_4 22 rfl rfl)
theorem dX0_source_118 : decode cX0_source 118 = .ok (.lreturn, 1) := dk_173 (dk_at dksX0_source_4 23 rfl rfl)
theorem dX0_source_119 : decode cX0_source 119 = .ok (.astore 5, 2) := dk_58 5 (dk_at dksX0_source_5 0 rfl rfl)
theorem dX0_source_121 : decode cX0_source 121 = .ok (.aload_n 0, 1) := dk_42 (dk_at dksX0_source_5 2 rfl rfl)
theorem dX0_source_122 : decode cX0_source 122 = .ok (.aload 5, 2) := dk_25 5 (dk_at dksX0_source_5 3 rfl rfl)
theorem dX0_source_124 : decode cX0_source 124 = .ok (.invokevirtual 230, 3) := dk_182 0 230 (dk_at dksX0_source_5 5 rfl rfl)
theorem dX0_source_127 : decode cX0_source 127 = .ok (.i2l, 1) := dk_133 (dk_at dksX0_source_5 8 rfl rfl)
theorem dX0_source_128 : decode cX0_source 128 = .ok (.lreturn, 1) := dk_173 (dk_at dksX0_source_5 9 rfl rfl)
abbrev cX0_judge : ByteArray := prog_1_method_56_code
def yX0_judge : MethodName := ⟨RX0, "judge", "(III)I"⟩
def dkwX0_judge_7 : List UInt8 := [172, 58, 4, 42, 25, 4, 182, 0, 230, 16, 10, 100, 172]
abbrev dktX0_judge_7 : List UInt8 := dkwX0_judge_7 ++ []
def dkwX0_judge_6 : List UInt8 := [4, 96, 182, 1, 244, 183, 1, 241, 184, 1, 235, 154, 0, 6, 21, 8, 172, 132, 8, 1, 167, 255, 200, 2]
abbrev dktX0_judge_6 : List UInt8 := dkwX0_judge_6 ++ dktX0_judge_7
def dkwX0_judge_5 : List UInt8 := [5, 21, 8, 104, 182, 1, 244, 182, 1, 220, 58, 9, 25, 9, 187, 0, 93, 89, 25, 5, 5, 21, 8, 104]
abbrev dktX0_judge_5 : List UInt8 := dkwX0_judge_5 ++ dktX0_judge_6
def dkwX0_judge_4 : List UInt8 := [184, 1, 205, 2, 182, 1, 216, 58, 7, 3, 54, 8, 21, 8, 29, 162, 0, 56, 25, 6, 25, 7, 25, 5]
abbrev dktX0_judge_4 : List UInt8 := dkwX0_judge_4 ++ dktX0_judge_5
def dkwX0_judge_3 : List UInt8 := [16, 250, 184, 0, 213, 187, 1, 211, 89, 42, 3, 183, 1, 213, 58, 6, 25, 6, 42, 180, 0, 167, 28]
abbrev dktX0_judge_3 : List UInt8 := dkwX0_judge_3 ++ dktX0_judge_4
def dkwX0_judge_2 : List UInt8 := [157, 0, 7, 4, 167, 0, 4, 3, 16, 251, 184, 0, 213, 29, 16, 80, 163, 0, 7, 4, 167, 0, 4, 3]
abbrev dktX0_judge_2 : List UInt8 := dkwX0_judge_2 ++ dktX0_judge_3
def dkwX0_judge_1 : List UInt8 := [167, 0, 4, 3, 16, 252, 184, 0, 213, 20, 1, 242, 29, 133, 105, 25, 5, 182, 0, 11, 133, 148]
abbrev dktX0_judge_1 : List UInt8 := dkwX0_judge_1 ++ dktX0_judge_2
def dkwX0_judge_0 : List UInt8 := [42, 27, 182, 0, 209, 58, 4, 28, 184, 1, 182, 25, 4, 182, 0, 234, 58, 5, 29, 155, 0, 7, 4]
abbrev dktX0_judge_0 : List UInt8 := dkwX0_judge_0 ++ dktX0_judge_1
theorem dksX0_judge_0 : cX0_judge.data.toList.drop 0 = dktX0_judge_0 := by decide +kernel
theorem dksX0_judge_1 : cX0_judge.data.toList.drop 23 = dktX0_judge_1 := dk_seg dksX0_judge_0 23 rfl rfl
theorem dksX0_judge_2 : cX0_judge.data.toList.drop 45 = dktX0_judge_2 := dk_seg dksX0_judge_1 22 rfl rfl
theorem dksX0_judge_3 : cX0_judge.data.toList.drop 69 = dktX0_judge_3 := dk_seg dksX0_judge_2 24 rfl rfl
theorem dksX0_judge_4 : cX0_judge.data.toList.drop 92 = dktX0_judge_4 := dk_seg dksX0_judge_3 23 rfl rfl
theorem dksX0_judge_5 : cX0_judge.data.toList.drop 116 = dktX0_judge_5 := dk_seg dksX0_judge_4 24 rfl rfl
theorem dksX0_judge_6 : cX0_judge.data.toList.drop 140 = dktX0_judge_6 := dk_seg dksX0_judge_5 24 rfl rfl
theorem dksX0_judge_7 : cX0_judge.data.toList.drop 164 = dktX0_judge_7 := dk_seg dksX0_judge_6 24 rfl rfl
theorem dX0_judge_0 : decode cX0_judge 0 = .ok (.aload_n 0, 1) := dk_42 (dk_at dksX0_judge_0 0 rfl rfl)
theorem dX0_judge_1 : decode cX0_judge 1 = .ok (.iload_n 1, 1) := dk_27 (dk_at dksX0_judge_0 1 rfl rfl)
theorem dX0_judge_2 : decode cX0_judge 2 = .ok (.invokevirtual 209, 3) := dk_182 0 209 (dk_at dksX0_judge_0 2 rfl rfl)
theorem dX0_judge_5 : decode cX0_judge 5 = .ok (.astore 4, 2) := dk_58 4 (dk_at dksX0_judge_0 5 rfl rfl)
theorem dX0_judge_7 : decode cX0_judge 7 = .ok (.iload_n 2, 1) := dk_28 (dk_at dksX0_judge_0 7 rfl rfl)
theorem dX0_judge_8 : decode cX0_judge 8 = .ok (.invokestatic 438, 3) := dk_184 1 182 (dk_at dksX0_judge_0 8 rfl rfl)
theorem dX0_judge_11 : decode cX0_judge 11 = .ok (.aload 4, 2) := dk_25 4 (dk_at dksX0_judge_0 11 rfl rfl)
theorem dX0_judge_13 : decode cX0_judge 13 = .ok (.invokevirtual 234, 3) := dk_182 0 234 (dk_at dksX0_judge_0 13 rfl rfl)
theorem dX0_judge_16 : decode cX0_judge 16 = .ok (.astore 5, 2) := dk_58 5 (dk_at dksX0_judge_0 16 rfl rfl)
theorem dX0_judge_18 : decode cX0_judge 18 = .ok (.iload_n 3, 1) := dk_29 (dk_at dksX0_judge_0 18 rfl rfl)
theorem dX0_judge_19 : decode cX0_judge 19 = .ok (.ifCond .lt 7, 3) := dk_155 0 7 (dk_at dksX0_judge_0 19 rfl rfl)
theorem dX0_judge_22 : decode cX0_judge 22 = .ok (.iconst 1, 1) := dk_4 (dk_at dksX0_judge_0 22 rfl rfl)
theorem dX0_judge_23 : decode cX0_judge 23 = .ok (.goto 4, 3) := dk_167 0 4 (dk_at dksX0_judge_1 0 rfl rfl)
theorem dX0_judge_26 : decode cX0_judge 26 = .ok (.iconst 0, 1) := dk_3 (dk_at dksX0_judge_1 3 rfl rfl)
theorem dX0_judge_27 : decode cX0_judge 27 = .ok (.bipush (-4), 2) := dk_16 252 (dk_at dksX0_judge_1 4 rfl rfl)
theorem dX0_judge_29 : decode cX0_judge 29 = .ok (.invokestatic 213, 3) := dk_184 0 213 (dk_at dksX0_judge_1 6 rfl rfl)
theorem dX0_judge_32 : decode cX0_judge 32 = .ok (.ldc2_w 498, 3) := dk_20 1 242 (dk_at dksX0_judge_1 9 rfl rfl)
theorem dX0_judge_35 : decode cX0_judge 35 = .ok (.iload_n 3, 1) := dk_29 (dk_at dksX0_judge_1 12 rfl rfl)
theorem dX0_judge_36 : decode cX0_judge 36 = .ok (.i2l, 1) := dk_133 (dk_at dksX0_judge_1 13 rfl rfl)
theorem dX0_judge_37 : decode cX0_judge 37 = .ok (.lmul, 1) := dk_105 (dk_at dksX0_judge_1 14 rfl rfl)
theorem dX0_judge_38 : decode cX0_judge 38 = .ok (.aload 5, 2) := dk_25 5 (dk_at dksX0_judge_1 15 rfl rfl)
theorem dX0_judge_40 : decode cX0_judge 40 = .ok (.invokevirtual 11, 3) := dk_182 0 11 (dk_at dksX0_judge_1 17 rfl rfl)
theorem dX0_judge_43 : decode cX0_judge 43 = .ok (.i2l, 1) := dk_133 (dk_at dksX0_judge_1 20 rfl rfl)
theorem dX0_judge_44 : decode cX0_judge 44 = .ok (.lcmp, 1) := dk_148 (dk_at dksX0_judge_1 21 rfl rfl)
theorem dX0_judge_45 : decode cX0_judge 45 = .ok (.ifCond .gt 7, 3) := dk_157 0 7 (dk_at dksX0_judge_2 0 rfl rfl)
theorem dX0_judge_48 : decode cX0_judge 48 = .ok (.iconst 1, 1) := dk_4 (dk_at dksX0_judge_2 3 rfl rfl)
theorem dX0_judge_49 : decode cX0_judge 49 = .ok (.goto 4, 3) := dk_167 0 4 (dk_at dksX0_judge_2 4 rfl rfl)
theorem dX0_judge_52 : decode cX0_judge 52 = .ok (.iconst 0, 1) := dk_3 (dk_at dksX0_judge_2 7 rfl rfl)
theorem dX0_judge_53 : decode cX0_judge 53 = .ok (.bipush (-5), 2) := dk_16 251 (dk_at dksX0_judge_2 8 rfl rfl)
theorem dX0_judge_55 : decode cX0_judge 55 = .ok (.invokestatic 213, 3) := dk_184 0 213 (dk_at dksX0_judge_2 10 rfl rfl)
theorem dX0_judge_58 : decode cX0_judge 58 = .ok (.iload_n 3, 1) := dk_29 (dk_at dksX0_judge_2 13 rfl rfl)
theorem dX0_judge_59 : decode cX0_judge 59 = .ok (.bipush 80, 2) := dk_16 80 (dk_at dksX0_judge_2 14 rfl rfl)
theorem dX0_judge_61 : decode cX0_judge 61 = .ok (.if_icmp .gt 7, 3) := dk_163 0 7 (dk_at dksX0_judge_2 16 rfl rfl)
theorem dX0_judge_64 : decode cX0_judge 64 = .ok (.iconst 1, 1) := dk_4 (dk_at dksX0_judge_2 19 rfl rfl)
theorem dX0_judge_65 : decode cX0_judge 65 = .ok (.goto 4, 3) := dk_167 0 4 (dk_at dksX0_judge_2 20 rfl rfl)
theorem dX0_judge_68 : decode cX0_judge 68 = .ok (.iconst 0, 1) := dk_3 (dk_at dksX0_judge_2 23 rfl rfl)
theorem dX0_judge_69 : decode cX0_judge 69 = .ok (.bipush (-6), 2) := dk_16 250 (dk_at dksX0_judge_3 0 rfl rfl)
theorem dX0_judge_71 : decode cX0_judge 71 = .ok (.invokestatic 213, 3) := dk_184 0 213 (dk_at dksX0_judge_3 2 rfl rfl)
theorem dX0_judge_74 : decode cX0_judge 74 = .ok (.new 467, 3) := dk_187 1 211 (dk_at dksX0_judge_3 5 rfl rfl)
theorem dX0_judge_77 : decode cX0_judge 77 = .ok (.dup, 1) := dk_89 (dk_at dksX0_judge_3 8 rfl rfl)
theorem dX0_judge_78 : decode cX0_judge 78 = .ok (.aload_n 0, 1) := dk_42 (dk_at dksX0_judge_3 9 rfl rfl)
theorem dX0_judge_79 : decode cX0_judge 79 = .ok (.iconst 0, 1) := dk_3 (dk_at dksX0_judge_3 10 rfl rfl)
theorem dX0_judge_80 : decode cX0_judge 80 = .ok (.invokespecial 469, 3) := dk_183 1 213 (dk_at dksX0_judge_3 11 rfl rfl)
theorem dX0_judge_83 : decode cX0_judge 83 = .ok (.astore 6, 2) := dk_58 6 (dk_at dksX0_judge_3 14 rfl rfl)
theorem dX0_judge_85 : decode cX0_judge 85 = .ok (.aload 6, 2) := dk_25 6 (dk_at dksX0_judge_3 16 rfl rfl)
theorem dX0_judge_87 : decode cX0_judge 87 = .ok (.aload_n 0, 1) := dk_42 (dk_at dksX0_judge_3 18 rfl rfl)
theorem dX0_judge_88 : decode cX0_judge 88 = .ok (.getfield 167, 3) := dk_180 0 167 (dk_at dksX0_judge_3 19 rfl rfl)
theorem dX0_judge_91 : decode cX0_judge 91 = .ok (.iload_n 2, 1) := dk_28 (dk_at dksX0_judge_3 22 rfl rfl)
theorem dX0_judge_92 : decode cX0_judge 92 = .ok (.invokestatic 461, 3) := dk_184 1 205 (dk_at dksX0_judge_4 0 rfl rfl)
theorem dX0_judge_95 : decode cX0_judge 95 = .ok (.iconst (-1), 1) := dk_2 (dk_at dksX0_judge_4 3 rfl rfl)
theorem dX0_judge_96 : decode cX0_judge 96 = .ok (.invokevirtual 472, 3) := dk_182 1 216 (dk_at dksX0_judge_4 4 rfl rfl)
theorem dX0_judge_99 : decode cX0_judge 99 = .ok (.astore 7, 2) := dk_58 7 (dk_at dksX0_judge_4 7 rfl rfl)
theorem dX0_judge_101 : decode cX0_judge 101 = .ok (.iconst 0, 1) := dk_3 (dk_at dksX0_judge_4 9 rfl rfl)
theorem dX0_judge_102 : decode cX0_judge 102 = .ok (.istore 8, 2) := dk_54 8 (dk_at dksX0_judge_4 10 rfl rfl)
theorem dX0_judge_104 : decode cX0_judge 104 = .ok (.iload 8, 2) := dk_21 8 (dk_at dksX0_judge_4 12 rfl rfl)
theorem dX0_judge_106 : decode cX0_judge 106 = .ok (.iload_n 3, 1) := dk_29 (dk_at dksX0_judge_4 14 rfl rfl)
theorem dX0_judge_107 : decode cX0_judge 107 = .ok (.if_icmp .ge 56, 3) := dk_162 0 56 (dk_at dksX0_judge_4 15 rfl rfl)
theorem dX0_judge_110 : decode cX0_judge 110 = .ok (.aload 6, 2) := dk_25 6 (dk_at dksX0_judge_4 18 rfl rfl)
theorem dX0_judge_112 : decode cX0_judge 112 = .ok (.aload 7, 2) := dk_25 7 (dk_at dksX0_judge_4 20 rfl rfl)
theorem dX0_judge_114 : decode cX0_judge 114 = .ok (.aload 5, 2) := dk_25 5 (dk_at dksX0_judge_4 22 rfl rfl)
theorem dX0_judge_116 : decode cX0_judge 116 = .ok (.iconst 2, 1) := dk_5 (dk_at dksX0_judge_5 0 rfl rfl)
theorem dX0_judge_117 : decode cX0_judge 117 = .ok (.iload 8, 2) := dk_21 8 (dk_at dksX0_judge_5 1 rfl rfl)
theorem dX0_judge_119 : decode cX0_judge 119 = .ok (.imul, 1) := dk_104 (dk_at dksX0_judge_5 3 rfl rfl)
theorem dX0_judge_120 : decode cX0_judge 120 = .ok (.invokevirtual 500, 3) := dk_182 1 244 (dk_at dksX0_judge_5 4 rfl rfl)
theorem dX0_judge_123 : decode cX0_judge 123 = .ok (.invokevirtual 476, 3) := dk_182 1 220 (dk_at dksX0_judge_5 7 rfl rfl)
theorem dX0_judge_126 : decode cX0_judge 126 = .ok (.astore 9, 2) := dk_58 9 (dk_at dksX0_judge_5 10 rfl rfl)
theorem dX0_judge_128 : decode cX0_judge 128 = .ok (.aload 9, 2) := dk_25 9 (dk_at dksX0_judge_5 12 rfl rfl)
theorem dX0_judge_130 : decode cX0_judge 130 = .ok (.new 93, 3) := dk_187 0 93 (dk_at dksX0_judge_5 14 rfl rfl)
theorem dX0_judge_133 : decode cX0_judge 133 = .ok (.dup, 1) := dk_89 (dk_at dksX0_judge_5 17 rfl rfl)
theorem dX0_judge_134 : decode cX0_judge 134 = .ok (.aload 5, 2) := dk_25 5 (dk_at dksX0_judge_5 18 rfl rfl)
theorem dX0_judge_136 : decode cX0_judge 136 = .ok (.iconst 2, 1) := dk_5 (dk_at dksX0_judge_5 20 rfl rfl)
theorem dX0_judge_137 : decode cX0_judge 137 = .ok (.iload 8, 2) := dk_21 8 (dk_at dksX0_judge_5 21 rfl rfl)
theorem dX0_judge_139 : decode cX0_judge 139 = .ok (.imul, 1) := dk_104 (dk_at dksX0_judge_5 23 rfl rfl)
theorem dX0_judge_140 : decode cX0_judge 140 = .ok (.iconst 1, 1) := dk_4 (dk_at dksX0_judge_6 0 rfl rfl)
theorem dX0_judge_141 : decode cX0_judge 141 = .ok (.iadd, 1) := dk_96 (dk_at dksX0_judge_6 1 rfl rfl)
theorem dX0_judge_142 : decode cX0_judge 142 = .ok (.invokevirtual 500, 3) := dk_182 1 244 (dk_at dksX0_judge_6 2 rfl rfl)
theorem dX0_judge_145 : decode cX0_judge 145 = .ok (.invokespecial 497, 3) := dk_183 1 241 (dk_at dksX0_judge_6 5 rfl rfl)
theorem dX0_judge_148 : decode cX0_judge 148 = .ok (.invokestatic 491, 3) := dk_184 1 235 (dk_at dksX0_judge_6 8 rfl rfl)
theorem dX0_judge_151 : decode cX0_judge 151 = .ok (.ifCond .ne 6, 3) := dk_154 0 6 (dk_at dksX0_judge_6 11 rfl rfl)
theorem dX0_judge_154 : decode cX0_judge 154 = .ok (.iload 8, 2) := dk_21 8 (dk_at dksX0_judge_6 14 rfl rfl)
theorem dX0_judge_156 : decode cX0_judge 156 = .ok (.ireturn, 1) := dk_172 (dk_at dksX0_judge_6 16 rfl rfl)
theorem dX0_judge_157 : decode cX0_judge 157 = .ok (.iinc 8 1, 3) := dk_132 8 1 (dk_at dksX0_judge_6 17 rfl rfl)
theorem dX0_judge_160 : decode cX0_judge 160 = .ok (.goto (-56), 3) := dk_167 255 200 (dk_at dksX0_judge_6 20 rfl rfl)
theorem dX0_judge_163 : decode cX0_judge 163 = .ok (.iconst (-1), 1) := dk_2 (dk_at dksX0_judge_6 23 rfl rfl)
theorem dX0_judge_164 : decode cX0_judge 164 = .ok (.ireturn, 1) := dk_172 (dk_at dksX0_judge_7 0 rfl rfl)
theorem dX0_judge_165 : decode cX0_judge 165 = .ok (.astore 4, 2) := dk_58 4 (dk_at dksX0_judge_7 1 rfl rfl)
theorem dX0_judge_167 : decode cX0_judge 167 = .ok (.aload_n 0, 1) := dk_42 (dk_at dksX0_judge_7 3 rfl rfl)
theorem dX0_judge_168 : decode cX0_judge 168 = .ok (.aload 4, 2) := dk_25 4 (dk_at dksX0_judge_7 4 rfl rfl)
theorem dX0_judge_170 : decode cX0_judge 170 = .ok (.invokevirtual 230, 3) := dk_182 0 230 (dk_at dksX0_judge_7 6 rfl rfl)
theorem dX0_judge_173 : decode cX0_judge 173 = .ok (.bipush 10, 2) := dk_16 10 (dk_at dksX0_judge_7 9 rfl rfl)
theorem dX0_judge_175 : decode cX0_judge 175 = .ok (.isub, 1) := dk_100 (dk_at dksX0_judge_7 11 rfl rfl)
theorem dX0_judge_176 : decode cX0_judge 176 = .ok (.ireturn, 1) := dk_172 (dk_at dksX0_judge_7 12 rfl rfl)
abbrev cX0_trace : ByteArray := prog_1_method_57_code
def yX0_trace : MethodName := ⟨RX0, "trace", "(I)I"⟩
def dkwX0_trace_1 : List UInt8 := [180, 0, 150, 27, 46, 167, 0, 4, 2, 172]
abbrev dktX0_trace_1 : List UInt8 := dkwX0_trace_1 ++ []
def dkwX0_trace_0 : List UInt8 := [27, 133, 9, 42, 180, 1, 247, 16, 30, 184, 1, 250, 4, 100, 133, 184, 0, 219, 153, 0, 12, 42]
abbrev dktX0_trace_0 : List UInt8 := dkwX0_trace_0 ++ dktX0_trace_1
theorem dksX0_trace_0 : cX0_trace.data.toList.drop 0 = dktX0_trace_0 := by decide +kernel
theorem dksX0_trace_1 : cX0_trace.data.toList.drop 22 = dktX0_trace_1 := dk_seg dksX0_trace_0 22 rfl rfl
theorem dX0_trace_0 : decode cX0_trace 0 = .ok (.iload_n 1, 1) := dk_27 (dk_at dksX0_trace_0 0 rfl rfl)
theorem dX0_trace_1 : decode cX0_trace 1 = .ok (.i2l, 1) := dk_133 (dk_at dksX0_trace_0 1 rfl rfl)
theorem dX0_trace_2 : decode cX0_trace 2 = .ok (.lconst 0, 1) := dk_9 (dk_at dksX0_trace_0 2 rfl rfl)
theorem dX0_trace_3 : decode cX0_trace 3 = .ok (.aload_n 0, 1) := dk_42 (dk_at dksX0_trace_0 3 rfl rfl)
theorem dX0_trace_4 : decode cX0_trace 4 = .ok (.getfield 503, 3) := dk_180 1 247 (dk_at dksX0_trace_0 4 rfl rfl)
theorem dX0_trace_7 : decode cX0_trace 7 = .ok (.bipush 30, 2) := dk_16 30 (dk_at dksX0_trace_0 7 rfl rfl)
theorem dX0_trace_9 : decode cX0_trace 9 = .ok (.invokestatic 506, 3) := dk_184 1 250 (dk_at dksX0_trace_0 9 rfl rfl)
theorem dX0_trace_12 : decode cX0_trace 12 = .ok (.iconst 1, 1) := dk_4 (dk_at dksX0_trace_0 12 rfl rfl)
theorem dX0_trace_13 : decode cX0_trace 13 = .ok (.isub, 1) := dk_100 (dk_at dksX0_trace_0 13 rfl rfl)
theorem dX0_trace_14 : decode cX0_trace 14 = .ok (.i2l, 1) := dk_133 (dk_at dksX0_trace_0 14 rfl rfl)
theorem dX0_trace_15 : decode cX0_trace 15 = .ok (.invokestatic 219, 3) := dk_184 0 219 (dk_at dksX0_trace_0 15 rfl rfl)
theorem dX0_trace_18 : decode cX0_trace 18 = .ok (.ifCond .eq 12, 3) := dk_153 0 12 (dk_at dksX0_trace_0 18 rfl rfl)
theorem dX0_trace_21 : decode cX0_trace 21 = .ok (.aload_n 0, 1) := dk_42 (dk_at dksX0_trace_0 21 rfl rfl)
theorem dX0_trace_22 : decode cX0_trace 22 = .ok (.getfield 150, 3) := dk_180 0 150 (dk_at dksX0_trace_1 0 rfl rfl)
theorem dX0_trace_25 : decode cX0_trace 25 = .ok (.iload_n 1, 1) := dk_27 (dk_at dksX0_trace_1 3 rfl rfl)
theorem dX0_trace_26 : decode cX0_trace 26 = .ok (.iaload, 1) := dk_46 (dk_at dksX0_trace_1 4 rfl rfl)
theorem dX0_trace_27 : decode cX0_trace 27 = .ok (.goto 4, 3) := dk_167 0 4 (dk_at dksX0_trace_1 5 rfl rfl)
theorem dX0_trace_30 : decode cX0_trace 30 = .ok (.iconst (-1), 1) := dk_2 (dk_at dksX0_trace_1 8 rfl rfl)
theorem dX0_trace_31 : decode cX0_trace 31 = .ok (.ireturn, 1) := dk_172 (dk_at dksX0_trace_1 9 rfl rfl)
abbrev cX0_log : ByteArray := prog_1_method_58_code
def yX0_log : MethodName := ⟨RX0, "log", "(I)I"⟩
def dkwX0_log_0 : List UInt8 := [42, 180, 0, 156, 27, 182, 1, 255, 172]
abbrev dktX0_log_0 : List UInt8 := dkwX0_log_0 ++ []
theorem dksX0_log_0 : cX0_log.data.toList.drop 0 = dktX0_log_0 := by decide +kernel
theorem dX0_log_0 : decode cX0_log 0 = .ok (.aload_n 0, 1) := dk_42 (dk_at dksX0_log_0 0 rfl rfl)
theorem dX0_log_1 : decode cX0_log 1 = .ok (.getfield 156, 3) := dk_180 0 156 (dk_at dksX0_log_0 1 rfl rfl)
theorem dX0_log_4 : decode cX0_log 4 = .ok (.iload_n 1, 1) := dk_27 (dk_at dksX0_log_0 4 rfl rfl)
theorem dX0_log_5 : decode cX0_log 5 = .ok (.invokevirtual 511, 3) := dk_182 1 255 (dk_at dksX0_log_0 5 rfl rfl)
theorem dX0_log_8 : decode cX0_log 8 = .ok (.ireturn, 1) := dk_172 (dk_at dksX0_log_0 8 rfl rfl)
abbrev cX0_days : ByteArray := prog_1_method_60_code
def yX0_days : MethodName := ⟨RX0, "days", "(I)I"⟩
def dkwX0_days_3 : List UInt8 := [182, 0, 230, 172]
abbrev dktX0_days_3 : List UInt8 := dkwX0_days_3 ++ []
def dkwX0_days_2 : List UInt8 := [132, 2, 1, 167, 255, 244, 187, 1, 167, 89, 42, 180, 0, 167, 183, 1, 169, 182, 2, 10, 172, 77, 42, 44]
abbrev dktX0_days_2 : List UInt8 := dkwX0_days_2 ++ dktX0_days_3
def dkwX0_days_1 : List UInt8 := [20, 2, 5, 184, 0, 219, 16, 250, 184, 0, 213, 3, 61, 28, 27, 162, 0, 13, 42, 182, 2, 7]
abbrev dktX0_days_1 : List UInt8 := dkwX0_days_1 ++ dktX0_days_2
def dkwX0_days_0 : List UInt8 := [42, 180, 0, 167, 180, 0, 60, 158, 0, 7, 4, 167, 0, 4, 3, 16, 251, 184, 0, 213, 27, 133, 10]
abbrev dktX0_days_0 : List UInt8 := dkwX0_days_0 ++ dktX0_days_1
theorem dksX0_days_0 : cX0_days.data.toList.drop 0 = dktX0_days_0 := by decide +kernel
theorem dksX0_days_1 : cX0_days.data.toList.drop 23 = dktX0_days_1 := dk_seg dksX0_days_0 23 rfl rfl
theorem dksX0_days_2 : cX0_days.data.toList.drop 45 = dktX0_days_2 := dk_seg dksX0_days_1 22 rfl rfl
theorem dksX0_days_3 : cX0_days.data.toList.drop 69 = dktX0_days_3 := dk_seg dksX0_days_2 24 rfl rfl
theorem dX0_days_0 : decode cX0_days 0 = .ok (.aload_n 0, 1) := dk_42 (dk_at dksX0_days_0 0 rfl rfl)
theorem dX0_days_1 : decode cX0_days 1 = .ok (.getfield 167, 3) := dk_180 0 167 (dk_at dksX0_days_0 1 rfl rfl)
theorem dX0_days_4 : decode cX0_days 4 = .ok (.getfield 60, 3) := dk_180 0 60 (dk_at dksX0_days_0 4 rfl rfl)
theorem dX0_days_7 : decode cX0_days 7 = .ok (.ifCond .le 7, 3) := dk_158 0 7 (dk_at dksX0_days_0 7 rfl rfl)
theorem dX0_days_10 : decode cX0_days 10 = .ok (.iconst 1, 1) := dk_4 (dk_at dksX0_days_0 10 rfl rfl)
theorem dX0_days_11 : decode cX0_days 11 = .ok (.goto 4, 3) := dk_167 0 4 (dk_at dksX0_days_0 11 rfl rfl)
theorem dX0_days_14 : decode cX0_days 14 = .ok (.iconst 0, 1) := dk_3 (dk_at dksX0_days_0 14 rfl rfl)
theorem dX0_days_15 : decode cX0_days 15 = .ok (.bipush (-5), 2) := dk_16 251 (dk_at dksX0_days_0 15 rfl rfl)
theorem dX0_days_17 : decode cX0_days 17 = .ok (.invokestatic 213, 3) := dk_184 0 213 (dk_at dksX0_days_0 17 rfl rfl)
theorem dX0_days_20 : decode cX0_days 20 = .ok (.iload_n 1, 1) := dk_27 (dk_at dksX0_days_0 20 rfl rfl)
theorem dX0_days_21 : decode cX0_days 21 = .ok (.i2l, 1) := dk_133 (dk_at dksX0_days_0 21 rfl rfl)
theorem dX0_days_22 : decode cX0_days 22 = .ok (.lconst 1, 1) := dk_10 (dk_at dksX0_days_0 22 rfl rfl)
theorem dX0_days_23 : decode cX0_days 23 = .ok (.ldc2_w 517, 3) := dk_20 2 5 (dk_at dksX0_days_1 0 rfl rfl)
theorem dX0_days_26 : decode cX0_days 26 = .ok (.invokestatic 219, 3) := dk_184 0 219 (dk_at dksX0_days_1 3 rfl rfl)
theorem dX0_days_29 : decode cX0_days 29 = .ok (.bipush (-6), 2) := dk_16 250 (dk_at dksX0_days_1 6 rfl rfl)
theorem dX0_days_31 : decode cX0_days 31 = .ok (.invokestatic 213, 3) := dk_184 0 213 (dk_at dksX0_days_1 8 rfl rfl)
theorem dX0_days_34 : decode cX0_days 34 = .ok (.iconst 0, 1) := dk_3 (dk_at dksX0_days_1 11 rfl rfl)
theorem dX0_days_35 : decode cX0_days 35 = .ok (.istore_n 2, 1) := dk_61 (dk_at dksX0_days_1 12 rfl rfl)
theorem dX0_days_36 : decode cX0_days 36 = .ok (.iload_n 2, 1) := dk_28 (dk_at dksX0_days_1 13 rfl rfl)
theorem dX0_days_37 : decode cX0_days 37 = .ok (.iload_n 1, 1) := dk_27 (dk_at dksX0_days_1 14 rfl rfl)
theorem dX0_days_38 : decode cX0_days 38 = .ok (.if_icmp .ge 13, 3) := dk_162 0 13 (dk_at dksX0_days_1 15 rfl rfl)
theorem dX0_days_41 : decode cX0_days 41 = .ok (.aload_n 0, 1) := dk_42 (dk_at dksX0_days_1 18 rfl rfl)
theorem dX0_days_42 : decode cX0_days 42 = .ok (.invokevirtual 519, 3) := dk_182 2 7 (dk_at dksX0_days_1 19 rfl rfl)
theorem dX0_days_45 : decode cX0_days 45 = .ok (.iinc 2 1, 3) := dk_132 2 1 (dk_at dksX0_days_2 0 rfl rfl)
theorem dX0_days_48 : decode cX0_days 48 = .ok (.goto (-12), 3) := dk_167 255 244 (dk_at dksX0_days_2 3 rfl rfl)
theorem dX0_days_51 : decode cX0_days 51 = .ok (.new 423, 3) := dk_187 1 167 (dk_at dksX0_days_2 6 rfl rfl)
theorem dX0_days_54 : decode cX0_days 54 = .ok (.dup, 1) := dk_89 (dk_at dksX0_days_2 9 rfl rfl)
theorem dX0_days_55 : decode cX0_days 55 = .ok (.aload_n 0, 1) := dk_42 (dk_at dksX0_days_2 10 rfl rfl)
theorem dX0_days_56 : decode cX0_days 56 = .ok (.getfield 167, 3) := dk_180 0 167 (dk_at dksX0_days_2 11 rfl rfl)
theorem dX0_days_59 : decode cX0_days 59 = .ok (.invokespecial 425, 3) := dk_183 1 169 (dk_at dksX0_days_2 14 rfl rfl)
theorem dX0_days_62 : decode cX0_days 62 = .ok (.invokevirtual 522, 3) := dk_182 2 10 (dk_at dksX0_days_2 17 rfl rfl)
theorem dX0_days_65 : decode cX0_days 65 = .ok (.ireturn, 1) := dk_172 (dk_at dksX0_days_2 20 rfl rfl)
theorem dX0_days_66 : decode cX0_days 66 = .ok (.astore_n 2, 1) := dk_77 (dk_at dksX0_days_2 21 rfl rfl)
theorem dX0_days_67 : decode cX0_days 67 = .ok (.aload_n 0, 1) := dk_42 (dk_at dksX0_days_2 22 rfl rfl)
theorem dX0_days_68 : decode cX0_days 68 = .ok (.aload_n 2, 1) := dk_44 (dk_at dksX0_days_2 23 rfl rfl)
theorem dX0_days_69 : decode cX0_days 69 = .ok (.invokevirtual 230, 3) := dk_182 0 230 (dk_at dksX0_days_3 0 rfl rfl)
theorem dX0_days_72 : decode cX0_days 72 = .ok (.ireturn, 1) := dk_172 (dk_at dksX0_days_3 3 rfl rfl)
abbrev cX0_day : ByteArray := prog_1_method_59_code
def yX0_day : MethodName := ⟨RX0, "day", "()V"⟩
def dkwX0_day_5 : List UInt8 := [27, 3, 79, 177]
abbrev dktX0_day_5 : List UInt8 := dkwX0_day_5 ++ []
def dkwX0_day_4 : List UInt8 := [5, 160, 0, 26, 42, 180, 0, 167, 180, 1, 82, 27, 46, 5, 160, 0, 13, 42, 180, 0, 167, 180, 1, 82]
abbrev dktX0_day_4 : List UInt8 := dkwX0_day_4 ++ dktX0_day_5
def dkwX0_day_3 : List UInt8 := [27, 182, 0, 124, 153, 0, 19, 42, 180, 0, 167, 42, 180, 0, 156, 27, 184, 1, 156, 87, 167, 0, 31, 28]
abbrev dktX0_day_3 : List UInt8 := dkwX0_day_3 ++ dktX0_day_4
def dkwX0_day_2 : List UInt8 := [180, 0, 156, 183, 1, 137, 27, 182, 1, 140, 167, 0, 65, 78, 177, 28, 4, 160, 0, 30, 42, 180, 0, 167]
abbrev dktX0_day_2 : List UInt8 := dkwX0_day_2 ++ dktX0_day_3
def dkwX0_day_1 : List UInt8 := [28, 154, 0, 38, 42, 180, 0, 167, 27, 182, 0, 124, 154, 0, 27, 187, 1, 135, 89, 42, 180, 0, 167, 42]
abbrev dktX0_day_1 : List UInt8 := dkwX0_day_1 ++ dktX0_day_2
def dkwX0_day_0 : List UInt8 := [42, 180, 0, 167, 42, 180, 0, 167, 180, 0, 60, 182, 2, 2, 60, 42, 180, 0, 167, 6, 182, 2, 2, 61]
abbrev dktX0_day_0 : List UInt8 := dkwX0_day_0 ++ dktX0_day_1
theorem dksX0_day_0 : cX0_day.data.toList.drop 0 = dktX0_day_0 := by decide +kernel
theorem dksX0_day_1 : cX0_day.data.toList.drop 24 = dktX0_day_1 := dk_seg dksX0_day_0 24 rfl rfl
theorem dksX0_day_2 : cX0_day.data.toList.drop 48 = dktX0_day_2 := dk_seg dksX0_day_1 24 rfl rfl
theorem dksX0_day_3 : cX0_day.data.toList.drop 72 = dktX0_day_3 := dk_seg dksX0_day_2 24 rfl rfl
theorem dksX0_day_4 : cX0_day.data.toList.drop 96 = dktX0_day_4 := dk_seg dksX0_day_3 24 rfl rfl
theorem dksX0_day_5 : cX0_day.data.toList.drop 120 = dktX0_day_5 := dk_seg dksX0_day_4 24 rfl rfl
theorem dX0_day_0 : decode cX0_day 0 = .ok (.aload_n 0, 1) := dk_42 (dk_at dksX0_day_0 0 rfl rfl)
theorem dX0_day_1 : decode cX0_day 1 = .ok (.getfield 167, 3) := dk_180 0 167 (dk_at dksX0_day_0 1 rfl rfl)
theorem dX0_day_4 : decode cX0_day 4 = .ok (.aload_n 0, 1) := dk_42 (dk_at dksX0_day_0 4 rfl rfl)
theorem dX0_day_5 : decode cX0_day 5 = .ok (.getfield 167, 3) := dk_180 0 167 (dk_at dksX0_day_0 5 rfl rfl)
theorem dX0_day_8 : decode cX0_day 8 = .ok (.getfield 60, 3) := dk_180 0 60 (dk_at dksX0_day_0 8 rfl rfl)
theorem dX0_day_11 : decode cX0_day 11 = .ok (.invokevirtual 514, 3) := dk_182 2 2 (dk_at dksX0_day_0 11 rfl rfl)
theorem dX0_day_14 : decode cX0_day 14 = .ok (.istore_n 1, 1) := dk_60 (dk_at dksX0_day_0 14 rfl rfl)
theorem dX0_day_15 : decode cX0_day 15 = .ok (.aload_n 0, 1) := dk_42 (dk_at dksX0_day_0 15 rfl rfl)
theorem dX0_day_16 : decode cX0_day 16 = .ok (.getfield 167, 3) := dk_180 0 167 (dk_at dksX0_day_0 16 rfl rfl)
theorem dX0_day_19 : decode cX0_day 19 = .ok (.iconst 3, 1) := dk_6 (dk_at dksX0_day_0 19 rfl rfl)
theorem dX0_day_20 : decode cX0_day 20 = .ok (.invokevirtual 514, 3) := dk_182 2 2 (dk_at dksX0_day_0 20 rfl rfl)
theorem dX0_day_23 : decode cX0_day 23 = .ok (.istore_n 2, 1) := dk_61 (dk_at dksX0_day_0 23 rfl rfl)
theorem dX0_day_24 : decode cX0_day 24 = .ok (.iload_n 2, 1) := dk_28 (dk_at dksX0_day_1 0 rfl rfl)
theorem dX0_day_25 : decode cX0_day 25 = .ok (.ifCond .ne 38, 3) := dk_154 0 38 (dk_at dksX0_day_1 1 rfl rfl)
theorem dX0_day_28 : decode cX0_day 28 = .ok (.aload_n 0, 1) := dk_42 (dk_at dksX0_day_1 4 rfl rfl)
theorem dX0_day_29 : decode cX0_day 29 = .ok (.getfield 167, 3) := dk_180 0 167 (dk_at dksX0_day_1 5 rfl rfl)
theorem dX0_day_32 : decode cX0_day 32 = .ok (.iload_n 1, 1) := dk_27 (dk_at dksX0_day_1 8 rfl rfl)
theorem dX0_day_33 : decode cX0_day 33 = .ok (.invokevirtual 124, 3) := dk_182 0 124 (dk_at dksX0_day_1 9 rfl rfl)
theorem dX0_day_36 : decode cX0_day 36 = .ok (.ifCond .ne 27, 3) := dk_154 0 27 (dk_at dksX0_day_1 12 rfl rfl)
theorem dX0_day_39 : decode cX0_day 39 = .ok (.new 391, 3) := dk_187 1 135 (dk_at dksX0_day_1 15 rfl rfl)
theorem dX0_day_42 : decode cX0_day 42 = .ok (.dup, 1) := dk_89 (dk_at dksX0_day_1 18 rfl rfl)
theorem dX0_day_43 : decode cX0_day 43 = .ok (.aload_n 0, 1) := dk_42 (dk_at dksX0_day_1 19 rfl rfl)
theorem dX0_day_44 : decode cX0_day 44 = .ok (.getfield 167, 3) := dk_180 0 167 (dk_at dksX0_day_1 20 rfl rfl)
theorem dX0_day_47 : decode cX0_day 47 = .ok (.aload_n 0, 1) := dk_42 (dk_at dksX0_day_1 23 rfl rfl)
theorem dX0_day_48 : decode cX0_day 48 = .ok (.getfield 156, 3) := dk_180 0 156 (dk_at dksX0_day_2 0 rfl rfl)
theorem dX0_day_51 : decode cX0_day 51 = .ok (.invokespecial 393, 3) := dk_183 1 137 (dk_at dksX0_day_2 3 rfl rfl)
theorem dX0_day_54 : decode cX0_day 54 = .ok (.iload_n 1, 1) := dk_27 (dk_at dksX0_day_2 6 rfl rfl)
theorem dX0_day_55 : decode cX0_day 55 = .ok (.invokevirtual 396, 3) := dk_182 1 140 (dk_at dksX0_day_2 7 rfl rfl)
theorem dX0_day_58 : decode cX0_day 58 = .ok (.goto 65, 3) := dk_167 0 65 (dk_at dksX0_day_2 10 rfl rfl)
theorem dX0_day_61 : decode cX0_day 61 = .ok (.astore_n 3, 1) := dk_78 (dk_at dksX0_day_2 13 rfl rfl)
theorem dX0_day_62 : decode cX0_day 62 = .ok (.return_, 1) := dk_177 (dk_at dksX0_day_2 14 rfl rfl)
theorem dX0_day_63 : decode cX0_day 63 = .ok (.iload_n 2, 1) := dk_28 (dk_at dksX0_day_2 15 rfl rfl)
theorem dX0_day_64 : decode cX0_day 64 = .ok (.iconst 1, 1) := dk_4 (dk_at dksX0_day_2 16 rfl rfl)
theorem dX0_day_65 : decode cX0_day 65 = .ok (.if_icmp .ne 30, 3) := dk_160 0 30 (dk_at dksX0_day_2 17 rfl rfl)
theorem dX0_day_68 : decode cX0_day 68 = .ok (.aload_n 0, 1) := dk_42 (dk_at dksX0_day_2 20 rfl rfl)
theorem dX0_day_69 : decode cX0_day 69 = .ok (.getfield 167, 3) := dk_180 0 167 (dk_at dksX0_day_2 21 rfl rfl)
theorem dX0_day_72 : decode cX0_day 72 = .ok (.iload_n 1, 1) := dk_27 (dk_at dksX0_day_3 0 rfl rfl)
theorem dX0_day_73 : decode cX0_day 73 = .ok (.invokevirtual 124, 3) := dk_182 0 124 (dk_at dksX0_day_3 1 rfl rfl)
theorem dX0_day_76 : decode cX0_day 76 = .ok (.ifCond .eq 19, 3) := dk_153 0 19 (dk_at dksX0_day_3 4 rfl rfl)
theorem dX0_day_79 : decode cX0_day 79 = .ok (.aload_n 0, 1) := dk_42 (dk_at dksX0_day_3 7 rfl rfl)
theorem dX0_day_80 : decode cX0_day 80 = .ok (.getfield 167, 3) := dk_180 0 167 (dk_at dksX0_day_3 8 rfl rfl)
theorem dX0_day_83 : decode cX0_day 83 = .ok (.aload_n 0, 1) := dk_42 (dk_at dksX0_day_3 11 rfl rfl)
theorem dX0_day_84 : decode cX0_day 84 = .ok (.getfield 156, 3) := dk_180 0 156 (dk_at dksX0_day_3 12 rfl rfl)
theorem dX0_day_87 : decode cX0_day 87 = .ok (.iload_n 1, 1) := dk_27 (dk_at dksX0_day_3 15 rfl rfl)
theorem dX0_day_88 : decode cX0_day 88 = .ok (.invokestatic 412, 3) := dk_184 1 156 (dk_at dksX0_day_3 16 rfl rfl)
theorem dX0_day_91 : decode cX0_day 91 = .ok (.pop, 1) := dk_87 (dk_at dksX0_day_3 19 rfl rfl)
theorem dX0_day_92 : decode cX0_day 92 = .ok (.goto 31, 3) := dk_167 0 31 (dk_at dksX0_day_3 20 rfl rfl)
theorem dX0_day_95 : decode cX0_day 95 = .ok (.iload_n 2, 1) := dk_28 (dk_at dksX0_day_3 23 rfl rfl)
theorem dX0_day_96 : decode cX0_day 96 = .ok (.iconst 2, 1) := dk_5 (dk_at dksX0_day_4 0 rfl rfl)
theorem dX0_day_97 : decode cX0_day 97 = .ok (.if_icmp .ne 26, 3) := dk_160 0 26 (dk_at dksX0_day_4 1 rfl rfl)
theorem dX0_day_100 : decode cX0_day 100 = .ok (.aload_n 0, 1) := dk_42 (dk_at dksX0_day_4 4 rfl rfl)
theorem dX0_day_101 : decode cX0_day 101 = .ok (.getfield 167, 3) := dk_180 0 167 (dk_at dksX0_day_4 5 rfl rfl)
theorem dX0_day_104 : decode cX0_day 104 = .ok (.getfield 338, 3) := dk_180 1 82 (dk_at dksX0_day_4 8 rfl rfl)
theorem dX0_day_107 : decode cX0_day 107 = .ok (.iload_n 1, 1) := dk_27 (dk_at dksX0_day_4 11 rfl rfl)
theorem dX0_day_108 : decode cX0_day 108 = .ok (.iaload, 1) := dk_46 (dk_at dksX0_day_4 12 rfl rfl)
theorem dX0_day_109 : decode cX0_day 109 = .ok (.iconst 2, 1) := dk_5 (dk_at dksX0_day_4 13 rfl rfl)
theorem dX0_day_110 : decode cX0_day 110 = .ok (.if_icmp .ne 13, 3) := dk_160 0 13 (dk_at dksX0_day_4 14 rfl rfl)
theorem dX0_day_113 : decode cX0_day 113 = .ok (.aload_n 0, 1) := dk_42 (dk_at dksX0_day_4 17 rfl rfl)
theorem dX0_day_114 : decode cX0_day 114 = .ok (.getfield 167, 3) := dk_180 0 167 (dk_at dksX0_day_4 18 rfl rfl)
theorem dX0_day_117 : decode cX0_day 117 = .ok (.getfield 338, 3) := dk_180 1 82 (dk_at dksX0_day_4 21 rfl rfl)
theorem dX0_day_120 : decode cX0_day 120 = .ok (.iload_n 1, 1) := dk_27 (dk_at dksX0_day_5 0 rfl rfl)
theorem dX0_day_121 : decode cX0_day 121 = .ok (.iconst 0, 1) := dk_3 (dk_at dksX0_day_5 1 rfl rfl)
theorem dX0_day_122 : decode cX0_day 122 = .ok (.iastore, 1) := dk_79 (dk_at dksX0_day_5 2 rfl rfl)
theorem dX0_day_123 : decode cX0_day 123 = .ok (.return_, 1) := dk_177 (dk_at dksX0_day_5 3 rfl rfl)
abbrev cX0_seed : ByteArray := prog_1_method_61_code
def yX0_seed : MethodName := ⟨RX0, "seed", "(I)I"⟩
def dkwX0_seed_0 : List UInt8 := [42, 180, 0, 167, 180, 2, 12, 61, 42, 180, 0, 167, 27, 181, 2, 12, 28, 172]
abbrev dktX0_seed_0 : List UInt8 := dkwX0_seed_0 ++ []
theorem dksX0_seed_0 : cX0_seed.data.toList.drop 0 = dktX0_seed_0 := by decide +kernel
theorem dX0_seed_0 : decode cX0_seed 0 = .ok (.aload_n 0, 1) := dk_42 (dk_at dksX0_seed_0 0 rfl rfl)
theorem dX0_seed_1 : decode cX0_seed 1 = .ok (.getfield 167, 3) := dk_180 0 167 (dk_at dksX0_seed_0 1 rfl rfl)
theorem dX0_seed_4 : decode cX0_seed 4 = .ok (.getfield 524, 3) := dk_180 2 12 (dk_at dksX0_seed_0 4 rfl rfl)
theorem dX0_seed_7 : decode cX0_seed 7 = .ok (.istore_n 2, 1) := dk_61 (dk_at dksX0_seed_0 7 rfl rfl)
theorem dX0_seed_8 : decode cX0_seed 8 = .ok (.aload_n 0, 1) := dk_42 (dk_at dksX0_seed_0 8 rfl rfl)
theorem dX0_seed_9 : decode cX0_seed 9 = .ok (.getfield 167, 3) := dk_180 0 167 (dk_at dksX0_seed_0 9 rfl rfl)
theorem dX0_seed_12 : decode cX0_seed 12 = .ok (.iload_n 1, 1) := dk_27 (dk_at dksX0_seed_0 12 rfl rfl)
theorem dX0_seed_13 : decode cX0_seed 13 = .ok (.putfield 524, 3) := dk_181 2 12 (dk_at dksX0_seed_0 13 rfl rfl)
theorem dX0_seed_16 : decode cX0_seed 16 = .ok (.iload_n 2, 1) := dk_28 (dk_at dksX0_seed_0 16 rfl rfl)
theorem dX0_seed_17 : decode cX0_seed 17 = .ok (.ireturn, 1) := dk_172 (dk_at dksX0_seed_0 17 rfl rfl)
abbrev cX0_image : ByteArray := prog_1_method_62_code
def yX0_image : MethodName := ⟨RX0, "image", "()I"⟩
def dkwX0_image_1 : List UInt8 := [180, 0, 60, 172]
abbrev dktX0_image_1 : List UInt8 := dkwX0_image_1 ++ []
def dkwX0_image_0 : List UInt8 := [42, 187, 0, 45, 89, 183, 0, 166, 42, 180, 0, 167, 182, 1, 62, 181, 2, 15, 42, 180, 0, 167]
abbrev dktX0_image_0 : List UInt8 := dkwX0_image_0 ++ dktX0_image_1
theorem dksX0_image_0 : cX0_image.data.toList.drop 0 = dktX0_image_0 := by decide +kernel
theorem dksX0_image_1 : cX0_image.data.toList.drop 22 = dktX0_image_1 := dk_seg dksX0_image_0 22 rfl rfl
theorem dX0_image_0 : decode cX0_image 0 = .ok (.aload_n 0, 1) := dk_42 (dk_at dksX0_image_0 0 rfl rfl)
theorem dX0_image_1 : decode cX0_image 1 = .ok (.new 45, 3) := dk_187 0 45 (dk_at dksX0_image_0 1 rfl rfl)
theorem dX0_image_4 : decode cX0_image 4 = .ok (.dup, 1) := dk_89 (dk_at dksX0_image_0 4 rfl rfl)
theorem dX0_image_5 : decode cX0_image 5 = .ok (.invokespecial 166, 3) := dk_183 0 166 (dk_at dksX0_image_0 5 rfl rfl)
theorem dX0_image_8 : decode cX0_image 8 = .ok (.aload_n 0, 1) := dk_42 (dk_at dksX0_image_0 8 rfl rfl)
theorem dX0_image_9 : decode cX0_image 9 = .ok (.getfield 167, 3) := dk_180 0 167 (dk_at dksX0_image_0 9 rfl rfl)
theorem dX0_image_12 : decode cX0_image 12 = .ok (.invokevirtual 318, 3) := dk_182 1 62 (dk_at dksX0_image_0 12 rfl rfl)
theorem dX0_image_15 : decode cX0_image 15 = .ok (.putfield 527, 3) := dk_181 2 15 (dk_at dksX0_image_0 15 rfl rfl)
theorem dX0_image_18 : decode cX0_image 18 = .ok (.aload_n 0, 1) := dk_42 (dk_at dksX0_image_0 18 rfl rfl)
theorem dX0_image_19 : decode cX0_image 19 = .ok (.getfield 167, 3) := dk_180 0 167 (dk_at dksX0_image_0 19 rfl rfl)
theorem dX0_image_22 : decode cX0_image 22 = .ok (.getfield 60, 3) := dk_180 0 60 (dk_at dksX0_image_1 0 rfl rfl)
theorem dX0_image_25 : decode cX0_image 25 = .ok (.ireturn, 1) := dk_172 (dk_at dksX0_image_1 3 rfl rfl)
abbrev cX0_restore : ByteArray := prog_1_method_63_code
def yX0_restore : MethodName := ⟨RX0, "restore", "()I"⟩
def dkwX0_restore_2 : List UInt8 := [172, 76, 42, 43, 182, 0, 230, 172]
abbrev dktX0_restore_2 : List UInt8 := dkwX0_restore_2 ++ []
def dkwX0_restore_1 : List UInt8 := [183, 0, 166, 42, 180, 2, 15, 182, 1, 62, 181, 0, 167, 42, 182, 2, 18, 42, 180, 0, 167, 180, 0, 60]
abbrev dktX0_restore_1 : List UInt8 := dkwX0_restore_1 ++ dktX0_restore_2
def dkwX0_restore_0 : List UInt8 := [42, 180, 2, 15, 198, 0, 7, 4, 167, 0, 4, 3, 16, 250, 184, 0, 213, 42, 187, 0, 45, 89]
abbrev dktX0_restore_0 : List UInt8 := dkwX0_restore_0 ++ dktX0_restore_1
theorem dksX0_restore_0 : cX0_restore.data.toList.drop 0 = dktX0_restore_0 := by decide +kernel
theorem dksX0_restore_1 : cX0_restore.data.toList.drop 22 = dktX0_restore_1 := dk_seg dksX0_restore_0 22 rfl rfl
theorem dksX0_restore_2 : cX0_restore.data.toList.drop 46 = dktX0_restore_2 := dk_seg dksX0_restore_1 24 rfl rfl
theorem dX0_restore_0 : decode cX0_restore 0 = .ok (.aload_n 0, 1) := dk_42 (dk_at dksX0_restore_0 0 rfl rfl)
theorem dX0_restore_1 : decode cX0_restore 1 = .ok (.getfield 527, 3) := dk_180 2 15 (dk_at dksX0_restore_0 1 rfl rfl)
theorem dX0_restore_4 : decode cX0_restore 4 = .ok (.ifnull 7, 3) := dk_198 0 7 (dk_at dksX0_restore_0 4 rfl rfl)
theorem dX0_restore_7 : decode cX0_restore 7 = .ok (.iconst 1, 1) := dk_4 (dk_at dksX0_restore_0 7 rfl rfl)
theorem dX0_restore_8 : decode cX0_restore 8 = .ok (.goto 4, 3) := dk_167 0 4 (dk_at dksX0_restore_0 8 rfl rfl)
theorem dX0_restore_11 : decode cX0_restore 11 = .ok (.iconst 0, 1) := dk_3 (dk_at dksX0_restore_0 11 rfl rfl)
theorem dX0_restore_12 : decode cX0_restore 12 = .ok (.bipush (-6), 2) := dk_16 250 (dk_at dksX0_restore_0 12 rfl rfl)
theorem dX0_restore_14 : decode cX0_restore 14 = .ok (.invokestatic 213, 3) := dk_184 0 213 (dk_at dksX0_restore_0 14 rfl rfl)
theorem dX0_restore_17 : decode cX0_restore 17 = .ok (.aload_n 0, 1) := dk_42 (dk_at dksX0_restore_0 17 rfl rfl)
theorem dX0_restore_18 : decode cX0_restore 18 = .ok (.new 45, 3) := dk_187 0 45 (dk_at dksX0_restore_0 18 rfl rfl)
theorem dX0_restore_21 : decode cX0_restore 21 = .ok (.dup, 1) := dk_89 (dk_at dksX0_restore_0 21 rfl rfl)
theorem dX0_restore_22 : decode cX0_restore 22 = .ok (.invokespecial 166, 3) := dk_183 0 166 (dk_at dksX0_restore_1 0 rfl rfl)
theorem dX0_restore_25 : decode cX0_restore 25 = .ok (.aload_n 0, 1) := dk_42 (dk_at dksX0_restore_1 3 rfl rfl)
theorem dX0_restore_26 : decode cX0_restore 26 = .ok (.getfield 527, 3) := dk_180 2 15 (dk_at dksX0_restore_1 4 rfl rfl)
theorem dX0_restore_29 : decode cX0_restore 29 = .ok (.invokevirtual 318, 3) := dk_182 1 62 (dk_at dksX0_restore_1 7 rfl rfl)
theorem dX0_restore_32 : decode cX0_restore 32 = .ok (.putfield 167, 3) := dk_181 0 167 (dk_at dksX0_restore_1 10 rfl rfl)
theorem dX0_restore_35 : decode cX0_restore 35 = .ok (.aload_n 0, 1) := dk_42 (dk_at dksX0_restore_1 13 rfl rfl)
theorem dX0_restore_36 : decode cX0_restore 36 = .ok (.invokevirtual 530, 3) := dk_182 2 18 (dk_at dksX0_restore_1 14 rfl rfl)
theorem dX0_restore_39 : decode cX0_restore 39 = .ok (.aload_n 0, 1) := dk_42 (dk_at dksX0_restore_1 17 rfl rfl)
theorem dX0_restore_40 : decode cX0_restore 40 = .ok (.getfield 167, 3) := dk_180 0 167 (dk_at dksX0_restore_1 18 rfl rfl)
theorem dX0_restore_43 : decode cX0_restore 43 = .ok (.getfield 60, 3) := dk_180 0 60 (dk_at dksX0_restore_1 21 rfl rfl)
theorem dX0_restore_46 : decode cX0_restore 46 = .ok (.ireturn, 1) := dk_172 (dk_at dksX0_restore_2 0 rfl rfl)
theorem dX0_restore_47 : decode cX0_restore 47 = .ok (.astore_n 1, 1) := dk_76 (dk_at dksX0_restore_2 1 rfl rfl)
theorem dX0_restore_48 : decode cX0_restore 48 = .ok (.aload_n 0, 1) := dk_42 (dk_at dksX0_restore_2 2 rfl rfl)
theorem dX0_restore_49 : decode cX0_restore 49 = .ok (.aload_n 1, 1) := dk_43 (dk_at dksX0_restore_2 3 rfl rfl)
theorem dX0_restore_50 : decode cX0_restore 50 = .ok (.invokevirtual 230, 3) := dk_182 0 230 (dk_at dksX0_restore_2 4 rfl rfl)
theorem dX0_restore_53 : decode cX0_restore 53 = .ok (.ireturn, 1) := dk_172 (dk_at dksX0_restore_2 7 rfl rfl)
abbrev cX0_shelvesFollow : ByteArray := prog_1_method_21_code
def yX0_shelvesFollow : MethodName := ⟨RX0, "shelvesFollow", "()V"⟩
def dkwX0_shelvesFollow_3 : List UInt8 := [1, 181, 0, 227, 132, 3, 1, 167, 255, 191, 177]
abbrev dktX0_shelvesFollow_3 : List UInt8 := dkwX0_shelvesFollow_3 ++ []
def dkwX0_shelvesFollow_2 : List UInt8 := [180, 0, 167, 21, 5, 182, 0, 253, 153, 0, 16, 42, 180, 0, 167, 180, 1, 5, 21, 5, 50, 167, 0, 4]
abbrev dktX0_shelvesFollow_2 : List UInt8 := dkwX0_shelvesFollow_2 ++ dktX0_shelvesFollow_3
def dkwX0_shelvesFollow_1 : List UInt8 := [182, 0, 241, 153, 0, 47, 25, 4, 180, 0, 227, 192, 0, 41, 180, 1, 2, 54, 5, 25, 4, 42]
abbrev dktX0_shelvesFollow_1 : List UInt8 := dkwX0_shelvesFollow_1 ++ dktX0_shelvesFollow_2
def dkwX0_shelvesFollow_0 : List UInt8 := [42, 180, 0, 136, 76, 43, 190, 61, 3, 62, 29, 28, 162, 0, 66, 43, 29, 50, 58, 4, 25, 4]
abbrev dktX0_shelvesFollow_0 : List UInt8 := dkwX0_shelvesFollow_0 ++ dktX0_shelvesFollow_1
theorem dksX0_shelvesFollow_0 : cX0_shelvesFollow.data.toList.drop 0 = dktX0_shelvesFollow_0 := by decide +kernel
theorem dksX0_shelvesFollow_1 : cX0_shelvesFollow.data.toList.drop 22 = dktX0_shelvesFollow_1 := dk_seg dksX0_shelvesFollow_0 22 rfl rfl
theorem dksX0_shelvesFollow_2 : cX0_shelvesFollow.data.toList.drop 44 = dktX0_shelvesFollow_2 := dk_seg dksX0_shelvesFollow_1 22 rfl rfl
theorem dksX0_shelvesFollow_3 : cX0_shelvesFollow.data.toList.drop 68 = dktX0_shelvesFollow_3 := dk_seg dksX0_shelvesFollow_2 24 rfl rfl
theorem dX0_shelvesFollow_0 : decode cX0_shelvesFollow 0 = .ok (.aload_n 0, 1) := dk_42 (dk_at dksX0_shelvesFollow_0 0 rfl rfl)
theorem dX0_shelvesFollow_1 : decode cX0_shelvesFollow 1 = .ok (.getfield 136, 3) := dk_180 0 136 (dk_at dksX0_shelvesFollow_0 1 rfl rfl)
theorem dX0_shelvesFollow_4 : decode cX0_shelvesFollow 4 = .ok (.astore_n 1, 1) := dk_76 (dk_at dksX0_shelvesFollow_0 4 rfl rfl)
theorem dX0_shelvesFollow_5 : decode cX0_shelvesFollow 5 = .ok (.aload_n 1, 1) := dk_43 (dk_at dksX0_shelvesFollow_0 5 rfl rfl)
theorem dX0_shelvesFollow_6 : decode cX0_shelvesFollow 6 = .ok (.arraylength, 1) := dk_190 (dk_at dksX0_shelvesFollow_0 6 rfl rfl)
theorem dX0_shelvesFollow_7 : decode cX0_shelvesFollow 7 = .ok (.istore_n 2, 1) := dk_61 (dk_at dksX0_shelvesFollow_0 7 rfl rfl)
theorem dX0_shelvesFollow_8 : decode cX0_shelvesFollow 8 = .ok (.iconst 0, 1) := dk_3 (dk_at dksX0_shelvesFollow_0 8 rfl rfl)
theorem dX0_shelvesFollow_9 : decode cX0_shelvesFollow 9 = .ok (.istore_n 3, 1) := dk_62 (dk_at dksX0_shelvesFollow_0 9 rfl rfl)
theorem dX0_shelvesFollow_10 : decode cX0_shelvesFollow 10 = .ok (.iload_n 3, 1) := dk_29 (dk_at dksX0_shelvesFollow_0 10 rfl rfl)
theorem dX0_shelvesFollow_11 : decode cX0_shelvesFollow 11 = .ok (.iload_n 2, 1) := dk_28 (dk_at dksX0_shelvesFollow_0 11 rfl rfl)
theorem dX0_shelvesFollow_12 : decode cX0_shelvesFollow 12 = .ok (.if_icmp .ge 66, 3) := dk_162 0 66 (dk_at dksX0_shelvesFollow_0 12 rfl rfl)
theorem dX0_shelvesFollow_15 : decode cX0_shelvesFollow 15 = .ok (.aload_n 1, 1) := dk_43 (dk_at dksX0_shelvesFollow_0 15 rfl rfl)
theorem dX0_shelvesFollow_16 : decode cX0_shelvesFollow 16 = .ok (.iload_n 3, 1) := dk_29 (dk_at dksX0_shelvesFollow_0 16 rfl rfl)
theorem dX0_shelvesFollow_17 : decode cX0_shelvesFollow 17 = .ok (.aaload, 1) := dk_50 (dk_at dksX0_shelvesFollow_0 17 rfl rfl)
theorem dX0_shelvesFollow_18 : decode cX0_shelvesFollow 18 = .ok (.astore 4, 2) := dk_58 4 (dk_at dksX0_shelvesFollow_0 18 rfl rfl)
theorem dX0_shelvesFollow_20 : decode cX0_shelvesFollow 20 = .ok (.aload 4, 2) := dk_25 4 (dk_at dksX0_shelvesFollow_0 20 rfl rfl)
theorem dX0_shelvesFollow_22 : decode cX0_shelvesFollow 22 = .ok (.invokevirtual 241, 3) := dk_182 0 241 (dk_at dksX0_shelvesFollow_1 0 rfl rfl)
theorem dX0_shelvesFollow_25 : decode cX0_shelvesFollow 25 = .ok (.ifCond .eq 47, 3) := dk_153 0 47 (dk_at dksX0_shelvesFollow_1 3 rfl rfl)
theorem dX0_shelvesFollow_28 : decode cX0_shelvesFollow 28 = .ok (.aload 4, 2) := dk_25 4 (dk_at dksX0_shelvesFollow_1 6 rfl rfl)
theorem dX0_shelvesFollow_30 : decode cX0_shelvesFollow 30 = .ok (.getfield 227, 3) := dk_180 0 227 (dk_at dksX0_shelvesFollow_1 8 rfl rfl)
theorem dX0_shelvesFollow_33 : decode cX0_shelvesFollow 33 = .ok (.checkcast 41, 3) := dk_192 0 41 (dk_at dksX0_shelvesFollow_1 11 rfl rfl)
theorem dX0_shelvesFollow_36 : decode cX0_shelvesFollow 36 = .ok (.getfield 258, 3) := dk_180 1 2 (dk_at dksX0_shelvesFollow_1 14 rfl rfl)
theorem dX0_shelvesFollow_39 : decode cX0_shelvesFollow 39 = .ok (.istore 5, 2) := dk_54 5 (dk_at dksX0_shelvesFollow_1 17 rfl rfl)
theorem dX0_shelvesFollow_41 : decode cX0_shelvesFollow 41 = .ok (.aload 4, 2) := dk_25 4 (dk_at dksX0_shelvesFollow_1 19 rfl rfl)
theorem dX0_shelvesFollow_43 : decode cX0_shelvesFollow 43 = .ok (.aload_n 0, 1) := dk_42 (dk_at dksX0_shelvesFollow_1 21 rfl rfl)
theorem dX0_shelvesFollow_44 : decode cX0_shelvesFollow 44 = .ok (.getfield 167, 3) := dk_180 0 167 (dk_at dksX0_shelvesFollow_2 0 rfl rfl)
theorem dX0_shelvesFollow_47 : decode cX0_shelvesFollow 47 = .ok (.iload 5, 2) := dk_21 5 (dk_at dksX0_shelvesFollow_2 3 rfl rfl)
theorem dX0_shelvesFollow_49 : decode cX0_shelvesFollow 49 = .ok (.invokevirtual 253, 3) := dk_182 0 253 (dk_at dksX0_shelvesFollow_2 5 rfl rfl)
theorem dX0_shelvesFollow_52 : decode cX0_shelvesFollow 52 = .ok (.ifCond .eq 16, 3) := dk_153 0 16 (dk_at dksX0_shelvesFollow_2 8 rfl rfl)
theorem dX0_shelvesFollow_55 : decode cX0_shelvesFollow 55 = .ok (.aload_n 0, 1) := dk_42 (dk_at dksX0_shelvesFollow_2 11 rfl rfl)
theorem dX0_shelvesFollow_56 : decode cX0_shelvesFollow 56 = .ok (.getfield 167, 3) := dk_180 0 167 (dk_at dksX0_shelvesFollow_2 12 rfl rfl)
theorem dX0_shelvesFollow_59 : decode cX0_shelvesFollow 59 = .ok (.getfield 261, 3) := dk_180 1 5 (dk_at dksX0_shelvesFollow_2 15 rfl rfl)
theorem dX0_shelvesFollow_62 : decode cX0_shelvesFollow 62 = .ok (.iload 5, 2) := dk_21 5 (dk_at dksX0_shelvesFollow_2 18 rfl rfl)
theorem dX0_shelvesFollow_64 : decode cX0_shelvesFollow 64 = .ok (.aaload, 1) := dk_50 (dk_at dksX0_shelvesFollow_2 20 rfl rfl)
theorem dX0_shelvesFollow_65 : decode cX0_shelvesFollow 65 = .ok (.goto 4, 3) := dk_167 0 4 (dk_at dksX0_shelvesFollow_2 21 rfl rfl)
theorem dX0_shelvesFollow_68 : decode cX0_shelvesFollow 68 = .ok (.aconst_null, 1) := dk_1 (dk_at dksX0_shelvesFollow_3 0 rfl rfl)
theorem dX0_shelvesFollow_69 : decode cX0_shelvesFollow 69 = .ok (.putfield 227, 3) := dk_181 0 227 (dk_at dksX0_shelvesFollow_3 1 rfl rfl)
theorem dX0_shelvesFollow_72 : decode cX0_shelvesFollow 72 = .ok (.iinc 3 1, 3) := dk_132 3 1 (dk_at dksX0_shelvesFollow_3 4 rfl rfl)
theorem dX0_shelvesFollow_75 : decode cX0_shelvesFollow 75 = .ok (.goto (-65), 3) := dk_167 255 191 (dk_at dksX0_shelvesFollow_3 7 rfl rfl)
theorem dX0_shelvesFollow_78 : decode cX0_shelvesFollow 78 = .ok (.return_, 1) := dk_177 (dk_at dksX0_shelvesFollow_3 10 rfl rfl)
abbrev cX0_status : ByteArray := prog_1_method_65_code
def yX0_status : MethodName := ⟨RX0, "status", "(I)I"⟩
def dkwX0_status_6 : List UInt8 := [2, 172]
abbrev dktX0_status_6 : List UInt8 := dkwX0_status_6 ++ []
def dkwX0_status_5 : List UInt8 := [20, 2, 28, 20, 2, 30, 184, 0, 219, 153, 0, 15, 42, 180, 0, 140, 27, 16, 10, 100, 46, 167, 0, 4]
abbrev dktX0_status_5 : List UInt8 := dkwX0_status_5 ++ dktX0_status_6
def dkwX0_status_4 : List UInt8 := [180, 2, 12, 172, 42, 180, 1, 128, 172, 42, 180, 1, 247, 172, 42, 180, 0, 156, 180, 2, 27, 172, 27, 133]
abbrev dktX0_status_4 : List UInt8 := dkwX0_status_4 ++ dktX0_status_5
def dkwX0_status_3 : List UInt8 := [182, 2, 21, 172, 42, 180, 0, 167, 180, 0, 109, 172, 42, 180, 0, 167, 180, 2, 24, 172, 42, 180, 0, 167]
abbrev dktX0_status_3 : List UInt8 := dkwX0_status_3 ++ dktX0_status_4
def dkwX0_status_2 : List UInt8 := [42, 180, 0, 167, 180, 0, 60, 172, 42, 4, 182, 2, 21, 172, 42, 5, 182, 2, 21, 172, 42, 6]
abbrev dktX0_status_2 : List UInt8 := dkwX0_status_2 ++ dktX0_status_3
def dkwX0_status_1 : List UInt8 := [170, 0, 0, 0, 0, 0, 123, 0, 0, 0, 0, 0, 0, 0, 9, 0, 0, 0, 55, 0, 0, 0, 63, 0, 0, 0, 69, 0, 0, 0, 75, 0, 0, 0, 81, 0, 0, 0, 89, 0, 0, 0, 97, 0, 0, 0, 105, 0, 0, 0, 110, 0, 0, 0, 115]
abbrev dktX0_status_1 : List UInt8 := dkwX0_status_1 ++ dktX0_status_2
def dkwX0_status_0 : List UInt8 := [27]
abbrev dktX0_status_0 : List UInt8 := dkwX0_status_0 ++ dktX0_status_1
theorem dksX0_status_0 : cX0_status.data.toList.drop 0 = dktX0_status_0 := by decide +kernel
theorem dksX0_status_1 : cX0_status.data.toList.drop 1 = dktX0_status_1 := dk_seg dksX0_status_0 1 rfl rfl
theorem dksX0_status_2 : cX0_status.data.toList.drop 56 = dktX0_status_2 := dk_seg dksX0_status_1 55 rfl rfl
theorem dksX0_status_3 : cX0_status.data.toList.drop 78 = dktX0_status_3 := dk_seg dksX0_status_2 22 rfl rfl
theorem dksX0_status_4 : cX0_status.data.toList.drop 102 = dktX0_status_4 := dk_seg dksX0_status_3 24 rfl rfl
theorem dksX0_status_5 : cX0_status.data.toList.drop 126 = dktX0_status_5 := dk_seg dksX0_status_4 24 rfl rfl
theorem dksX0_status_6 : cX0_status.data.toList.drop 150 = dktX0_status_6 := dk_seg dksX0_status_5 24 rfl rfl
theorem dX0_status_0 : decode cX0_status 0 = .ok (.iload_n 1, 1) := dk_27 (dk_at dksX0_status_0 0 rfl rfl)
theorem dX0_status_1 : decode cX0_status 1 = .ok (.tableswitch 123 0 9 #[55, 63, 69, 75, 81, 89, 97, 105, 110, 115], 55) := by decide +kernel
theorem dX0_status_56 : decode cX0_status 56 = .ok (.aload_n 0, 1) := dk_42 (dk_at dksX0_status_2 0 rfl rfl)
theorem dX0_status_57 : decode cX0_status 57 = .ok (.getfield 167, 3) := dk_180 0 167 (dk_at dksX0_status_2 1 rfl rfl)
theorem dX0_status_60 : decode cX0_status 60 = .ok (.getfield 60, 3) := dk_180 0 60 (dk_at dksX0_status_2 4 rfl rfl)
theorem dX0_status_63 : decode cX0_status 63 = .ok (.ireturn, 1) := dk_172 (dk_at dksX0_status_2 7 rfl rfl)
theorem dX0_status_64 : decode cX0_status 64 = .ok (.aload_n 0, 1) := dk_42 (dk_at dksX0_status_2 8 rfl rfl)
theorem dX0_status_65 : decode cX0_status 65 = .ok (.iconst 1, 1) := dk_4 (dk_at dksX0_status_2 9 rfl rfl)
theorem dX0_status_66 : decode cX0_status 66 = .ok (.invokevirtual 533, 3) := dk_182 2 21 (dk_at dksX0_status_2 10 rfl rfl)
theorem dX0_status_69 : decode cX0_status 69 = .ok (.ireturn, 1) := dk_172 (dk_at dksX0_status_2 13 rfl rfl)
theorem dX0_status_70 : decode cX0_status 70 = .ok (.aload_n 0, 1) := dk_42 (dk_at dksX0_status_2 14 rfl rfl)
theorem dX0_status_71 : decode cX0_status 71 = .ok (.iconst 2, 1) := dk_5 (dk_at dksX0_status_2 15 rfl rfl)
theorem dX0_status_72 : decode cX0_status 72 = .ok (.invokevirtual 533, 3) := dk_182 2 21 (dk_at dksX0_status_2 16 rfl rfl)
theorem dX0_status_75 : decode cX0_status 75 = .ok (.ireturn, 1) := dk_172 (dk_at dksX0_status_2 19 rfl rfl)
theorem dX0_status_76 : decode cX0_status 76 = .ok (.aload_n 0, 1) := dk_42 (dk_at dksX0_status_2 20 rfl rfl)
theorem dX0_status_77 : decode cX0_status 77 = .ok (.iconst 3, 1) := dk_6 (dk_at dksX0_status_2 21 rfl rfl)
theorem dX0_status_78 : decode cX0_status 78 = .ok (.invokevirtual 533, 3) := dk_182 2 21 (dk_at dksX0_status_3 0 rfl rfl)
theorem dX0_status_81 : decode cX0_status 81 = .ok (.ireturn, 1) := dk_172 (dk_at dksX0_status_3 3 rfl rfl)
theorem dX0_status_82 : decode cX0_status 82 = .ok (.aload_n 0, 1) := dk_42 (dk_at dksX0_status_3 4 rfl rfl)
theorem dX0_status_83 : decode cX0_status 83 = .ok (.getfield 167, 3) := dk_180 0 167 (dk_at dksX0_status_3 5 rfl rfl)
theorem dX0_status_86 : decode cX0_status 86 = .ok (.getfield 109, 3) := dk_180 0 109 (dk_at dksX0_status_3 8 rfl rfl)
theorem dX0_status_89 : decode cX0_status 89 = .ok (.ireturn, 1) := dk_172 (dk_at dksX0_status_3 11 rfl rfl)
theorem dX0_status_90 : decode cX0_status 90 = .ok (.aload_n 0, 1) := dk_42 (dk_at dksX0_status_3 12 rfl rfl)
theorem dX0_status_91 : decode cX0_status 91 = .ok (.getfield 167, 3) := dk_180 0 167 (dk_at dksX0_status_3 13 rfl rfl)
theorem dX0_status_94 : decode cX0_status 94 = .ok (.getfield 536, 3) := dk_180 2 24 (dk_at dksX0_status_3 16 rfl rfl)
theorem dX0_status_97 : decode cX0_status 97 = .ok (.ireturn, 1) := dk_172 (dk_at dksX0_status_3 19 rfl rfl)
theorem dX0_status_98 : decode cX0_status 98 = .ok (.aload_n 0, 1) := dk_42 (dk_at dksX0_status_3 20 rfl rfl)
theorem dX0_status_99 : decode cX0_status 99 = .ok (.getfield 167, 3) := dk_180 0 167 (dk_at dksX0_status_3 21 rfl rfl)
theorem dX0_status_102 : decode cX0_status 102 = .ok (.getfield 524, 3) := dk_180 2 12 (dk_at dksX0_status_4 0 rfl rfl)
theorem dX0_status_105 : decode cX0_status 105 = .ok (.ireturn, 1) := dk_172 (dk_at dksX0_status_4 3 rfl rfl)
theorem dX0_status_106 : decode cX0_status 106 = .ok (.aload_n 0, 1) := dk_42 (dk_at dksX0_status_4 4 rfl rfl)
theorem dX0_status_107 : decode cX0_status 107 = .ok (.getfield 384, 3) := dk_180 1 128 (dk_at dksX0_status_4 5 rfl rfl)
theorem dX0_status_110 : decode cX0_status 110 = .ok (.ireturn, 1) := dk_172 (dk_at dksX0_status_4 8 rfl rfl)
theorem dX0_status_111 : decode cX0_status 111 = .ok (.aload_n 0, 1) := dk_42 (dk_at dksX0_status_4 9 rfl rfl)
theorem dX0_status_112 : decode cX0_status 112 = .ok (.getfield 503, 3) := dk_180 1 247 (dk_at dksX0_status_4 10 rfl rfl)
theorem dX0_status_115 : decode cX0_status 115 = .ok (.ireturn, 1) := dk_172 (dk_at dksX0_status_4 13 rfl rfl)
theorem dX0_status_116 : decode cX0_status 116 = .ok (.aload_n 0, 1) := dk_42 (dk_at dksX0_status_4 14 rfl rfl)
theorem dX0_status_117 : decode cX0_status 117 = .ok (.getfield 156, 3) := dk_180 0 156 (dk_at dksX0_status_4 15 rfl rfl)
theorem dX0_status_120 : decode cX0_status 120 = .ok (.getfield 539, 3) := dk_180 2 27 (dk_at dksX0_status_4 18 rfl rfl)
theorem dX0_status_123 : decode cX0_status 123 = .ok (.ireturn, 1) := dk_172 (dk_at dksX0_status_4 21 rfl rfl)
theorem dX0_status_124 : decode cX0_status 124 = .ok (.iload_n 1, 1) := dk_27 (dk_at dksX0_status_4 22 rfl rfl)
theorem dX0_status_125 : decode cX0_status 125 = .ok (.i2l, 1) := dk_133 (dk_at dksX0_status_4 23 rfl rfl)
theorem dX0_status_126 : decode cX0_status 126 = .ok (.ldc2_w 540, 3) := dk_20 2 28 (dk_at dksX0_status_5 0 rfl rfl)
theorem dX0_status_129 : decode cX0_status 129 = .ok (.ldc2_w 542, 3) := dk_20 2 30 (dk_at dksX0_status_5 3 rfl rfl)
theorem dX0_status_132 : decode cX0_status 132 = .ok (.invokestatic 219, 3) := dk_184 0 219 (dk_at dksX0_status_5 6 rfl rfl)
theorem dX0_status_135 : decode cX0_status 135 = .ok (.ifCond .eq 15, 3) := dk_153 0 15 (dk_at dksX0_status_5 9 rfl rfl)
theorem dX0_status_138 : decode cX0_status 138 = .ok (.aload_n 0, 1) := dk_42 (dk_at dksX0_status_5 12 rfl rfl)
theorem dX0_status_139 : decode cX0_status 139 = .ok (.getfield 140, 3) := dk_180 0 140 (dk_at dksX0_status_5 13 rfl rfl)
theorem dX0_status_142 : decode cX0_status 142 = .ok (.iload_n 1, 1) := dk_27 (dk_at dksX0_status_5 16 rfl rfl)
theorem dX0_status_143 : decode cX0_status 143 = .ok (.bipush 10, 2) := dk_16 10 (dk_at dksX0_status_5 17 rfl rfl)
theorem dX0_status_145 : decode cX0_status 145 = .ok (.isub, 1) := dk_100 (dk_at dksX0_status_5 19 rfl rfl)
theorem dX0_status_146 : decode cX0_status 146 = .ok (.iaload, 1) := dk_46 (dk_at dksX0_status_5 20 rfl rfl)
theorem dX0_status_147 : decode cX0_status 147 = .ok (.goto 4, 3) := dk_167 0 4 (dk_at dksX0_status_5 21 rfl rfl)
theorem dX0_status_150 : decode cX0_status 150 = .ok (.iconst (-1), 1) := dk_2 (dk_at dksX0_status_6 0 rfl rfl)
theorem dX0_status_151 : decode cX0_status 151 = .ok (.ireturn, 1) := dk_172 (dk_at dksX0_status_6 1 rfl rfl)
abbrev cX0_inState : ByteArray := prog_1_method_64_code
def yX0_inState : MethodName := ⟨RX0, "inState", "(I)I"⟩
def dkwX0_inState_1 : List UInt8 := [46, 27, 160, 0, 7, 4, 167, 0, 4, 3, 96, 61, 132, 3, 1, 167, 255, 221, 28, 172]
abbrev dktX0_inState_1 : List UInt8 := dkwX0_inState_1 ++ []
def dkwX0_inState_0 : List UInt8 := [3, 61, 3, 62, 29, 42, 180, 0, 167, 180, 0, 60, 162, 0, 30, 28, 42, 180, 0, 167, 180, 1, 82, 29]
abbrev dktX0_inState_0 : List UInt8 := dkwX0_inState_0 ++ dktX0_inState_1
theorem dksX0_inState_0 : cX0_inState.data.toList.drop 0 = dktX0_inState_0 := by decide +kernel
theorem dksX0_inState_1 : cX0_inState.data.toList.drop 24 = dktX0_inState_1 := dk_seg dksX0_inState_0 24 rfl rfl
theorem dX0_inState_0 : decode cX0_inState 0 = .ok (.iconst 0, 1) := dk_3 (dk_at dksX0_inState_0 0 rfl rfl)
theorem dX0_inState_1 : decode cX0_inState 1 = .ok (.istore_n 2, 1) := dk_61 (dk_at dksX0_inState_0 1 rfl rfl)
theorem dX0_inState_2 : decode cX0_inState 2 = .ok (.iconst 0, 1) := dk_3 (dk_at dksX0_inState_0 2 rfl rfl)
theorem dX0_inState_3 : decode cX0_inState 3 = .ok (.istore_n 3, 1) := dk_62 (dk_at dksX0_inState_0 3 rfl rfl)
theorem dX0_inState_4 : decode cX0_inState 4 = .ok (.iload_n 3, 1) := dk_29 (dk_at dksX0_inState_0 4 rfl rfl)
theorem dX0_inState_5 : decode cX0_inState 5 = .ok (.aload_n 0, 1) := dk_42 (dk_at dksX0_inState_0 5 rfl rfl)
theorem dX0_inState_6 : decode cX0_inState 6 = .ok (.getfield 167, 3) := dk_180 0 167 (dk_at dksX0_inState_0 6 rfl rfl)
theorem dX0_inState_9 : decode cX0_inState 9 = .ok (.getfield 60, 3) := dk_180 0 60 (dk_at dksX0_inState_0 9 rfl rfl)
theorem dX0_inState_12 : decode cX0_inState 12 = .ok (.if_icmp .ge 30, 3) := dk_162 0 30 (dk_at dksX0_inState_0 12 rfl rfl)
theorem dX0_inState_15 : decode cX0_inState 15 = .ok (.iload_n 2, 1) := dk_28 (dk_at dksX0_inState_0 15 rfl rfl)
theorem dX0_inState_16 : decode cX0_inState 16 = .ok (.aload_n 0, 1) := dk_42 (dk_at dksX0_inState_0 16 rfl rfl)
theorem dX0_inState_17 : decode cX0_inState 17 = .ok (.getfield 167, 3) := dk_180 0 167 (dk_at dksX0_inState_0 17 rfl rfl)
theorem dX0_inState_20 : decode cX0_inState 20 = .ok (.getfield 338, 3) := dk_180 1 82 (dk_at dksX0_inState_0 20 rfl rfl)
theorem dX0_inState_23 : decode cX0_inState 23 = .ok (.iload_n 3, 1) := dk_29 (dk_at dksX0_inState_0 23 rfl rfl)
theorem dX0_inState_24 : decode cX0_inState 24 = .ok (.iaload, 1) := dk_46 (dk_at dksX0_inState_1 0 rfl rfl)
theorem dX0_inState_25 : decode cX0_inState 25 = .ok (.iload_n 1, 1) := dk_27 (dk_at dksX0_inState_1 1 rfl rfl)
theorem dX0_inState_26 : decode cX0_inState 26 = .ok (.if_icmp .ne 7, 3) := dk_160 0 7 (dk_at dksX0_inState_1 2 rfl rfl)
theorem dX0_inState_29 : decode cX0_inState 29 = .ok (.iconst 1, 1) := dk_4 (dk_at dksX0_inState_1 5 rfl rfl)
theorem dX0_inState_30 : decode cX0_inState 30 = .ok (.goto 4, 3) := dk_167 0 4 (dk_at dksX0_inState_1 6 rfl rfl)
theorem dX0_inState_33 : decode cX0_inState 33 = .ok (.iconst 0, 1) := dk_3 (dk_at dksX0_inState_1 9 rfl rfl)
theorem dX0_inState_34 : decode cX0_inState 34 = .ok (.iadd, 1) := dk_96 (dk_at dksX0_inState_1 10 rfl rfl)
theorem dX0_inState_35 : decode cX0_inState 35 = .ok (.istore_n 2, 1) := dk_61 (dk_at dksX0_inState_1 11 rfl rfl)
theorem dX0_inState_36 : decode cX0_inState 36 = .ok (.iinc 3 1, 3) := dk_132 3 1 (dk_at dksX0_inState_1 12 rfl rfl)
theorem dX0_inState_39 : decode cX0_inState 39 = .ok (.goto (-35), 3) := dk_167 255 221 (dk_at dksX0_inState_1 15 rfl rfl)
theorem dX0_inState_42 : decode cX0_inState 42 = .ok (.iload_n 2, 1) := dk_28 (dk_at dksX0_inState_1 18 rfl rfl)
theorem dX0_inState_43 : decode cX0_inState 43 = .ok (.ireturn, 1) := dk_172 (dk_at dksX0_inState_1 19 rfl rfl)
theorem q81 : (Jvm.Cond.initialized "PluginChains") ∈ lw_all := lw_g (lw_at lw_m1 1 rfl) rfl
theorem q173 : (Jvm.Cond.instantiable "PluginChains" (12 : Nat)) ∈ lw_all := lw_g (lw_at lw_m1 93 rfl) rfl
theorem q175 : (Jvm.Cond.instanceMethod ({ cls := "PluginChains", name := "<init>", desc := "()V" } : Jvm.MethodName)) ∈ lw_all := lw_g (lw_at lw_m1 95 rfl) rfl
theorem q176 : (Jvm.Cond.code ({ cls := "PluginChains", name := "<init>", desc := "()V" } : Jvm.MethodName) prog_1_method_9_code (2 : Nat) (Option.none : Option Jvm.ClassFile.FieldType)) ∈ lw_all := lw_g (lw_at lw_m1 96 rfl) rfl
theorem q177 : (Jvm.Cond.methodLink "PluginChains" (129 : Nat) ({ cls := "java/lang/Object", name := "<init>", desc := "()V" } : Jvm.MethodName)) ∈ lw_all := lw_g (lw_at lw_m1 97 rfl) rfl
theorem q180 : (Jvm.Cond.classLink "PluginChains" (134 : Nat) "PluginChains$Shelf") ∈ lw_all := lw_g (lw_at lw_m1 100 rfl) rfl
theorem q182 : (Jvm.Cond.classLink "PluginChains" (144 : Nat) "PluginChains$Doing") ∈ lw_all := lw_g (lw_at lw_m1 102 rfl) rfl
theorem q184 : (Jvm.Cond.classLink "PluginChains" (153 : Nat) "PluginChains$Log") ∈ lw_all := lw_g (lw_at lw_m1 104 rfl) rfl
theorem q186 : (Jvm.Cond.methodLink "PluginChains" (155 : Nat) ({ cls := "PluginChains$Log", name := "<init>", desc := "()V" } : Jvm.MethodName)) ∈ lw_all := lw_g (lw_at lw_m1 106 rfl) rfl
theorem q192 : (Jvm.Cond.fieldLink "PluginChains" (539 : Nat) "PluginChains$Log" "many" "I") ∈ lw_all := lw_g (lw_at lw_m1 112 rfl) rfl
theorem q199 : (Jvm.Cond.classLink "PluginChains" (160 : Nat) "PluginChains$StartFailed") ∈ lw_all := lw_g (lw_at lw_m1 119 rfl) rfl
theorem q201 : (Jvm.Cond.classLink "PluginChains" (45 : Nat) "PluginChains$Host") ∈ lw_all := lw_g (lw_at lw_m1 121 rfl) rfl
theorem q203 : (Jvm.Cond.methodLink "PluginChains" (166 : Nat) ({ cls := "PluginChains$Host", name := "<init>", desc := "()V" } : Jvm.MethodName)) ∈ lw_all := lw_g (lw_at lw_m1 123 rfl) rfl
theorem q252 : (Jvm.Cond.fieldLink "PluginChains" (60 : Nat) "PluginChains$Host" "many" "I") ∈ lw_all := lw_g (lw_at lw_m1 172 rfl) rfl
theorem q256 : (Jvm.Cond.fieldLink "PluginChains" (109 : Nat) "PluginChains$Host" "hooksMany" "I") ∈ lw_all := lw_g (lw_at lw_m1 176 rfl) rfl
theorem q259 : (Jvm.Cond.fieldLink "PluginChains" (536 : Nat) "PluginChains$Host" "clock" "I") ∈ lw_all := lw_g (lw_at lw_m1 179 rfl) rfl
theorem q261 : (Jvm.Cond.fieldLink "PluginChains" (524 : Nat) "PluginChains$Host" "seed" "I") ∈ lw_all := lw_g (lw_at lw_m1 181 rfl) rfl
theorem q264 : (Jvm.Cond.fieldLink "PluginChains" (261 : Nat) "PluginChains$Host" "plugs" "[LPluginChains$Plain;") ∈ lw_all := lw_g (lw_at lw_m1 184 rfl) rfl
theorem q267 : (Jvm.Cond.fieldLink "PluginChains" (338 : Nat) "PluginChains$Host" "state" "[I") ∈ lw_all := lw_g (lw_at lw_m1 187 rfl) rfl
theorem q270 : (Jvm.Cond.fieldLink "PluginChains" (353 : Nat) "PluginChains$Host" "faults" "[I") ∈ lw_all := lw_g (lw_at lw_m1 190 rfl) rfl
theorem q273 : (Jvm.Cond.fieldLink "PluginChains" (370 : Nat) "PluginChains$Host" "tally" "[I") ∈ lw_all := lw_g (lw_at lw_m1 193 rfl) rfl
theorem q279 : (Jvm.Cond.fieldLink "PluginChains" (367 : Nat) "PluginChains$Host" "age" "[I") ∈ lw_all := lw_g (lw_at lw_m1 199 rfl) rfl
theorem q281 : (Jvm.Cond.fieldLink "PluginChains" (112 : Nat) "PluginChains$Host" "hooks" "[LPluginChains$Hook;") ∈ lw_all := lw_g (lw_at lw_m1 201 rfl) rfl
theorem q284 : (Jvm.Cond.fieldLink "PluginChains" (306 : Nat) "PluginChains$Host" "names" "Ljava/util/TreeMap;") ∈ lw_all := lw_g (lw_at lw_m1 204 rfl) rfl
theorem q309 : (Jvm.Cond.methodLink "PluginChains" (174 : Nat) ({ cls := "PluginChains$Shelf", name := "<init>", desc := "()V" } : Jvm.MethodName)) ∈ lw_all := lw_g (lw_at lw_m1 229 rfl) rfl
theorem q314 : (Jvm.Cond.fieldLink "PluginChains" (227 : Nat) "PluginChains$Shelf" "held" "Ljava/lang/Object;") ∈ lw_all := lw_g (lw_at lw_m1 234 rfl) rfl
theorem q319 : (Jvm.Cond.static ({ cls := "PluginChains", name := "lambda$new$0", desc := "(LPluginChains$Fire;LPluginChains$Hook;LPluginChains$Rest;I)I" } : Jvm.MethodName)) ∈ lw_all := lw_g (lw_at lw_m1 239 rfl) rfl
theorem q320 : (Jvm.Cond.code ({ cls := "PluginChains", name := "lambda$new$0", desc := "(LPluginChains$Fire;LPluginChains$Hook;LPluginChains$Rest;I)I" } : Jvm.MethodName) prog_1_method_74_code (4 : Nat) (Option.some Jvm.ClassFile.FieldType.int)) ∈ lw_all := lw_g (lw_at lw_m2 0 rfl) rfl
theorem q321 : (Jvm.Cond.interfaceEntry "PluginChains" (544 : Nat)) ∈ lw_tbl := lw_at lw_m2 1 rfl
theorem q322 : (Jvm.Cond.methodLink "PluginChains" (544 : Nat) ({ cls := "PluginChains$Rest", name := "of", desc := "(I)I" } : Jvm.MethodName)) ∈ lw_all := lw_g (lw_at lw_m2 2 rfl) rfl
theorem q325 : (Jvm.Cond.methodLink "PluginChains" (179 : Nat) ({ cls := "PluginChains$Doing", name := "<init>", desc := "(LPluginChains$Act;)V" } : Jvm.MethodName)) ∈ lw_all := lw_g (lw_at lw_m2 5 rfl) rfl
theorem q334 : (Jvm.Cond.static ({ cls := "PluginChains", name := "lambda$new$1", desc := "(LPluginChains$Fire;LPluginChains$Hook;LPluginChains$Rest;I)I" } : Jvm.MethodName)) ∈ lw_all := lw_g (lw_at lw_m2 14 rfl) rfl
theorem q335 : (Jvm.Cond.code ({ cls := "PluginChains", name := "lambda$new$1", desc := "(LPluginChains$Fire;LPluginChains$Hook;LPluginChains$Rest;I)I" } : Jvm.MethodName) prog_1_method_73_code (4 : Nat) (Option.some Jvm.ClassFile.FieldType.int)) ∈ lw_all := lw_g (lw_at lw_m2 15 rfl) rfl
theorem q336 : (Jvm.Cond.static ({ cls := "PluginChains", name := "lambda$new$2", desc := "(LPluginChains$Fire;LPluginChains$Hook;LPluginChains$Rest;I)I" } : Jvm.MethodName)) ∈ lw_all := lw_g (lw_at lw_m2 16 rfl) rfl
theorem q337 : (Jvm.Cond.code ({ cls := "PluginChains", name := "lambda$new$2", desc := "(LPluginChains$Fire;LPluginChains$Hook;LPluginChains$Rest;I)I" } : Jvm.MethodName) prog_1_method_72_code (4 : Nat) (Option.some Jvm.ClassFile.FieldType.int)) ∈ lw_all := lw_g (lw_at lw_m2 17 rfl) rfl
theorem q338 : (Jvm.Cond.static ({ cls := "PluginChains", name := "lambda$new$3", desc := "(LPluginChains$Fire;LPluginChains$Hook;LPluginChains$Rest;I)I" } : Jvm.MethodName)) ∈ lw_all := lw_g (lw_at lw_m2 18 rfl) rfl
theorem q339 : (Jvm.Cond.code ({ cls := "PluginChains", name := "lambda$new$3", desc := "(LPluginChains$Fire;LPluginChains$Hook;LPluginChains$Rest;I)I" } : Jvm.MethodName) prog_1_method_71_code (4 : Nat) (Option.some Jvm.ClassFile.FieldType.int)) ∈ lw_all := lw_g (lw_at lw_m2 19 rfl) rfl
theorem q340 : (Jvm.Cond.methodLink "PluginChains" (561 : Nat) ({ cls := "java/lang/Math", name := "floorMod", desc := "(II)I" } : Jvm.MethodName)) ∈ lw_all := lw_g (lw_at lw_m2 20 rfl) rfl
theorem q343 : (Jvm.Cond.static ({ cls := "PluginChains", name := "lambda$new$4", desc := "(LPluginChains$Fire;LPluginChains$Hook;LPluginChains$Rest;I)I" } : Jvm.MethodName)) ∈ lw_all := lw_g (lw_at lw_m2 23 rfl) rfl
theorem q344 : (Jvm.Cond.code ({ cls := "PluginChains", name := "lambda$new$4", desc := "(LPluginChains$Fire;LPluginChains$Hook;LPluginChains$Rest;I)I" } : Jvm.MethodName) prog_1_method_70_code (4 : Nat) (Option.some Jvm.ClassFile.FieldType.int)) ∈ lw_all := lw_g (lw_at lw_m2 24 rfl) rfl
theorem q345 : (Jvm.Cond.static ({ cls := "PluginChains", name := "lambda$new$5", desc := "(LPluginChains$Fire;LPluginChains$Hook;LPluginChains$Rest;I)I" } : Jvm.MethodName)) ∈ lw_all := lw_g (lw_at lw_m2 25 rfl) rfl
theorem q346 : (Jvm.Cond.code ({ cls := "PluginChains", name := "lambda$new$5", desc := "(LPluginChains$Fire;LPluginChains$Hook;LPluginChains$Rest;I)I" } : Jvm.MethodName) prog_1_method_69_code (5 : Nat) (Option.some Jvm.ClassFile.FieldType.int)) ∈ lw_all := lw_g (lw_at lw_m2 26 rfl) rfl
theorem q347 : (Jvm.Cond.methodLink "PluginChains" (558 : Nat) ({ cls := "PluginChains$Fire", name := "ran", desc := "()I" } : Jvm.MethodName)) ∈ lw_all := lw_g (lw_at lw_m2 27 rfl) rfl
theorem q351 : (Jvm.Cond.static ({ cls := "PluginChains", name := "lambda$new$6", desc := "(LPluginChains$Fire;LPluginChains$Hook;LPluginChains$Rest;I)I" } : Jvm.MethodName)) ∈ lw_all := lw_g (lw_at lw_m2 31 rfl) rfl
theorem q352 : (Jvm.Cond.code ({ cls := "PluginChains", name := "lambda$new$6", desc := "(LPluginChains$Fire;LPluginChains$Hook;LPluginChains$Rest;I)I" } : Jvm.MethodName) prog_1_method_68_code (4 : Nat) (Option.some Jvm.ClassFile.FieldType.int)) ∈ lw_all := lw_g (lw_at lw_m2 32 rfl) rfl
theorem q353 : (Jvm.Cond.methodLink "PluginChains" (554 : Nat) ({ cls := "PluginChains$Fire", name := "notes", desc := "(LPluginChains$Hook;I)V" } : Jvm.MethodName)) ∈ lw_all := lw_g (lw_at lw_m2 33 rfl) rfl
theorem q357 : (Jvm.Cond.static ({ cls := "PluginChains", name := "lambda$new$7", desc := "(LPluginChains$Fire;LPluginChains$Hook;LPluginChains$Rest;I)I" } : Jvm.MethodName)) ∈ lw_all := lw_g (lw_at lw_m2 37 rfl) rfl
theorem q358 : (Jvm.Cond.code ({ cls := "PluginChains", name := "lambda$new$7", desc := "(LPluginChains$Fire;LPluginChains$Hook;LPluginChains$Rest;I)I" } : Jvm.MethodName) prog_1_method_67_code (4 : Nat) (Option.some Jvm.ClassFile.FieldType.int)) ∈ lw_all := lw_g (lw_at lw_m2 38 rfl) rfl
theorem q359 : (Jvm.Cond.methodLink "PluginChains" (551 : Nat) ({ cls := "PluginChains$Fire", name := "thrownWith", desc := "(I)I" } : Jvm.MethodName)) ∈ lw_all := lw_g (lw_at lw_m2 39 rfl) rfl
theorem q367 : (Jvm.Cond.static ({ cls := "PluginChains", name := "lambda$new$8", desc := "(LPluginChains$Fire;LPluginChains$Hook;LPluginChains$Rest;I)I" } : Jvm.MethodName)) ∈ lw_all := lw_g (lw_at lw_m2 47 rfl) rfl
theorem q368 : (Jvm.Cond.codeWith ({ cls := "PluginChains", name := "lambda$new$8", desc := "(LPluginChains$Fire;LPluginChains$Hook;LPluginChains$Rest;I)I" } : Jvm.MethodName) prog_1_method_66_code (5 : Nat) (Option.some Jvm.ClassFile.FieldType.int) [((0 : Nat), (7 : Nat), (8 : Nat), (548 : Nat))]) ∈ lw_all := lw_g (lw_at lw_m2 48 rfl) rfl
theorem q369 : (Jvm.Cond.classLink "PluginChains" (548 : Nat) "PluginChains$Thrown") ∈ lw_all := lw_g (lw_at lw_m2 49 rfl) rfl
theorem q370 : (Jvm.Cond.fieldLink "PluginChains" (136 : Nat) "PluginChains" "shelves" "[LPluginChains$Shelf;") ∈ lw_all := lw_g (lw_at lw_m2 50 rfl) rfl
theorem q371 : (Jvm.Cond.fieldLink "PluginChains" (140 : Nat) "PluginChains" "refusals" "[I") ∈ lw_all := lw_g (lw_at lw_m2 51 rfl) rfl
theorem q373 : (Jvm.Cond.fieldLink "PluginChains" (146 : Nat) "PluginChains" "acts" "[LPluginChains$Doing;") ∈ lw_all := lw_g (lw_at lw_m2 53 rfl) rfl
theorem q375 : (Jvm.Cond.fieldLink "PluginChains" (150 : Nat) "PluginChains" "trace" "[I") ∈ lw_all := lw_g (lw_at lw_m2 55 rfl) rfl
theorem q376 : (Jvm.Cond.fieldLink "PluginChains" (156 : Nat) "PluginChains" "log" "LPluginChains$Log;") ∈ lw_all := lw_g (lw_at lw_m2 56 rfl) rfl
theorem q377 : (Jvm.Cond.fieldLink "PluginChains" (162 : Nat) "PluginChains" "causes" "[LPluginChains$StartFailed;") ∈ lw_all := lw_g (lw_at lw_m2 57 rfl) rfl
theorem q378 : (Jvm.Cond.fieldLink "PluginChains" (384 : Nat) "PluginChains" "causesMany" "I") ∈ lw_all := lw_g (lw_at lw_m2 58 rfl) rfl
theorem q380 : (Jvm.Cond.fieldLink "PluginChains" (503 : Nat) "PluginChains" "ranMany" "I") ∈ lw_all := lw_g (lw_at lw_m2 60 rfl) rfl
theorem q381 : (Jvm.Cond.fieldLink "PluginChains" (483 : Nat) "PluginChains" "given" "I") ∈ lw_all := lw_g (lw_at lw_m2 61 rfl) rfl
theorem q383 : (Jvm.Cond.fieldLink "PluginChains" (167 : Nat) "PluginChains" "host" "LPluginChains$Host;") ∈ lw_all := lw_g (lw_at lw_m2 63 rfl) rfl
theorem q384 : (Jvm.Cond.fieldLink "PluginChains" (527 : Nat) "PluginChains" "imaged" "LPluginChains$Host;") ∈ lw_all := lw_g (lw_at lw_m2 64 rfl) rfl
theorem q385 : (Jvm.Cond.fieldLink "PluginChains" (171 : Nat) "PluginChains" "latestFault" "I") ∈ lw_all := lw_g (lw_at lw_m2 65 rfl) rfl
theorem q386 : (Jvm.Cond.laysFinal "PluginChains" "PluginChains" "shelves" "[LPluginChains$Shelf;") ∈ lw_all := lw_g (lw_at lw_m2 66 rfl) rfl
theorem q387 : (Jvm.Cond.soleField "PluginChains" "shelves") ∈ lw_all := lw_g (lw_at lw_m2 67 rfl) rfl
theorem q388 : (Jvm.Cond.laysFinal "PluginChains" "PluginChains" "refusals" "[I") ∈ lw_all := lw_g (lw_at lw_m2 68 rfl) rfl
theorem q389 : (Jvm.Cond.soleField "PluginChains" "refusals") ∈ lw_all := lw_g (lw_at lw_m2 69 rfl) rfl
theorem q390 : (Jvm.Cond.laysFinal "PluginChains" "PluginChains" "acts" "[LPluginChains$Doing;") ∈ lw_all := lw_g (lw_at lw_m2 70 rfl) rfl
theorem q391 : (Jvm.Cond.soleField "PluginChains" "acts") ∈ lw_all := lw_g (lw_at lw_m2 71 rfl) rfl
theorem q392 : (Jvm.Cond.laysFinal "PluginChains" "PluginChains" "trace" "[I") ∈ lw_all := lw_g (lw_at lw_m2 72 rfl) rfl
theorem q393 : (Jvm.Cond.soleField "PluginChains" "trace") ∈ lw_all := lw_g (lw_at lw_m2 73 rfl) rfl
theorem q394 : (Jvm.Cond.laysFinal "PluginChains" "PluginChains" "log" "LPluginChains$Log;") ∈ lw_all := lw_g (lw_at lw_m2 74 rfl) rfl
theorem q395 : (Jvm.Cond.soleField "PluginChains" "log") ∈ lw_all := lw_g (lw_at lw_m2 75 rfl) rfl
theorem q396 : (Jvm.Cond.laysFinal "PluginChains" "PluginChains" "causes" "[LPluginChains$StartFailed;") ∈ lw_all := lw_g (lw_at lw_m2 76 rfl) rfl
theorem q397 : (Jvm.Cond.soleField "PluginChains" "causes") ∈ lw_all := lw_g (lw_at lw_m2 77 rfl) rfl
theorem q398 : (Jvm.Cond.lays "PluginChains" "PluginChains" "causesMany" "I") ∈ lw_all := lw_g (lw_at lw_m2 78 rfl) rfl
theorem q399 : (Jvm.Cond.soleField "PluginChains" "causesMany") ∈ lw_all := lw_g (lw_at lw_m2 79 rfl) rfl
theorem q400 : (Jvm.Cond.lays "PluginChains" "PluginChains" "ranMany" "I") ∈ lw_all := lw_g (lw_at lw_m2 80 rfl) rfl
theorem q401 : (Jvm.Cond.soleField "PluginChains" "ranMany") ∈ lw_all := lw_g (lw_at lw_m2 81 rfl) rfl
theorem q402 : (Jvm.Cond.lays "PluginChains" "PluginChains" "given" "I") ∈ lw_all := lw_g (lw_at lw_m2 82 rfl) rfl
theorem q403 : (Jvm.Cond.soleField "PluginChains" "given") ∈ lw_all := lw_g (lw_at lw_m2 83 rfl) rfl
theorem q404 : (Jvm.Cond.lays "PluginChains" "PluginChains" "host" "LPluginChains$Host;") ∈ lw_all := lw_g (lw_at lw_m2 84 rfl) rfl
theorem q405 : (Jvm.Cond.soleField "PluginChains" "host") ∈ lw_all := lw_g (lw_at lw_m2 85 rfl) rfl
theorem q406 : (Jvm.Cond.lays "PluginChains" "PluginChains" "imaged" "LPluginChains$Host;") ∈ lw_all := lw_g (lw_at lw_m2 86 rfl) rfl
theorem q407 : (Jvm.Cond.soleField "PluginChains" "imaged") ∈ lw_all := lw_g (lw_at lw_m2 87 rfl) rfl
theorem q408 : (Jvm.Cond.lays "PluginChains" "PluginChains" "latestFault" "I") ∈ lw_all := lw_g (lw_at lw_m2 88 rfl) rfl
theorem q409 : (Jvm.Cond.soleField "PluginChains" "latestFault") ∈ lw_all := lw_g (lw_at lw_m2 89 rfl) rfl
theorem q410 : (Jvm.Cond.superclass "PluginChains" "java/lang/Object") ∈ lw_all := lw_g (lw_at lw_m2 90 rfl) rfl
theorem q412 : (Jvm.Cond.instanceMethod ({ cls := "PluginChains", name := "row", desc := "(III)I" } : Jvm.MethodName)) ∈ lw_all := lw_g (lw_at lw_m2 92 rfl) rfl
theorem q413 : (Jvm.Cond.selects "PluginChains" ({ cls := "PluginChains", name := "row", desc := "(III)I" } : Jvm.MethodName) ({ cls := "PluginChains", name := "row", desc := "(III)I" } : Jvm.MethodName)) ∈ lw_all := lw_g (lw_at lw_m2 93 rfl) rfl
theorem q414 : (Jvm.Cond.codeWith ({ cls := "PluginChains", name := "row", desc := "(III)I" } : Jvm.MethodName) prog_1_method_14_code (5 : Nat) (Option.some Jvm.ClassFile.FieldType.int) [((0 : Nat), (63 : Nat), (64 : Nat), (21 : Nat))]) ∈ lw_all := lw_g (lw_at lw_m2 94 rfl) rfl
theorem q415 : (Jvm.Cond.classLink "PluginChains" (21 : Nat) "PluginChains$Refused") ∈ lw_all := lw_g (lw_at lw_m2 95 rfl) rfl
theorem q416 : (Jvm.Cond.methodLink "PluginChains" (209 : Nat) ({ cls := "PluginChains", name := "shelf", desc := "(I)LPluginChains$Shelf;" } : Jvm.MethodName)) ∈ lw_all := lw_g (lw_at lw_m2 96 rfl) rfl
theorem q417 : (Jvm.Cond.privateMethod ({ cls := "PluginChains", name := "shelf", desc := "(I)LPluginChains$Shelf;" } : Jvm.MethodName)) ∈ lw_tbl := lw_at lw_m2 97 rfl
theorem q418 : (Jvm.Cond.instanceMethod ({ cls := "PluginChains", name := "shelf", desc := "(I)LPluginChains$Shelf;" } : Jvm.MethodName)) ∈ lw_all := lw_g (lw_at lw_m2 98 rfl) rfl
theorem q419 : (Jvm.Cond.codeWith ({ cls := "PluginChains", name := "shelf", desc := "(I)LPluginChains$Shelf;" } : Jvm.MethodName) prog_1_method_12_code (3 : Nat) (Option.some (Jvm.ClassFile.FieldType.object "PluginChains$Shelf")) [((0 : Nat), (6 : Nat), (7 : Nat), (193 : Nat))]) ∈ lw_all := lw_g (lw_at lw_m2 99 rfl) rfl
theorem q420 : (Jvm.Cond.classLink "PluginChains" (193 : Nat) "java/lang/ArrayIndexOutOfBoundsException") ∈ lw_all := lw_g (lw_at lw_m2 100 rfl) rfl
theorem q509 : (Jvm.Cond.methodLink "PluginChains" (23 : Nat) ({ cls := "PluginChains$Refused", name := "<init>", desc := "(I)V" } : Jvm.MethodName)) ∈ lw_all := lw_g (lw_at lw_m2 189 rfl) rfl
theorem q519 : (Jvm.Cond.fieldLink "PluginChains" (190 : Nat) "PluginChains$Refused" "why" "I") ∈ lw_all := lw_g (lw_at lw_m2 199 rfl) rfl
theorem q524 : (Jvm.Cond.methodLink "PluginChains" (213 : Nat) ({ cls := "PluginChains", name := "need", desc := "(ZI)V" } : Jvm.MethodName)) ∈ lw_all := lw_g (lw_at lw_m2 204 rfl) rfl
theorem q525 : (Jvm.Cond.static ({ cls := "PluginChains", name := "need", desc := "(ZI)V" } : Jvm.MethodName)) ∈ lw_all := lw_g (lw_at lw_m2 205 rfl) rfl
theorem q526 : (Jvm.Cond.code ({ cls := "PluginChains", name := "need", desc := "(ZI)V" } : Jvm.MethodName) prog_1_method_2_code (2 : Nat) (Option.none : Option Jvm.ClassFile.FieldType)) ∈ lw_all := lw_g (lw_at lw_m2 206 rfl) rfl
theorem q527 : (Jvm.Cond.constantLong "PluginChains" (217 : Nat) (3 : Int64)) ∈ lw_all := lw_g (lw_at lw_m2 207 rfl) rfl
theorem q528 : (Jvm.Cond.methodLink "PluginChains" (219 : Nat) ({ cls := "PluginChains", name := "in", desc := "(JJJ)Z" } : Jvm.MethodName)) ∈ lw_all := lw_g (lw_at lw_m2 208 rfl) rfl
theorem q529 : (Jvm.Cond.static ({ cls := "PluginChains", name := "in", desc := "(JJJ)Z" } : Jvm.MethodName)) ∈ lw_all := lw_g (lw_at lw_m2 209 rfl) rfl
theorem q530 : (Jvm.Cond.code ({ cls := "PluginChains", name := "in", desc := "(JJJ)Z" } : Jvm.MethodName) prog_1_method_3_code (6 : Nat) (Option.some Jvm.ClassFile.FieldType.boolean)) ∈ lw_all := lw_g (lw_at lw_m2 210 rfl) rfl
theorem q531 : (Jvm.Cond.methodLink "PluginChains" (223 : Nat) ({ cls := "PluginChains", name := "newRow", desc := "(II)LPluginChains$Row;" } : Jvm.MethodName)) ∈ lw_all := lw_g (lw_at lw_m2 211 rfl) rfl
theorem q532 : (Jvm.Cond.static ({ cls := "PluginChains", name := "newRow", desc := "(II)LPluginChains$Row;" } : Jvm.MethodName)) ∈ lw_all := lw_g (lw_at lw_m2 212 rfl) rfl
theorem q533 : (Jvm.Cond.codeWith ({ cls := "PluginChains", name := "newRow", desc := "(II)LPluginChains$Row;" } : Jvm.MethodName) prog_1_method_13_code (3 : Nat) (Option.some (Jvm.ClassFile.FieldType.object "PluginChains$Row")) [((0 : Nat), (40 : Nat), (78 : Nat), (207 : Nat)), ((41 : Nat), (49 : Nat), (78 : Nat), (207 : Nat)), ((50 : Nat), (58 : Nat), (78 : Nat), (207 : Nat)), ((59 : Nat), (67 : Nat), (78 : Nat), (207 : Nat)), ((68 : Nat), (78 : Nat), (78 : Nat), (207 : Nat))]) ∈ lw_all := lw_g (lw_at lw_m2 213 rfl) rfl
theorem q534 : (Jvm.Cond.classLink "PluginChains" (207 : Nat) "java/lang/NegativeArraySizeException") ∈ lw_all := lw_g (lw_at lw_m2 214 rfl) rfl
theorem q548 : (Jvm.Cond.classLink "PluginChains" (195 : Nat) "PluginChains$Bytes") ∈ lw_all := lw_g (lw_at lw_m2 228 rfl) rfl
theorem q550 : (Jvm.Cond.methodLink "PluginChains" (197 : Nat) ({ cls := "PluginChains$Bytes", name := "<init>", desc := "(I)V" } : Jvm.MethodName)) ∈ lw_all := lw_g (lw_at lw_m2 230 rfl) rfl
theorem q561 : (Jvm.Cond.classLink "PluginChains" (198 : Nat) "PluginChains$Shorts") ∈ lw_all := lw_g (lw_at lw_m3 1 rfl) rfl
theorem q563 : (Jvm.Cond.methodLink "PluginChains" (200 : Nat) ({ cls := "PluginChains$Shorts", name := "<init>", desc := "(I)V" } : Jvm.MethodName)) ∈ lw_all := lw_g (lw_at lw_m3 3 rfl) rfl
theorem q572 : (Jvm.Cond.classLink "PluginChains" (201 : Nat) "PluginChains$Ints") ∈ lw_all := lw_g (lw_at lw_m3 12 rfl) rfl
theorem q574 : (Jvm.Cond.methodLink "PluginChains" (203 : Nat) ({ cls := "PluginChains$Ints", name := "<init>", desc := "(I)V" } : Jvm.MethodName)) ∈ lw_all := lw_g (lw_at lw_m3 14 rfl) rfl
theorem q582 : (Jvm.Cond.classLink "PluginChains" (204 : Nat) "PluginChains$Longs") ∈ lw_all := lw_g (lw_at lw_m3 22 rfl) rfl
theorem q584 : (Jvm.Cond.methodLink "PluginChains" (206 : Nat) ({ cls := "PluginChains$Longs", name := "<init>", desc := "(I)V" } : Jvm.MethodName)) ∈ lw_all := lw_g (lw_at lw_m3 24 rfl) rfl
theorem q593 : (Jvm.Cond.methodLink "PluginChains" (230 : Nat) ({ cls := "PluginChains", name := "refused", desc := "(LPluginChains$Refused;)I" } : Jvm.MethodName)) ∈ lw_all := lw_g (lw_at lw_m3 33 rfl) rfl
theorem q594 : (Jvm.Cond.privateMethod ({ cls := "PluginChains", name := "refused", desc := "(LPluginChains$Refused;)I" } : Jvm.MethodName)) ∈ lw_tbl := lw_at lw_m3 34 rfl
theorem q595 : (Jvm.Cond.instanceMethod ({ cls := "PluginChains", name := "refused", desc := "(LPluginChains$Refused;)I" } : Jvm.MethodName)) ∈ lw_all := lw_g (lw_at lw_m3 35 rfl) rfl
theorem q596 : (Jvm.Cond.code ({ cls := "PluginChains", name := "refused", desc := "(LPluginChains$Refused;)I" } : Jvm.MethodName) prog_1_method_10_code (2 : Nat) (Option.some Jvm.ClassFile.FieldType.int)) ∈ lw_all := lw_g (lw_at lw_m3 36 rfl) rfl
theorem q598 : (Jvm.Cond.instanceMethod ({ cls := "PluginChains", name := "set", desc := "(IIJ)I" } : Jvm.MethodName)) ∈ lw_all := lw_g (lw_at lw_m3 38 rfl) rfl
theorem q599 : (Jvm.Cond.selects "PluginChains" ({ cls := "PluginChains", name := "set", desc := "(IIJ)I" } : Jvm.MethodName) ({ cls := "PluginChains", name := "set", desc := "(IIJ)I" } : Jvm.MethodName)) ∈ lw_all := lw_g (lw_at lw_m3 39 rfl) rfl
theorem q600 : (Jvm.Cond.codeWith ({ cls := "PluginChains", name := "set", desc := "(IIJ)I" } : Jvm.MethodName) prog_1_method_15_code (7 : Nat) (Option.some Jvm.ClassFile.FieldType.int) [((10 : Nat), (17 : Nat), (20 : Nat), (193 : Nat)), ((0 : Nat), (33 : Nat), (34 : Nat), (21 : Nat))]) ∈ lw_all := lw_g (lw_at lw_m3 40 rfl) rfl
theorem q601 : (Jvm.Cond.methodLink "PluginChains" (234 : Nat) ({ cls := "PluginChains$Shelf", name := "row", desc := "()LPluginChains$Row;" } : Jvm.MethodName)) ∈ lw_all := lw_g (lw_at lw_m3 41 rfl) rfl
theorem q623 : (Jvm.Cond.methodLink "PluginChains" (237 : Nat) ({ cls := "PluginChains$Row", name := "put", desc := "(IJ)V" } : Jvm.MethodName)) ∈ lw_all := lw_g (lw_at lw_m3 63 rfl) rfl
theorem q639 : (Jvm.Cond.instanceMethod ({ cls := "PluginChains", name := "copy", desc := "(IIIII)I" } : Jvm.MethodName)) ∈ lw_all := lw_g (lw_at lw_m3 79 rfl) rfl
theorem q640 : (Jvm.Cond.selects "PluginChains" ({ cls := "PluginChains", name := "copy", desc := "(IIIII)I" } : Jvm.MethodName) ({ cls := "PluginChains", name := "copy", desc := "(IIIII)I" } : Jvm.MethodName)) ∈ lw_all := lw_g (lw_at lw_m3 80 rfl) rfl
theorem q641 : (Jvm.Cond.codeWith ({ cls := "PluginChains", name := "copy", desc := "(IIIII)I" } : Jvm.MethodName) prog_1_method_16_code (11 : Nat) (Option.some Jvm.ClassFile.FieldType.int) [((114 : Nat), (132 : Nat), (135 : Nat), (247 : Nat)), ((0 : Nat), (148 : Nat), (149 : Nat), (21 : Nat))]) ∈ lw_all := lw_g (lw_at lw_m3 81 rfl) rfl
theorem q642 : (Jvm.Cond.classLink "PluginChains" (247 : Nat) "java/lang/IndexOutOfBoundsException") ∈ lw_all := lw_g (lw_at lw_m3 82 rfl) rfl
theorem q643 : (Jvm.Cond.methodLink "PluginChains" (241 : Nat) ({ cls := "PluginChains$Shelf", name := "holdsPlug", desc := "()Z" } : Jvm.MethodName)) ∈ lw_all := lw_g (lw_at lw_m3 83 rfl) rfl
theorem q648 : (Jvm.Cond.methodLink "PluginChains" (244 : Nat) ({ cls := "PluginChains$Row", name := "sort", desc := "()I" } : Jvm.MethodName)) ∈ lw_all := lw_g (lw_at lw_m3 88 rfl) rfl
theorem q663 : (Jvm.Cond.methodLink "PluginChains" (7 : Nat) ({ cls := "PluginChains$Row", name := "held", desc := "()Ljava/lang/Object;" } : Jvm.MethodName)) ∈ lw_all := lw_g (lw_at lw_m3 103 rfl) rfl
theorem q678 : (Jvm.Cond.methodLink "PluginChains" (15 : Nat) ({ cls := "java/lang/System", name := "arraycopy", desc := "(Ljava/lang/Object;ILjava/lang/Object;II)V" } : Jvm.MethodName)) ∈ lw_all := lw_g (lw_at lw_m3 118 rfl) rfl
theorem q682 : (Jvm.Cond.instanceMethod ({ cls := "PluginChains", name := "element", desc := "(II)J" } : Jvm.MethodName)) ∈ lw_all := lw_g (lw_at lw_m3 122 rfl) rfl
theorem q683 : (Jvm.Cond.selects "PluginChains" ({ cls := "PluginChains", name := "element", desc := "(II)J" } : Jvm.MethodName) ({ cls := "PluginChains", name := "element", desc := "(II)J" } : Jvm.MethodName)) ∈ lw_all := lw_g (lw_at lw_m3 123 rfl) rfl
theorem q684 : (Jvm.Cond.codeWith ({ cls := "PluginChains", name := "element", desc := "(II)J" } : Jvm.MethodName) prog_1_method_17_code (4 : Nat) (Option.some Jvm.ClassFile.FieldType.long) [((0 : Nat), (12 : Nat), (13 : Nat), (21 : Nat)), ((0 : Nat), (12 : Nat), (16 : Nat), (193 : Nat))]) ∈ lw_all := lw_g (lw_at lw_m3 124 rfl) rfl
theorem q685 : (Jvm.Cond.methodLink "PluginChains" (249 : Nat) ({ cls := "PluginChains$Row", name := "get", desc := "(I)J" } : Jvm.MethodName)) ∈ lw_all := lw_g (lw_at lw_m3 125 rfl) rfl
theorem q701 : (Jvm.Cond.instanceMethod ({ cls := "PluginChains", name := "show", desc := "(II)I" } : Jvm.MethodName)) ∈ lw_all := lw_g (lw_at lw_m3 141 rfl) rfl
theorem q702 : (Jvm.Cond.selects "PluginChains" ({ cls := "PluginChains", name := "show", desc := "(II)I" } : Jvm.MethodName) ({ cls := "PluginChains", name := "show", desc := "(II)I" } : Jvm.MethodName)) ∈ lw_all := lw_g (lw_at lw_m3 142 rfl) rfl
theorem q703 : (Jvm.Cond.codeWith ({ cls := "PluginChains", name := "show", desc := "(II)I" } : Jvm.MethodName) prog_1_method_22_code (4 : Nat) (Option.some Jvm.ClassFile.FieldType.int) [((0 : Nat), (17 : Nat), (38 : Nat), (21 : Nat)), ((18 : Nat), (37 : Nat), (38 : Nat), (21 : Nat))]) ∈ lw_all := lw_g (lw_at lw_m3 143 rfl) rfl
theorem q704 : (Jvm.Cond.methodLink "PluginChains" (265 : Nat) ({ cls := "PluginChains", name := "mustPlug", desc := "(I)V" } : Jvm.MethodName)) ∈ lw_all := lw_g (lw_at lw_m3 144 rfl) rfl
theorem q705 : (Jvm.Cond.privateMethod ({ cls := "PluginChains", name := "mustPlug", desc := "(I)V" } : Jvm.MethodName)) ∈ lw_tbl := lw_at lw_m3 145 rfl
theorem q706 : (Jvm.Cond.instanceMethod ({ cls := "PluginChains", name := "mustPlug", desc := "(I)V" } : Jvm.MethodName)) ∈ lw_all := lw_g (lw_at lw_m3 146 rfl) rfl
theorem q707 : (Jvm.Cond.code ({ cls := "PluginChains", name := "mustPlug", desc := "(I)V" } : Jvm.MethodName) prog_1_method_18_code (2 : Nat) (Option.none : Option Jvm.ClassFile.FieldType)) ∈ lw_all := lw_g (lw_at lw_m3 147 rfl) rfl
theorem q708 : (Jvm.Cond.methodLink "PluginChains" (253 : Nat) ({ cls := "PluginChains$Host", name := "isPlug", desc := "(I)Z" } : Jvm.MethodName)) ∈ lw_all := lw_g (lw_at lw_m3 148 rfl) rfl
theorem q713 : (Jvm.Cond.instanceMethod ({ cls := "PluginChains", name := "holds", desc := "(I)I" } : Jvm.MethodName)) ∈ lw_all := lw_g (lw_at lw_m3 153 rfl) rfl
theorem q714 : (Jvm.Cond.selects "PluginChains" ({ cls := "PluginChains", name := "holds", desc := "(I)I" } : Jvm.MethodName) ({ cls := "PluginChains", name := "holds", desc := "(I)I" } : Jvm.MethodName)) ∈ lw_all := lw_g (lw_at lw_m3 154 rfl) rfl
theorem q715 : (Jvm.Cond.code ({ cls := "PluginChains", name := "holds", desc := "(I)I" } : Jvm.MethodName) prog_1_method_23_code (3 : Nat) (Option.some Jvm.ClassFile.FieldType.int)) ∈ lw_all := lw_g (lw_at lw_m3 155 rfl) rfl
theorem q716 : (Jvm.Cond.classLink "PluginChains" (41 : Nat) "PluginChains$Plain") ∈ lw_all := lw_g (lw_at lw_m3 156 rfl) rfl
theorem q717 : (Jvm.Cond.classLink "PluginChains" (2 : Nat) "PluginChains$Row") ∈ lw_all := lw_g (lw_at lw_m3 157 rfl) rfl
theorem q719 : (Jvm.Cond.instanceMethod ({ cls := "PluginChains", name := "says", desc := "(II)I" } : Jvm.MethodName)) ∈ lw_all := lw_g (lw_at lw_m3 159 rfl) rfl
theorem q720 : (Jvm.Cond.selects "PluginChains" ({ cls := "PluginChains", name := "says", desc := "(II)I" } : Jvm.MethodName) ({ cls := "PluginChains", name := "says", desc := "(II)I" } : Jvm.MethodName)) ∈ lw_all := lw_g (lw_at lw_m3 160 rfl) rfl
theorem q721 : (Jvm.Cond.codeWith ({ cls := "PluginChains", name := "says", desc := "(II)I" } : Jvm.MethodName) prog_1_method_24_code (4 : Nat) (Option.some Jvm.ClassFile.FieldType.int) [((0 : Nat), (24 : Nat), (25 : Nat), (21 : Nat))]) ∈ lw_all := lw_g (lw_at lw_m3 161 rfl) rfl
theorem q722 : (Jvm.Cond.constantLong "PluginChains" (268 : Nat) (4 : Int64)) ∈ lw_all := lw_g (lw_at lw_m3 162 rfl) rfl
theorem q723 : (Jvm.Cond.methodLink "PluginChains" (270 : Nat) ({ cls := "PluginChains$Shelf", name := "says", desc := "(I)I" } : Jvm.MethodName)) ∈ lw_all := lw_g (lw_at lw_m3 163 rfl) rfl
theorem q766 : (Jvm.Cond.instanceMethod ({ cls := "PluginChains", name := "plug", desc := "(IIIIII)I" } : Jvm.MethodName)) ∈ lw_all := lw_g (lw_at lw_m3 206 rfl) rfl
theorem q767 : (Jvm.Cond.selects "PluginChains" ({ cls := "PluginChains", name := "plug", desc := "(IIIIII)I" } : Jvm.MethodName) ({ cls := "PluginChains", name := "plug", desc := "(IIIIII)I" } : Jvm.MethodName)) ∈ lw_all := lw_g (lw_at lw_m3 207 rfl) rfl
theorem q768 : (Jvm.Cond.codeWith ({ cls := "PluginChains", name := "plug", desc := "(IIIIII)I" } : Jvm.MethodName) prog_1_method_28_code (8 : Nat) (Option.some Jvm.ClassFile.FieldType.int) [((0 : Nat), (141 : Nat), (142 : Nat), (21 : Nat))]) ∈ lw_all := lw_g (lw_at lw_m3 208 rfl) rfl
theorem q769 : (Jvm.Cond.constantLong "PluginChains" (297 : Nat) (9 : Int64)) ∈ lw_all := lw_g (lw_at lw_m3 209 rfl) rfl
theorem q770 : (Jvm.Cond.methodLink "PluginChains" (299 : Nat) ({ cls := "PluginChains", name := "isSet", desc := "(I)Z" } : Jvm.MethodName)) ∈ lw_all := lw_g (lw_at lw_m3 210 rfl) rfl
theorem q771 : (Jvm.Cond.static ({ cls := "PluginChains", name := "isSet", desc := "(I)Z" } : Jvm.MethodName)) ∈ lw_all := lw_g (lw_at lw_m3 211 rfl) rfl
theorem q772 : (Jvm.Cond.code ({ cls := "PluginChains", name := "isSet", desc := "(I)Z" } : Jvm.MethodName) prog_1_method_27_code (1 : Nat) (Option.some Jvm.ClassFile.FieldType.boolean)) ∈ lw_all := lw_g (lw_at lw_m3 212 rfl) rfl
theorem q773 : (Jvm.Cond.constantLong "PluginChains" (295 : Nat) (255 : Int64)) ∈ lw_all := lw_g (lw_at lw_m3 213 rfl) rfl
theorem q774 : (Jvm.Cond.methodLink "PluginChains" (302 : Nat) ({ cls := "PluginChains", name := "nameOf", desc := "(I)Ljava/lang/String;" } : Jvm.MethodName)) ∈ lw_all := lw_g (lw_at lw_m3 214 rfl) rfl
theorem q775 : (Jvm.Cond.static ({ cls := "PluginChains", name := "nameOf", desc := "(I)Ljava/lang/String;" } : Jvm.MethodName)) ∈ lw_all := lw_g (lw_at lw_m3 215 rfl) rfl
theorem q776 : (Jvm.Cond.code ({ cls := "PluginChains", name := "nameOf", desc := "(I)Ljava/lang/String;" } : Jvm.MethodName) prog_1_method_25_code (3 : Nat) (Option.some (Jvm.ClassFile.FieldType.object "java/lang/String"))) ∈ lw_all := lw_g (lw_at lw_m3 216 rfl) rfl
theorem q777 : (Jvm.Cond.classLink "PluginChains" (274 : Nat) "java/lang/StringBuilder") ∈ lw_all := lw_g (lw_at lw_m3 217 rfl) rfl
theorem q779 : (Jvm.Cond.methodLink "PluginChains" (276 : Nat) ({ cls := "java/lang/StringBuilder", name := "<init>", desc := "()V" } : Jvm.MethodName)) ∈ lw_all := lw_g (lw_at lw_m3 219 rfl) rfl
theorem q819 : (Jvm.Cond.methodLink "PluginChains" (277 : Nat) ({ cls := "java/lang/StringBuilder", name := "length", desc := "()I" } : Jvm.MethodName)) ∈ lw_all := lw_g (lw_at lw_m4 19 rfl) rfl
theorem q826 : (Jvm.Cond.stringRef "PluginChains" (278 : Nat) "") ∈ lw_tbl := lw_at lw_m4 26 rfl
theorem q827 : (Jvm.Cond.methodLink "PluginChains" (280 : Nat) ({ cls := "java/lang/StringBuilder", name := "insert", desc := "(IC)Ljava/lang/StringBuilder;" } : Jvm.MethodName)) ∈ lw_all := lw_g (lw_at lw_m4 27 rfl) rfl
theorem q929 : (Jvm.Cond.methodLink "PluginChains" (284 : Nat) ({ cls := "java/lang/StringBuilder", name := "toString", desc := "()Ljava/lang/String;" } : Jvm.MethodName)) ∈ lw_all := lw_g (lw_at lw_m4 129 rfl) rfl
theorem q978 : (Jvm.Cond.methodLink "PluginChains" (288 : Nat) ({ cls := "java/lang/String", name := "length", desc := "()I" } : Jvm.MethodName)) ∈ lw_all := lw_g (lw_at lw_m4 178 rfl) rfl
theorem q986 : (Jvm.Cond.methodLink "PluginChains" (310 : Nat) ({ cls := "java/util/TreeMap", name := "containsKey", desc := "(Ljava/lang/Object;)Z" } : Jvm.MethodName)) ∈ lw_all := lw_g (lw_at lw_m4 186 rfl) rfl
theorem q1300 : (Jvm.Cond.selects "PluginChains" ({ cls := "java/lang/Object", name := "getClass", desc := "()Ljava/lang/Class;" } : Jvm.MethodName) ({ cls := "java/lang/Object", name := "getClass", desc := "()Ljava/lang/Class;" } : Jvm.MethodName)) ∈ lw_all := lw_g (lw_at lw_m6 20 rfl) rfl
theorem q1401 : (Jvm.Cond.methodLink "PluginChains" (315 : Nat) ({ cls := "PluginChains$Host", name := "add", desc := "(ILjava/lang/String;IIII)I" } : Jvm.MethodName)) ∈ lw_all := lw_g (lw_at lw_m6 121 rfl) rfl
theorem q1406 : (Jvm.Cond.static ({ cls := "PluginChains", name := "ofKind", desc := "(IILjava/lang/String;III)LPluginChains$Plain;" } : Jvm.MethodName)) ∈ lw_all := lw_g (lw_at lw_m6 126 rfl) rfl
theorem q1407 : (Jvm.Cond.code ({ cls := "PluginChains", name := "ofKind", desc := "(IILjava/lang/String;III)LPluginChains$Plain;" } : Jvm.MethodName) prog_1_method_5_code (6 : Nat) (Option.some (Jvm.ClassFile.FieldType.object "PluginChains$Plain"))) ∈ lw_all := lw_g (lw_at lw_m6 127 rfl) rfl
theorem q1408 : (Jvm.Cond.classLink "PluginChains" (27 : Nat) "PluginChains$Eager") ∈ lw_all := lw_g (lw_at lw_m6 128 rfl) rfl
theorem q1410 : (Jvm.Cond.methodLink "PluginChains" (29 : Nat) ({ cls := "PluginChains$Eager", name := "<init>", desc := "(ILjava/lang/String;III)V" } : Jvm.MethodName)) ∈ lw_all := lw_g (lw_at lw_m6 130 rfl) rfl
theorem q1419 : (Jvm.Cond.fieldLink "PluginChains" (258 : Nat) "PluginChains$Plain" "index" "I") ∈ lw_all := lw_g (lw_at lw_m6 139 rfl) rfl
theorem q1422 : (Jvm.Cond.fieldLink "PluginChains" (359 : Nat) "PluginChains$Plain" "name" "Ljava/lang/String;") ∈ lw_all := lw_g (lw_at lw_m6 142 rfl) rfl
theorem q1425 : (Jvm.Cond.fieldLink "PluginChains" (344 : Nat) "PluginChains$Plain" "rank" "I") ∈ lw_all := lw_g (lw_at lw_m6 145 rfl) rfl
theorem q1429 : (Jvm.Cond.fieldLink "PluginChains" (347 : Nat) "PluginChains$Plain" "needs" "I") ∈ lw_all := lw_g (lw_at lw_m6 149 rfl) rfl
theorem q1434 : (Jvm.Cond.fieldLink "PluginChains" (350 : Nat) "PluginChains$Plain" "offers" "I") ∈ lw_all := lw_g (lw_at lw_m6 154 rfl) rfl
theorem q1445 : (Jvm.Cond.classLink "PluginChains" (32 : Nat) "PluginChains$Steady") ∈ lw_all := lw_g (lw_at lw_m6 165 rfl) rfl
theorem q1447 : (Jvm.Cond.methodLink "PluginChains" (34 : Nat) ({ cls := "PluginChains$Steady", name := "<init>", desc := "(ILjava/lang/String;III)V" } : Jvm.MethodName)) ∈ lw_all := lw_g (lw_at lw_m6 167 rfl) rfl
theorem q1456 : (Jvm.Cond.classLink "PluginChains" (35 : Nat) "PluginChains$Keen") ∈ lw_all := lw_g (lw_at lw_m6 176 rfl) rfl
theorem q1458 : (Jvm.Cond.methodLink "PluginChains" (37 : Nat) ({ cls := "PluginChains$Keen", name := "<init>", desc := "(ILjava/lang/String;III)V" } : Jvm.MethodName)) ∈ lw_all := lw_g (lw_at lw_m6 178 rfl) rfl
theorem q1467 : (Jvm.Cond.classLink "PluginChains" (38 : Nat) "PluginChains$Sound") ∈ lw_all := lw_g (lw_at lw_m6 187 rfl) rfl
theorem q1469 : (Jvm.Cond.methodLink "PluginChains" (40 : Nat) ({ cls := "PluginChains$Sound", name := "<init>", desc := "(ILjava/lang/String;III)V" } : Jvm.MethodName)) ∈ lw_all := lw_g (lw_at lw_m6 189 rfl) rfl
theorem q1479 : (Jvm.Cond.methodLink "PluginChains" (43 : Nat) ({ cls := "PluginChains$Plain", name := "<init>", desc := "(ILjava/lang/String;III)V" } : Jvm.MethodName)) ∈ lw_all := lw_g (lw_at lw_m6 199 rfl) rfl
theorem q1592 : (Jvm.Cond.instanceMethod ({ cls := "PluginChains", name := "read", desc := "(I)I" } : Jvm.MethodName)) ∈ lw_all := lw_g (lw_at lw_m7 72 rfl) rfl
theorem q1593 : (Jvm.Cond.selects "PluginChains" ({ cls := "PluginChains", name := "read", desc := "(I)I" } : Jvm.MethodName) ({ cls := "PluginChains", name := "read", desc := "(I)I" } : Jvm.MethodName)) ∈ lw_all := lw_g (lw_at lw_m7 73 rfl) rfl
theorem q1594 : (Jvm.Cond.codeWith ({ cls := "PluginChains", name := "read", desc := "(I)I" } : Jvm.MethodName) prog_1_method_29_code (5 : Nat) (Option.some Jvm.ClassFile.FieldType.int) [((29 : Nat), (50 : Nat), (51 : Nat), (330 : Nat)), ((0 : Nat), (50 : Nat), (72 : Nat), (21 : Nat)), ((51 : Nat), (72 : Nat), (72 : Nat), (21 : Nat))]) ∈ lw_all := lw_g (lw_at lw_m7 74 rfl) rfl
theorem q1595 : (Jvm.Cond.classLink "PluginChains" (330 : Nat) "PluginChains$Faulty") ∈ lw_all := lw_g (lw_at lw_m7 75 rfl) rfl
theorem q1596 : (Jvm.Cond.methodLink "PluginChains" (318 : Nat) ({ cls := "PluginChains$Host", name := "take", desc := "(LPluginChains$Host;)LPluginChains$Host;" } : Jvm.MethodName)) ∈ lw_all := lw_g (lw_at lw_m7 76 rfl) rfl
theorem q1605 : (Jvm.Cond.classLink "PluginChains" (322 : Nat) "PluginChains$Reader") ∈ lw_all := lw_g (lw_at lw_m7 85 rfl) rfl
theorem q1607 : (Jvm.Cond.methodLink "PluginChains" (324 : Nat) ({ cls := "PluginChains$Reader", name := "<init>", desc := "(LPluginChains$Row;LPluginChains$Host;)V" } : Jvm.MethodName)) ∈ lw_all := lw_g (lw_at lw_m7 87 rfl) rfl
theorem q1621 : (Jvm.Cond.methodLink "PluginChains" (327 : Nat) ({ cls := "PluginChains$Reader", name := "items", desc := "()I" } : Jvm.MethodName)) ∈ lw_all := lw_g (lw_at lw_m7 101 rfl) rfl
theorem q1704 : (Jvm.Cond.fieldLink "PluginChains" (332 : Nat) "PluginChains$Faulty" "place" "I") ∈ lw_all := lw_g (lw_at lw_m7 184 rfl) rfl
theorem q1727 : (Jvm.Cond.instanceMethod ({ cls := "PluginChains", name := "fault", desc := "()I" } : Jvm.MethodName)) ∈ lw_all := lw_g (lw_at lw_m7 207 rfl) rfl
theorem q1728 : (Jvm.Cond.selects "PluginChains" ({ cls := "PluginChains", name := "fault", desc := "()I" } : Jvm.MethodName) ({ cls := "PluginChains", name := "fault", desc := "()I" } : Jvm.MethodName)) ∈ lw_all := lw_g (lw_at lw_m7 208 rfl) rfl
theorem q1729 : (Jvm.Cond.code ({ cls := "PluginChains", name := "fault", desc := "()I" } : Jvm.MethodName) prog_1_method_30_code (1 : Nat) (Option.some Jvm.ClassFile.FieldType.int)) ∈ lw_all := lw_g (lw_at lw_m7 209 rfl) rfl
theorem q1731 : (Jvm.Cond.instanceMethod ({ cls := "PluginChains", name := "plugOf", desc := "(II)I" } : Jvm.MethodName)) ∈ lw_all := lw_g (lw_at lw_m7 211 rfl) rfl
theorem q1732 : (Jvm.Cond.selects "PluginChains" ({ cls := "PluginChains", name := "plugOf", desc := "(II)I" } : Jvm.MethodName) ({ cls := "PluginChains", name := "plugOf", desc := "(II)I" } : Jvm.MethodName)) ∈ lw_all := lw_g (lw_at lw_m7 212 rfl) rfl
theorem q1733 : (Jvm.Cond.code ({ cls := "PluginChains", name := "plugOf", desc := "(II)I" } : Jvm.MethodName) prog_1_method_31_code (4 : Nat) (Option.some Jvm.ClassFile.FieldType.int)) ∈ lw_all := lw_g (lw_at lw_m7 213 rfl) rfl
theorem q1734 : (Jvm.Cond.methodLink "PluginChains" (335 : Nat) ({ cls := "PluginChains", name := "beyond", desc := "()I" } : Jvm.MethodName)) ∈ lw_all := lw_g (lw_at lw_m7 214 rfl) rfl
theorem q1735 : (Jvm.Cond.privateMethod ({ cls := "PluginChains", name := "beyond", desc := "()I" } : Jvm.MethodName)) ∈ lw_tbl := lw_at lw_m7 215 rfl
theorem q1736 : (Jvm.Cond.instanceMethod ({ cls := "PluginChains", name := "beyond", desc := "()I" } : Jvm.MethodName)) ∈ lw_all := lw_g (lw_at lw_m7 216 rfl) rfl
theorem q1737 : (Jvm.Cond.code ({ cls := "PluginChains", name := "beyond", desc := "()I" } : Jvm.MethodName) prog_1_method_11_code (1 : Nat) (Option.some Jvm.ClassFile.FieldType.int)) ∈ lw_all := lw_g (lw_at lw_m7 217 rfl) rfl
theorem q1738 : (Jvm.Cond.methodLink "PluginChains" (341 : Nat) ({ cls := "PluginChains$Plain", name := "kind", desc := "()I" } : Jvm.MethodName)) ∈ lw_all := lw_g (lw_at lw_m7 218 rfl) rfl
theorem q1755 : (Jvm.Cond.methodLink "PluginChains" (356 : Nat) ({ cls := "PluginChains$Plain", name := "strength", desc := "()I" } : Jvm.MethodName)) ∈ lw_all := lw_g (lw_at lw_m7 235 rfl) rfl
theorem q1756 : (Jvm.Cond.methodLink "PluginChains" (363 : Nat) ({ cls := "PluginChains", name := "numberOf", desc := "(Ljava/lang/String;)I" } : Jvm.MethodName)) ∈ lw_all := lw_g (lw_at lw_m7 236 rfl) rfl
theorem q1757 : (Jvm.Cond.static ({ cls := "PluginChains", name := "numberOf", desc := "(Ljava/lang/String;)I" } : Jvm.MethodName)) ∈ lw_all := lw_g (lw_at lw_m7 237 rfl) rfl
theorem q1758 : (Jvm.Cond.code ({ cls := "PluginChains", name := "numberOf", desc := "(Ljava/lang/String;)I" } : Jvm.MethodName) prog_1_method_26_code (3 : Nat) (Option.some Jvm.ClassFile.FieldType.int)) ∈ lw_all := lw_g (lw_at lw_m7 238 rfl) rfl
theorem q1759 : (Jvm.Cond.methodLink "PluginChains" (291 : Nat) ({ cls := "java/lang/String", name := "charAt", desc := "(I)C" } : Jvm.MethodName)) ∈ lw_all := lw_g (lw_at lw_m7 239 rfl) rfl
theorem q1761 : (Jvm.Cond.instanceMethod ({ cls := "PluginChains", name := "age", desc := "(I)I" } : Jvm.MethodName)) ∈ lw_all := lw_g (lw_at lw_m8 1 rfl) rfl
theorem q1762 : (Jvm.Cond.selects "PluginChains" ({ cls := "PluginChains", name := "age", desc := "(I)I" } : Jvm.MethodName) ({ cls := "PluginChains", name := "age", desc := "(I)I" } : Jvm.MethodName)) ∈ lw_all := lw_g (lw_at lw_m8 2 rfl) rfl
theorem q1763 : (Jvm.Cond.codeWith ({ cls := "PluginChains", name := "age", desc := "(I)I" } : Jvm.MethodName) prog_1_method_32_code (3 : Nat) (Option.some Jvm.ClassFile.FieldType.int) [((0 : Nat), (29 : Nat), (30 : Nat), (21 : Nat))]) ∈ lw_all := lw_g (lw_at lw_m8 3 rfl) rfl
theorem q1764 : (Jvm.Cond.methodLink "PluginChains" (124 : Nat) ({ cls := "PluginChains$Host", name := "runs", desc := "(I)Z" } : Jvm.MethodName)) ∈ lw_all := lw_g (lw_at lw_m8 4 rfl) rfl
theorem q1769 : (Jvm.Cond.instanceMethod ({ cls := "PluginChains", name := "tally", desc := "(I)I" } : Jvm.MethodName)) ∈ lw_all := lw_g (lw_at lw_m8 9 rfl) rfl
theorem q1770 : (Jvm.Cond.selects "PluginChains" ({ cls := "PluginChains", name := "tally", desc := "(I)I" } : Jvm.MethodName) ({ cls := "PluginChains", name := "tally", desc := "(I)I" } : Jvm.MethodName)) ∈ lw_all := lw_g (lw_at lw_m8 10 rfl) rfl
theorem q1771 : (Jvm.Cond.code ({ cls := "PluginChains", name := "tally", desc := "(I)I" } : Jvm.MethodName) prog_1_method_33_code (2 : Nat) (Option.some Jvm.ClassFile.FieldType.int)) ∈ lw_all := lw_g (lw_at lw_m8 11 rfl) rfl
theorem q1773 : (Jvm.Cond.instanceMethod ({ cls := "PluginChains", name := "provider", desc := "(II)I" } : Jvm.MethodName)) ∈ lw_all := lw_g (lw_at lw_m8 13 rfl) rfl
theorem q1774 : (Jvm.Cond.selects "PluginChains" ({ cls := "PluginChains", name := "provider", desc := "(II)I" } : Jvm.MethodName) ({ cls := "PluginChains", name := "provider", desc := "(II)I" } : Jvm.MethodName)) ∈ lw_all := lw_g (lw_at lw_m8 14 rfl) rfl
theorem q1775 : (Jvm.Cond.codeWith ({ cls := "PluginChains", name := "provider", desc := "(II)I" } : Jvm.MethodName) prog_1_method_34_code (4 : Nat) (Option.some Jvm.ClassFile.FieldType.int) [((0 : Nat), (52 : Nat), (53 : Nat), (21 : Nat))]) ∈ lw_all := lw_g (lw_at lw_m8 15 rfl) rfl
theorem q1776 : (Jvm.Cond.methodLink "PluginChains" (373 : Nat) ({ cls := "PluginChains", name := "mustService", desc := "(I)V" } : Jvm.MethodName)) ∈ lw_all := lw_g (lw_at lw_m8 16 rfl) rfl
theorem q1777 : (Jvm.Cond.static ({ cls := "PluginChains", name := "mustService", desc := "(I)V" } : Jvm.MethodName)) ∈ lw_all := lw_g (lw_at lw_m8 17 rfl) rfl
theorem q1778 : (Jvm.Cond.code ({ cls := "PluginChains", name := "mustService", desc := "(I)V" } : Jvm.MethodName) prog_1_method_20_code (1 : Nat) (Option.none : Option Jvm.ClassFile.FieldType)) ∈ lw_all := lw_g (lw_at lw_m8 18 rfl) rfl
theorem q1779 : (Jvm.Cond.constantLong "PluginChains" (256 : Nat) (7 : Int64)) ∈ lw_all := lw_g (lw_at lw_m8 19 rfl) rfl
theorem q1780 : (Jvm.Cond.methodLink "PluginChains" (376 : Nat) ({ cls := "PluginChains", name := "has", desc := "(II)Z" } : Jvm.MethodName)) ∈ lw_all := lw_g (lw_at lw_m8 20 rfl) rfl
theorem q1781 : (Jvm.Cond.static ({ cls := "PluginChains", name := "has", desc := "(II)Z" } : Jvm.MethodName)) ∈ lw_all := lw_g (lw_at lw_m8 21 rfl) rfl
theorem q1782 : (Jvm.Cond.code ({ cls := "PluginChains", name := "has", desc := "(II)Z" } : Jvm.MethodName) prog_1_method_4_code (2 : Nat) (Option.some Jvm.ClassFile.FieldType.boolean)) ∈ lw_all := lw_g (lw_at lw_m8 22 rfl) rfl
theorem q1783 : (Jvm.Cond.methodLink "PluginChains" (380 : Nat) ({ cls := "PluginChains$Host", name := "provider", desc := "(II)I" } : Jvm.MethodName)) ∈ lw_all := lw_g (lw_at lw_m8 23 rfl) rfl
theorem q1861 : (Jvm.Cond.instanceMethod ({ cls := "PluginChains", name := "start", desc := "(I)I" } : Jvm.MethodName)) ∈ lw_all := lw_g (lw_at lw_m8 101 rfl) rfl
theorem q1862 : (Jvm.Cond.selects "PluginChains" ({ cls := "PluginChains", name := "start", desc := "(I)I" } : Jvm.MethodName) ({ cls := "PluginChains", name := "start", desc := "(I)I" } : Jvm.MethodName)) ∈ lw_all := lw_g (lw_at lw_m8 102 rfl) rfl
theorem q1863 : (Jvm.Cond.codeWith ({ cls := "PluginChains", name := "start", desc := "(I)I" } : Jvm.MethodName) prog_1_method_36_code (4 : Nat) (Option.some Jvm.ClassFile.FieldType.int) [((42 : Nat), (51 : Nat), (52 : Nat), (160 : Nat)), ((0 : Nat), (51 : Nat), (68 : Nat), (21 : Nat)), ((52 : Nat), (68 : Nat), (68 : Nat), (21 : Nat))]) ∈ lw_all := lw_g (lw_at lw_m8 103 rfl) rfl
theorem q1864 : (Jvm.Cond.classLink "PluginChains" (391 : Nat) "PluginChains$Starter") ∈ lw_all := lw_g (lw_at lw_m8 104 rfl) rfl
theorem q1866 : (Jvm.Cond.methodLink "PluginChains" (393 : Nat) ({ cls := "PluginChains$Starter", name := "<init>", desc := "(LPluginChains$Host;LPluginChains$Log;)V" } : Jvm.MethodName)) ∈ lw_all := lw_g (lw_at lw_m8 106 rfl) rfl
theorem q1874 : (Jvm.Cond.fieldLink "PluginChains" (420 : Nat) "PluginChains$Starter" "done" "[I") ∈ lw_all := lw_g (lw_at lw_m8 114 rfl) rfl
theorem q1876 : (Jvm.Cond.fieldLink "PluginChains" (399 : Nat) "PluginChains$Starter" "many" "I") ∈ lw_all := lw_g (lw_at lw_m8 116 rfl) rfl
theorem q1889 : (Jvm.Cond.methodLink "PluginChains" (396 : Nat) ({ cls := "PluginChains$Starter", name := "startWhole", desc := "(I)V" } : Jvm.MethodName)) ∈ lw_all := lw_g (lw_at lw_m8 129 rfl) rfl
theorem q1911 : (Jvm.Cond.fieldLink "PluginChains" (404 : Nat) "PluginChains$StartFailed" "plug" "I") ∈ lw_all := lw_g (lw_at lw_m8 151 rfl) rfl
theorem q1913 : (Jvm.Cond.fieldLink "PluginChains" (405 : Nat) "PluginChains$StartFailed" "why" "I") ∈ lw_all := lw_g (lw_at lw_m8 153 rfl) rfl
theorem q1915 : (Jvm.Cond.fieldLink "PluginChains" (406 : Nat) "PluginChains$StartFailed" "service" "I") ∈ lw_all := lw_g (lw_at lw_m8 155 rfl) rfl
theorem q2445 : (Jvm.Cond.methodLink "PluginChains" (400 : Nat) ({ cls := "PluginChains", name := "keepCauses", desc := "(LPluginChains$StartFailed;)V" } : Jvm.MethodName)) ∈ lw_all := lw_g (lw_at lw_m10 205 rfl) rfl
theorem q2446 : (Jvm.Cond.privateMethod ({ cls := "PluginChains", name := "keepCauses", desc := "(LPluginChains$StartFailed;)V" } : Jvm.MethodName)) ∈ lw_tbl := lw_at lw_m10 206 rfl
theorem q2447 : (Jvm.Cond.instanceMethod ({ cls := "PluginChains", name := "keepCauses", desc := "(LPluginChains$StartFailed;)V" } : Jvm.MethodName)) ∈ lw_all := lw_g (lw_at lw_m10 207 rfl) rfl
theorem q2448 : (Jvm.Cond.code ({ cls := "PluginChains", name := "keepCauses", desc := "(LPluginChains$StartFailed;)V" } : Jvm.MethodName) prog_1_method_35_code (4 : Nat) (Option.none : Option Jvm.ClassFile.FieldType)) ∈ lw_all := lw_g (lw_at lw_m10 208 rfl) rfl
theorem q2449 : (Jvm.Cond.methodLink "PluginChains" (387 : Nat) ({ cls := "PluginChains$StartFailed", name := "getCause", desc := "()Ljava/lang/Throwable;" } : Jvm.MethodName)) ∈ lw_all := lw_g (lw_at lw_m10 209 rfl) rfl
theorem q2456 : (Jvm.Cond.instanceMethod ({ cls := "PluginChains", name := "cause", desc := "(II)I" } : Jvm.MethodName)) ∈ lw_all := lw_g (lw_at lw_m10 216 rfl) rfl
theorem q2457 : (Jvm.Cond.selects "PluginChains" ({ cls := "PluginChains", name := "cause", desc := "(II)I" } : Jvm.MethodName) ({ cls := "PluginChains", name := "cause", desc := "(II)I" } : Jvm.MethodName)) ∈ lw_all := lw_g (lw_at lw_m10 217 rfl) rfl
theorem q2458 : (Jvm.Cond.code ({ cls := "PluginChains", name := "cause", desc := "(II)I" } : Jvm.MethodName) prog_1_method_37_code (4 : Nat) (Option.some Jvm.ClassFile.FieldType.int)) ∈ lw_all := lw_g (lw_at lw_m10 218 rfl) rfl
theorem q2460 : (Jvm.Cond.instanceMethod ({ cls := "PluginChains", name := "stop", desc := "(I)I" } : Jvm.MethodName)) ∈ lw_all := lw_g (lw_at lw_m10 220 rfl) rfl
theorem q2461 : (Jvm.Cond.selects "PluginChains" ({ cls := "PluginChains", name := "stop", desc := "(I)I" } : Jvm.MethodName) ({ cls := "PluginChains", name := "stop", desc := "(I)I" } : Jvm.MethodName)) ∈ lw_all := lw_g (lw_at lw_m10 221 rfl) rfl
theorem q2462 : (Jvm.Cond.codeWith ({ cls := "PluginChains", name := "stop", desc := "(I)I" } : Jvm.MethodName) prog_1_method_39_code (3 : Nat) (Option.some Jvm.ClassFile.FieldType.int) [((0 : Nat), (17 : Nat), (18 : Nat), (21 : Nat))]) ∈ lw_all := lw_g (lw_at lw_m10 222 rfl) rfl
theorem q2463 : (Jvm.Cond.methodLink "PluginChains" (409 : Nat) ({ cls := "PluginChains", name := "mustRun", desc := "(I)V" } : Jvm.MethodName)) ∈ lw_all := lw_g (lw_at lw_m10 223 rfl) rfl
theorem q2464 : (Jvm.Cond.privateMethod ({ cls := "PluginChains", name := "mustRun", desc := "(I)V" } : Jvm.MethodName)) ∈ lw_tbl := lw_at lw_m10 224 rfl
theorem q2465 : (Jvm.Cond.instanceMethod ({ cls := "PluginChains", name := "mustRun", desc := "(I)V" } : Jvm.MethodName)) ∈ lw_all := lw_g (lw_at lw_m10 225 rfl) rfl
theorem q2466 : (Jvm.Cond.code ({ cls := "PluginChains", name := "mustRun", desc := "(I)V" } : Jvm.MethodName) prog_1_method_38_code (2 : Nat) (Option.none : Option Jvm.ClassFile.FieldType)) ∈ lw_all := lw_g (lw_at lw_m10 226 rfl) rfl
theorem q2467 : (Jvm.Cond.methodLink "PluginChains" (412 : Nat) ({ cls := "PluginChains", name := "stopWaves", desc := "(LPluginChains$Host;LPluginChains$Log;I)I" } : Jvm.MethodName)) ∈ lw_all := lw_g (lw_at lw_m10 227 rfl) rfl
theorem q2468 : (Jvm.Cond.static ({ cls := "PluginChains", name := "stopWaves", desc := "(LPluginChains$Host;LPluginChains$Log;I)I" } : Jvm.MethodName)) ∈ lw_all := lw_g (lw_at lw_m10 228 rfl) rfl
theorem q2469 : (Jvm.Cond.code ({ cls := "PluginChains", name := "stopWaves", desc := "(LPluginChains$Host;LPluginChains$Log;I)I" } : Jvm.MethodName) prog_1_method_6_code (6 : Nat) (Option.some Jvm.ClassFile.FieldType.int)) ∈ lw_all := lw_g (lw_at lw_m10 229 rfl) rfl
theorem q2470 : (Jvm.Cond.methodLink "PluginChains" (44 : Nat) ({ cls := "PluginChains$Host", name := "waves", desc := "(I)[I" } : Jvm.MethodName)) ∈ lw_all := lw_g (lw_at lw_m10 230 rfl) rfl
theorem q2958 : (Jvm.Cond.classLink "PluginChains" (50 : Nat) "java/util/PriorityQueue") ∈ lw_all := lw_g (lw_at lw_m12 238 rfl) rfl
theorem q2959 : (Jvm.Cond.classLink "PluginChains" (52 : Nat) "PluginChains$Youngest") ∈ lw_all := lw_g (lw_at lw_m12 239 rfl) rfl
theorem q2961 : (Jvm.Cond.methodLink "PluginChains" (54 : Nat) ({ cls := "PluginChains$Youngest", name := "<init>", desc := "(LPluginChains$Host;)V" } : Jvm.MethodName)) ∈ lw_all := lw_g (lw_at lw_m13 1 rfl) rfl
theorem q2969 : (Jvm.Cond.methodLink "PluginChains" (57 : Nat) ({ cls := "java/util/PriorityQueue", name := "<init>", desc := "(Ljava/util/Comparator;)V" } : Jvm.MethodName)) ∈ lw_all := lw_g (lw_at lw_m13 9 rfl) rfl
theorem q2970 : (Jvm.Cond.methodLink "PluginChains" (66 : Nat) ({ cls := "java/lang/Integer", name := "valueOf", desc := "(I)Ljava/lang/Integer;" } : Jvm.MethodName)) ∈ lw_all := lw_g (lw_at lw_m13 10 rfl) rfl
theorem q2971 : (Jvm.Cond.methodLink "PluginChains" (72 : Nat) ({ cls := "java/util/PriorityQueue", name := "add", desc := "(Ljava/lang/Object;)Z" } : Jvm.MethodName)) ∈ lw_all := lw_g (lw_at lw_m13 11 rfl) rfl
theorem q2972 : (Jvm.Cond.methodLink "PluginChains" (76 : Nat) ({ cls := "java/util/PriorityQueue", name := "size", desc := "()I" } : Jvm.MethodName)) ∈ lw_all := lw_g (lw_at lw_m13 12 rfl) rfl
theorem q2973 : (Jvm.Cond.methodLink "PluginChains" (79 : Nat) ({ cls := "java/util/PriorityQueue", name := "isEmpty", desc := "()Z" } : Jvm.MethodName)) ∈ lw_all := lw_g (lw_at lw_m13 13 rfl) rfl
theorem q2974 : (Jvm.Cond.methodLink "PluginChains" (83 : Nat) ({ cls := "java/util/PriorityQueue", name := "poll", desc := "()Ljava/lang/Object;" } : Jvm.MethodName)) ∈ lw_all := lw_g (lw_at lw_m13 14 rfl) rfl
theorem q2975 : (Jvm.Cond.classLink "PluginChains" (67 : Nat) "java/lang/Integer") ∈ lw_all := lw_g (lw_at lw_m13 15 rfl) rfl
theorem q2976 : (Jvm.Cond.methodLink "PluginChains" (86 : Nat) ({ cls := "java/lang/Integer", name := "intValue", desc := "()I" } : Jvm.MethodName)) ∈ lw_all := lw_g (lw_at lw_m13 16 rfl) rfl
theorem q2977 : (Jvm.Cond.methodLink "PluginChains" (89 : Nat) ({ cls := "PluginChains$Host", name := "stop", desc := "(ILPluginChains$Log;)V" } : Jvm.MethodName)) ∈ lw_all := lw_g (lw_at lw_m13 17 rfl) rfl
theorem q2979 : (Jvm.Cond.instanceMethod ({ cls := "PluginChains", name := "wave", desc := "(II)I" } : Jvm.MethodName)) ∈ lw_all := lw_g (lw_at lw_m13 19 rfl) rfl
theorem q2980 : (Jvm.Cond.selects "PluginChains" ({ cls := "PluginChains", name := "wave", desc := "(II)I" } : Jvm.MethodName) ({ cls := "PluginChains", name := "wave", desc := "(II)I" } : Jvm.MethodName)) ∈ lw_all := lw_g (lw_at lw_m13 20 rfl) rfl
theorem q2981 : (Jvm.Cond.codeWith ({ cls := "PluginChains", name := "wave", desc := "(II)I" } : Jvm.MethodName) prog_1_method_40_code (4 : Nat) (Option.some Jvm.ClassFile.FieldType.int) [((0 : Nat), (25 : Nat), (26 : Nat), (21 : Nat))]) ∈ lw_all := lw_g (lw_at lw_m13 21 rfl) rfl
theorem q2983 : (Jvm.Cond.instanceMethod ({ cls := "PluginChains", name := "mend", desc := "(I)I" } : Jvm.MethodName)) ∈ lw_all := lw_g (lw_at lw_m13 23 rfl) rfl
theorem q2984 : (Jvm.Cond.selects "PluginChains" ({ cls := "PluginChains", name := "mend", desc := "(I)I" } : Jvm.MethodName) ({ cls := "PluginChains", name := "mend", desc := "(I)I" } : Jvm.MethodName)) ∈ lw_all := lw_g (lw_at lw_m13 24 rfl) rfl
theorem q2985 : (Jvm.Cond.codeWith ({ cls := "PluginChains", name := "mend", desc := "(I)I" } : Jvm.MethodName) prog_1_method_41_code (3 : Nat) (Option.some Jvm.ClassFile.FieldType.int) [((0 : Nat), (47 : Nat), (48 : Nat), (21 : Nat))]) ∈ lw_all := lw_g (lw_at lw_m13 25 rfl) rfl
theorem q2987 : (Jvm.Cond.instanceMethod ({ cls := "PluginChains", name := "remove", desc := "(I)I" } : Jvm.MethodName)) ∈ lw_all := lw_g (lw_at lw_m13 27 rfl) rfl
theorem q2988 : (Jvm.Cond.selects "PluginChains" ({ cls := "PluginChains", name := "remove", desc := "(I)I" } : Jvm.MethodName) ({ cls := "PluginChains", name := "remove", desc := "(I)I" } : Jvm.MethodName)) ∈ lw_all := lw_g (lw_at lw_m13 28 rfl) rfl
theorem q2989 : (Jvm.Cond.codeWith ({ cls := "PluginChains", name := "remove", desc := "(I)I" } : Jvm.MethodName) prog_1_method_42_code (3 : Nat) (Option.some Jvm.ClassFile.FieldType.int) [((0 : Nat), (90 : Nat), (91 : Nat), (21 : Nat))]) ∈ lw_all := lw_g (lw_at lw_m13 29 rfl) rfl
theorem q2990 : (Jvm.Cond.methodLink "PluginChains" (416 : Nat) ({ cls := "java/util/TreeMap", name := "remove", desc := "(Ljava/lang/Object;)Ljava/lang/Object;" } : Jvm.MethodName)) ∈ lw_all := lw_g (lw_at lw_m13 30 rfl) rfl
theorem q2996 : (Jvm.Cond.instanceMethod ({ cls := "PluginChains", name := "would", desc := "(II)I" } : Jvm.MethodName)) ∈ lw_all := lw_g (lw_at lw_m13 36 rfl) rfl
theorem q2997 : (Jvm.Cond.selects "PluginChains" ({ cls := "PluginChains", name := "would", desc := "(II)I" } : Jvm.MethodName) ({ cls := "PluginChains", name := "would", desc := "(II)I" } : Jvm.MethodName)) ∈ lw_all := lw_g (lw_at lw_m13 37 rfl) rfl
theorem q2998 : (Jvm.Cond.codeWith ({ cls := "PluginChains", name := "would", desc := "(II)I" } : Jvm.MethodName) prog_1_method_43_code (6 : Nat) (Option.some Jvm.ClassFile.FieldType.int) [((55 : Nat), (66 : Nat), (69 : Nat), (160 : Nat)), ((0 : Nat), (108 : Nat), (109 : Nat), (21 : Nat))]) ∈ lw_all := lw_g (lw_at lw_m13 38 rfl) rfl
theorem q3000 : (Jvm.Cond.instanceMethod ({ cls := "PluginChains", name := "running", desc := "(I)I" } : Jvm.MethodName)) ∈ lw_all := lw_g (lw_at lw_m13 40 rfl) rfl
theorem q3001 : (Jvm.Cond.selects "PluginChains" ({ cls := "PluginChains", name := "running", desc := "(I)I" } : Jvm.MethodName) ({ cls := "PluginChains", name := "running", desc := "(I)I" } : Jvm.MethodName)) ∈ lw_all := lw_g (lw_at lw_m13 41 rfl) rfl
theorem q3002 : (Jvm.Cond.code ({ cls := "PluginChains", name := "running", desc := "(I)I" } : Jvm.MethodName) prog_1_method_44_code (5 : Nat) (Option.some Jvm.ClassFile.FieldType.int)) ∈ lw_all := lw_g (lw_at lw_m13 42 rfl) rfl
theorem q3003 : (Jvm.Cond.classLink "PluginChains" (423 : Nat) "PluginChains$Ages") ∈ lw_all := lw_g (lw_at lw_m13 43 rfl) rfl
theorem q3005 : (Jvm.Cond.methodLink "PluginChains" (425 : Nat) ({ cls := "PluginChains$Ages", name := "<init>", desc := "(LPluginChains$Host;)V" } : Jvm.MethodName)) ∈ lw_all := lw_g (lw_at lw_m13 45 rfl) rfl
theorem q3019 : (Jvm.Cond.methodLink "PluginChains" (426 : Nat) ({ cls := "PluginChains$Ages", name := "iterator", desc := "()Ljava/util/Iterator;" } : Jvm.MethodName)) ∈ lw_all := lw_g (lw_at lw_m13 59 rfl) rfl
theorem q3040 : (Jvm.Cond.interfaceEntry "PluginChains" (430 : Nat)) ∈ lw_tbl := lw_at lw_m13 80 rfl
theorem q3041 : (Jvm.Cond.methodLink "PluginChains" (430 : Nat) ({ cls := "java/util/Iterator", name := "hasNext", desc := "()Z" } : Jvm.MethodName)) ∈ lw_all := lw_g (lw_at lw_m13 81 rfl) rfl
theorem q3042 : (Jvm.Cond.interfaceEntry "PluginChains" (435 : Nat)) ∈ lw_tbl := lw_at lw_m13 82 rfl
theorem q3043 : (Jvm.Cond.methodLink "PluginChains" (435 : Nat) ({ cls := "java/util/Iterator", name := "next", desc := "()Ljava/lang/Object;" } : Jvm.MethodName)) ∈ lw_all := lw_g (lw_at lw_m13 83 rfl) rfl
theorem q3045 : (Jvm.Cond.instanceMethod ({ cls := "PluginChains", name := "offered", desc := "(I)I" } : Jvm.MethodName)) ∈ lw_all := lw_g (lw_at lw_m13 85 rfl) rfl
theorem q3046 : (Jvm.Cond.selects "PluginChains" ({ cls := "PluginChains", name := "offered", desc := "(I)I" } : Jvm.MethodName) ({ cls := "PluginChains", name := "offered", desc := "(I)I" } : Jvm.MethodName)) ∈ lw_all := lw_g (lw_at lw_m13 86 rfl) rfl
theorem q3047 : (Jvm.Cond.codeWith ({ cls := "PluginChains", name := "offered", desc := "(I)I" } : Jvm.MethodName) prog_1_method_45_code (5 : Nat) (Option.some Jvm.ClassFile.FieldType.int) [((0 : Nat), (79 : Nat), (80 : Nat), (21 : Nat))]) ∈ lw_all := lw_g (lw_at lw_m13 87 rfl) rfl
theorem q3049 : (Jvm.Cond.instanceMethod ({ cls := "PluginChains", name := "hook", desc := "(IIIII)I" } : Jvm.MethodName)) ∈ lw_all := lw_g (lw_at lw_m13 89 rfl) rfl
theorem q3050 : (Jvm.Cond.selects "PluginChains" ({ cls := "PluginChains", name := "hook", desc := "(IIIII)I" } : Jvm.MethodName) ({ cls := "PluginChains", name := "hook", desc := "(IIIII)I" } : Jvm.MethodName)) ∈ lw_all := lw_g (lw_at lw_m13 90 rfl) rfl
theorem q3051 : (Jvm.Cond.codeWith ({ cls := "PluginChains", name := "hook", desc := "(IIIII)I" } : Jvm.MethodName) prog_1_method_46_code (7 : Nat) (Option.some Jvm.ClassFile.FieldType.int) [((0 : Nat), (155 : Nat), (156 : Nat), (21 : Nat))]) ∈ lw_all := lw_g (lw_at lw_m13 91 rfl) rfl
theorem q3052 : (Jvm.Cond.methodLink "PluginChains" (438 : Nat) ({ cls := "PluginChains", name := "mustPoint", desc := "(I)V" } : Jvm.MethodName)) ∈ lw_all := lw_g (lw_at lw_m13 92 rfl) rfl
theorem q3053 : (Jvm.Cond.static ({ cls := "PluginChains", name := "mustPoint", desc := "(I)V" } : Jvm.MethodName)) ∈ lw_all := lw_g (lw_at lw_m13 93 rfl) rfl
theorem q3054 : (Jvm.Cond.code ({ cls := "PluginChains", name := "mustPoint", desc := "(I)V" } : Jvm.MethodName) prog_1_method_19_code (1 : Nat) (Option.none : Option Jvm.ClassFile.FieldType)) ∈ lw_all := lw_g (lw_at lw_m13 94 rfl) rfl
theorem q3055 : (Jvm.Cond.constantLong "PluginChains" (441 : Nat) (-9 : Int64)) ∈ lw_all := lw_g (lw_at lw_m13 95 rfl) rfl
theorem q3056 : (Jvm.Cond.constantLong "PluginChains" (443 : Nat) (8 : Int64)) ∈ lw_all := lw_g (lw_at lw_m13 96 rfl) rfl
theorem q3057 : (Jvm.Cond.constantLong "PluginChains" (445 : Nat) (-99 : Int64)) ∈ lw_all := lw_g (lw_at lw_m13 97 rfl) rfl
theorem q3058 : (Jvm.Cond.constantLong "PluginChains" (447 : Nat) (99 : Int64)) ∈ lw_all := lw_g (lw_at lw_m13 98 rfl) rfl
theorem q3059 : (Jvm.Cond.classLink "PluginChains" (117 : Nat) "PluginChains$Hook") ∈ lw_all := lw_g (lw_at lw_m13 99 rfl) rfl
theorem q3061 : (Jvm.Cond.methodLink "PluginChains" (449 : Nat) ({ cls := "PluginChains$Hook", name := "<init>", desc := "(IIIIII)V" } : Jvm.MethodName)) ∈ lw_all := lw_g (lw_at lw_m13 101 rfl) rfl
theorem q3068 : (Jvm.Cond.fieldLink "PluginChains" (466 : Nat) "PluginChains$Hook" "index" "I") ∈ lw_all := lw_g (lw_at lw_m13 108 rfl) rfl
theorem q3072 : (Jvm.Cond.fieldLink "PluginChains" (121 : Nat) "PluginChains$Hook" "plug" "I") ∈ lw_all := lw_g (lw_at lw_m13 112 rfl) rfl
theorem q3074 : (Jvm.Cond.fieldLink "PluginChains" (116 : Nat) "PluginChains$Hook" "point" "I") ∈ lw_all := lw_g (lw_at lw_m13 114 rfl) rfl
theorem q3077 : (Jvm.Cond.fieldLink "PluginChains" (452 : Nat) "PluginChains$Hook" "priority" "I") ∈ lw_all := lw_g (lw_at lw_m13 117 rfl) rfl
theorem q3080 : (Jvm.Cond.fieldLink "PluginChains" (455 : Nat) "PluginChains$Hook" "function" "I") ∈ lw_all := lw_g (lw_at lw_m13 120 rfl) rfl
theorem q3082 : (Jvm.Cond.fieldLink "PluginChains" (458 : Nat) "PluginChains$Hook" "k" "I") ∈ lw_all := lw_g (lw_at lw_m13 122 rfl) rfl
theorem q3097 : (Jvm.Cond.instanceMethod ({ cls := "PluginChains", name := "hookOf", desc := "(II)I" } : Jvm.MethodName)) ∈ lw_all := lw_g (lw_at lw_m13 137 rfl) rfl
theorem q3098 : (Jvm.Cond.selects "PluginChains" ({ cls := "PluginChains", name := "hookOf", desc := "(II)I" } : Jvm.MethodName) ({ cls := "PluginChains", name := "hookOf", desc := "(II)I" } : Jvm.MethodName)) ∈ lw_all := lw_g (lw_at lw_m13 138 rfl) rfl
theorem q3099 : (Jvm.Cond.code ({ cls := "PluginChains", name := "hookOf", desc := "(II)I" } : Jvm.MethodName) prog_1_method_47_code (4 : Nat) (Option.some Jvm.ClassFile.FieldType.int)) ∈ lw_all := lw_g (lw_at lw_m13 139 rfl) rfl
theorem q3101 : (Jvm.Cond.instanceMethod ({ cls := "PluginChains", name := "chain", desc := "(II)I" } : Jvm.MethodName)) ∈ lw_all := lw_g (lw_at lw_m13 141 rfl) rfl
theorem q3102 : (Jvm.Cond.selects "PluginChains" ({ cls := "PluginChains", name := "chain", desc := "(II)I" } : Jvm.MethodName) ({ cls := "PluginChains", name := "chain", desc := "(II)I" } : Jvm.MethodName)) ∈ lw_all := lw_g (lw_at lw_m13 142 rfl) rfl
theorem q3103 : (Jvm.Cond.codeWith ({ cls := "PluginChains", name := "chain", desc := "(II)I" } : Jvm.MethodName) prog_1_method_48_code (6 : Nat) (Option.some Jvm.ClassFile.FieldType.int) [((0 : Nat), (51 : Nat), (60 : Nat), (21 : Nat)), ((52 : Nat), (59 : Nat), (60 : Nat), (21 : Nat))]) ∈ lw_all := lw_g (lw_at lw_m13 143 rfl) rfl
theorem q3104 : (Jvm.Cond.methodLink "PluginChains" (461 : Nat) ({ cls := "PluginChains", name := "chainOf", desc := "(LPluginChains$Host;I)Ljava/util/TreeSet;" } : Jvm.MethodName)) ∈ lw_all := lw_g (lw_at lw_m13 144 rfl) rfl
theorem q3105 : (Jvm.Cond.static ({ cls := "PluginChains", name := "chainOf", desc := "(LPluginChains$Host;I)Ljava/util/TreeSet;" } : Jvm.MethodName)) ∈ lw_all := lw_g (lw_at lw_m13 145 rfl) rfl
theorem q3106 : (Jvm.Cond.code ({ cls := "PluginChains", name := "chainOf", desc := "(LPluginChains$Host;I)Ljava/util/TreeSet;" } : Jvm.MethodName) prog_1_method_8_code (4 : Nat) (Option.some (Jvm.ClassFile.FieldType.object "java/util/TreeSet"))) ∈ lw_all := lw_g (lw_at lw_m13 146 rfl) rfl
theorem q3107 : (Jvm.Cond.classLink "PluginChains" (103 : Nat) "java/util/TreeSet") ∈ lw_all := lw_g (lw_at lw_m13 147 rfl) rfl
theorem q3108 : (Jvm.Cond.classLink "PluginChains" (105 : Nat) "PluginChains$ByPriority") ∈ lw_all := lw_g (lw_at lw_m13 148 rfl) rfl
theorem q3110 : (Jvm.Cond.methodLink "PluginChains" (107 : Nat) ({ cls := "PluginChains$ByPriority", name := "<init>", desc := "(LPluginChains$Host;)V" } : Jvm.MethodName)) ∈ lw_all := lw_g (lw_at lw_m13 150 rfl) rfl
theorem q3118 : (Jvm.Cond.methodLink "PluginChains" (108 : Nat) ({ cls := "java/util/TreeSet", name := "<init>", desc := "(Ljava/util/Comparator;)V" } : Jvm.MethodName)) ∈ lw_all := lw_g (lw_at lw_m13 158 rfl) rfl
theorem q3124 : (Jvm.Cond.methodLink "PluginChains" (128 : Nat) ({ cls := "java/util/TreeSet", name := "add", desc := "(Ljava/lang/Object;)Z" } : Jvm.MethodName)) ∈ lw_all := lw_g (lw_at lw_m13 164 rfl) rfl
theorem q3125 : (Jvm.Cond.methodLink "PluginChains" (465 : Nat) ({ cls := "java/util/TreeSet", name := "iterator", desc := "()Ljava/util/Iterator;" } : Jvm.MethodName)) ∈ lw_all := lw_g (lw_at lw_m13 165 rfl) rfl
theorem q3127 : (Jvm.Cond.instanceMethod ({ cls := "PluginChains", name := "fire", desc := "(II)I" } : Jvm.MethodName)) ∈ lw_all := lw_g (lw_at lw_m13 167 rfl) rfl
theorem q3128 : (Jvm.Cond.selects "PluginChains" ({ cls := "PluginChains", name := "fire", desc := "(II)I" } : Jvm.MethodName) ({ cls := "PluginChains", name := "fire", desc := "(II)I" } : Jvm.MethodName)) ∈ lw_all := lw_g (lw_at lw_m13 168 rfl) rfl
theorem q3129 : (Jvm.Cond.codeWith ({ cls := "PluginChains", name := "fire", desc := "(II)I" } : Jvm.MethodName) prog_1_method_51_code (5 : Nat) (Option.some Jvm.ClassFile.FieldType.int) [((0 : Nat), (48 : Nat), (49 : Nat), (21 : Nat))]) ∈ lw_all := lw_g (lw_at lw_m13 169 rfl) rfl
theorem q3130 : (Jvm.Cond.classLink "PluginChains" (467 : Nat) "PluginChains$Fire") ∈ lw_all := lw_g (lw_at lw_m13 170 rfl) rfl
theorem q3132 : (Jvm.Cond.methodLink "PluginChains" (469 : Nat) ({ cls := "PluginChains$Fire", name := "<init>", desc := "(LPluginChains;Z)V" } : Jvm.MethodName)) ∈ lw_all := lw_g (lw_at lw_m13 172 rfl) rfl
theorem q3151 : (Jvm.Cond.fieldLink "PluginChains" (550 : Nat) "PluginChains$Thrown" "value" "I") ∈ lw_all := lw_g (lw_at lw_m13 191 rfl) rfl
theorem q3190 : (Jvm.Cond.methodLink "PluginChains" (472 : Nat) ({ cls := "PluginChains$Fire", name := "chained", desc := "(Ljava/util/TreeSet;I)LPluginChains$Rest;" } : Jvm.MethodName)) ∈ lw_all := lw_g (lw_at lw_m13 230 rfl) rfl
theorem q3377 : (Jvm.Cond.methodLink "PluginChains" (476 : Nat) ({ cls := "PluginChains$Fire", name := "through", desc := "(LPluginChains$Rest;I)LPluginChains$Outcome;" } : Jvm.MethodName)) ∈ lw_all := lw_g (lw_at lw_m14 177 rfl) rfl
theorem q3395 : (Jvm.Cond.fieldLink "PluginChains" (95 : Nat) "PluginChains$Gave" "value" "I") ∈ lw_all := lw_g (lw_at lw_m14 195 rfl) rfl
theorem q3406 : (Jvm.Cond.fieldLink "PluginChains" (100 : Nat) "PluginChains$Threw" "value" "I") ∈ lw_all := lw_g (lw_at lw_m14 206 rfl) rfl
theorem q3417 : (Jvm.Cond.methodLink "PluginChains" (480 : Nat) ({ cls := "PluginChains", name := "valueOf", desc := "(LPluginChains$Outcome;)I" } : Jvm.MethodName)) ∈ lw_all := lw_g (lw_at lw_m14 217 rfl) rfl
theorem q3418 : (Jvm.Cond.static ({ cls := "PluginChains", name := "valueOf", desc := "(LPluginChains$Outcome;)I" } : Jvm.MethodName)) ∈ lw_all := lw_g (lw_at lw_m14 218 rfl) rfl
theorem q3419 : (Jvm.Cond.code ({ cls := "PluginChains", name := "valueOf", desc := "(LPluginChains$Outcome;)I" } : Jvm.MethodName) prog_1_method_50_code (2 : Nat) (Option.some Jvm.ClassFile.FieldType.int)) ∈ lw_all := lw_g (lw_at lw_m14 219 rfl) rfl
theorem q3420 : (Jvm.Cond.classLink "PluginChains" (93 : Nat) "PluginChains$Gave") ∈ lw_all := lw_g (lw_at lw_m14 220 rfl) rfl
theorem q3421 : (Jvm.Cond.classLink "PluginChains" (98 : Nat) "PluginChains$Threw") ∈ lw_all := lw_g (lw_at lw_m14 221 rfl) rfl
theorem q3422 : (Jvm.Cond.methodLink "PluginChains" (486 : Nat) ({ cls := "PluginChains", name := "sortOf", desc := "(LPluginChains$Outcome;)I" } : Jvm.MethodName)) ∈ lw_all := lw_g (lw_at lw_m14 222 rfl) rfl
theorem q3423 : (Jvm.Cond.static ({ cls := "PluginChains", name := "sortOf", desc := "(LPluginChains$Outcome;)I" } : Jvm.MethodName)) ∈ lw_all := lw_g (lw_at lw_m14 223 rfl) rfl
theorem q3424 : (Jvm.Cond.code ({ cls := "PluginChains", name := "sortOf", desc := "(LPluginChains$Outcome;)I" } : Jvm.MethodName) prog_1_method_49_code (1 : Nat) (Option.some Jvm.ClassFile.FieldType.int)) ∈ lw_all := lw_g (lw_at lw_m14 224 rfl) rfl
theorem q3426 : (Jvm.Cond.instanceMethod ({ cls := "PluginChains", name := "given", desc := "()I" } : Jvm.MethodName)) ∈ lw_all := lw_g (lw_at lw_m14 226 rfl) rfl
theorem q3427 : (Jvm.Cond.selects "PluginChains" ({ cls := "PluginChains", name := "given", desc := "()I" } : Jvm.MethodName) ({ cls := "PluginChains", name := "given", desc := "()I" } : Jvm.MethodName)) ∈ lw_all := lw_g (lw_at lw_m14 227 rfl) rfl
theorem q3428 : (Jvm.Cond.code ({ cls := "PluginChains", name := "given", desc := "()I" } : Jvm.MethodName) prog_1_method_52_code (1 : Nat) (Option.some Jvm.ClassFile.FieldType.int)) ∈ lw_all := lw_g (lw_at lw_m14 228 rfl) rfl
theorem q3430 : (Jvm.Cond.instanceMethod ({ cls := "PluginChains", name := "pure", desc := "(III)J" } : Jvm.MethodName)) ∈ lw_all := lw_g (lw_at lw_m14 230 rfl) rfl
theorem q3431 : (Jvm.Cond.selects "PluginChains" ({ cls := "PluginChains", name := "pure", desc := "(III)J" } : Jvm.MethodName) ({ cls := "PluginChains", name := "pure", desc := "(III)J" } : Jvm.MethodName)) ∈ lw_all := lw_g (lw_at lw_m14 231 rfl) rfl
theorem q3432 : (Jvm.Cond.codeWith ({ cls := "PluginChains", name := "pure", desc := "(III)J" } : Jvm.MethodName) prog_1_method_53_code (6 : Nat) (Option.some Jvm.ClassFile.FieldType.long) [((0 : Nat), (72 : Nat), (73 : Nat), (21 : Nat))]) ∈ lw_all := lw_g (lw_at lw_m14 232 rfl) rfl
theorem q3433 : (Jvm.Cond.constantLong "PluginChains" (489 : Nat) (10000000000 : Int64)) ∈ lw_all := lw_g (lw_at lw_m14 233 rfl) rfl
theorem q3435 : (Jvm.Cond.instanceMethod ({ cls := "PluginChains", name := "matter", desc := "(II)I" } : Jvm.MethodName)) ∈ lw_all := lw_g (lw_at lw_m14 235 rfl) rfl
theorem q3436 : (Jvm.Cond.selects "PluginChains" ({ cls := "PluginChains", name := "matter", desc := "(II)I" } : Jvm.MethodName) ({ cls := "PluginChains", name := "matter", desc := "(II)I" } : Jvm.MethodName)) ∈ lw_all := lw_g (lw_at lw_m14 236 rfl) rfl
theorem q3437 : (Jvm.Cond.codeWith ({ cls := "PluginChains", name := "matter", desc := "(II)I" } : Jvm.MethodName) prog_1_method_54_code (10 : Nat) (Option.some Jvm.ClassFile.FieldType.int) [((0 : Nat), (119 : Nat), (120 : Nat), (21 : Nat))]) ∈ lw_all := lw_g (lw_at lw_m14 237 rfl) rfl
theorem q3438 : (Jvm.Cond.methodLink "PluginChains" (491 : Nat) ({ cls := "PluginChains", name := "isAlike", desc := "(LPluginChains$Outcome;LPluginChains$Outcome;)Z" } : Jvm.MethodName)) ∈ lw_all := lw_g (lw_at lw_m14 238 rfl) rfl
theorem q3439 : (Jvm.Cond.static ({ cls := "PluginChains", name := "isAlike", desc := "(LPluginChains$Outcome;LPluginChains$Outcome;)Z" } : Jvm.MethodName)) ∈ lw_all := lw_g (lw_at lw_m14 239 rfl) rfl
theorem q3440 : (Jvm.Cond.code ({ cls := "PluginChains", name := "isAlike", desc := "(LPluginChains$Outcome;LPluginChains$Outcome;)Z" } : Jvm.MethodName) prog_1_method_7_code (4 : Nat) (Option.some Jvm.ClassFile.FieldType.boolean)) ∈ lw_all := lw_g (lw_at lw_m15 0 rfl) rfl
theorem q3441 : (Jvm.Cond.classLink "PluginChains" (101 : Nat) "PluginChains$Over") ∈ lw_all := lw_g (lw_at lw_m15 1 rfl) rfl
theorem q3443 : (Jvm.Cond.instanceMethod ({ cls := "PluginChains", name := "source", desc := "(IIII)J" } : Jvm.MethodName)) ∈ lw_all := lw_g (lw_at lw_m15 3 rfl) rfl
theorem q3444 : (Jvm.Cond.selects "PluginChains" ({ cls := "PluginChains", name := "source", desc := "(IIII)J" } : Jvm.MethodName) ({ cls := "PluginChains", name := "source", desc := "(IIII)J" } : Jvm.MethodName)) ∈ lw_all := lw_g (lw_at lw_m15 4 rfl) rfl
theorem q3445 : (Jvm.Cond.codeWith ({ cls := "PluginChains", name := "source", desc := "(IIII)J" } : Jvm.MethodName) prog_1_method_55_code (10 : Nat) (Option.some Jvm.ClassFile.FieldType.long) [((0 : Nat), (107 : Nat), (119 : Nat), (21 : Nat)), ((108 : Nat), (118 : Nat), (119 : Nat), (21 : Nat))]) ∈ lw_all := lw_g (lw_at lw_m15 5 rfl) rfl
theorem q3446 : (Jvm.Cond.constantLong "PluginChains" (495 : Nat) (200 : Int64)) ∈ lw_all := lw_g (lw_at lw_m15 6 rfl) rfl
theorem q3447 : (Jvm.Cond.methodLink "PluginChains" (497 : Nat) ({ cls := "PluginChains$Gave", name := "<init>", desc := "(I)V" } : Jvm.MethodName)) ∈ lw_all := lw_g (lw_at lw_m15 7 rfl) rfl
theorem q3449 : (Jvm.Cond.instanceMethod ({ cls := "PluginChains", name := "judge", desc := "(III)I" } : Jvm.MethodName)) ∈ lw_all := lw_g (lw_at lw_m15 9 rfl) rfl
theorem q3450 : (Jvm.Cond.selects "PluginChains" ({ cls := "PluginChains", name := "judge", desc := "(III)I" } : Jvm.MethodName) ({ cls := "PluginChains", name := "judge", desc := "(III)I" } : Jvm.MethodName)) ∈ lw_all := lw_g (lw_at lw_m15 10 rfl) rfl
theorem q3451 : (Jvm.Cond.codeWith ({ cls := "PluginChains", name := "judge", desc := "(III)I" } : Jvm.MethodName) prog_1_method_56_code (10 : Nat) (Option.some Jvm.ClassFile.FieldType.int) [((0 : Nat), (156 : Nat), (165 : Nat), (21 : Nat)), ((157 : Nat), (164 : Nat), (165 : Nat), (21 : Nat))]) ∈ lw_all := lw_g (lw_at lw_m15 11 rfl) rfl
theorem q3452 : (Jvm.Cond.constantLong "PluginChains" (498 : Nat) (2 : Int64)) ∈ lw_all := lw_g (lw_at lw_m15 12 rfl) rfl
theorem q3453 : (Jvm.Cond.methodLink "PluginChains" (11 : Nat) ({ cls := "PluginChains$Row", name := "length", desc := "()I" } : Jvm.MethodName)) ∈ lw_all := lw_g (lw_at lw_m15 13 rfl) rfl
theorem q3454 : (Jvm.Cond.methodLink "PluginChains" (500 : Nat) ({ cls := "PluginChains$Row", name := "asInt", desc := "(I)I" } : Jvm.MethodName)) ∈ lw_all := lw_g (lw_at lw_m15 14 rfl) rfl
theorem q3456 : (Jvm.Cond.instanceMethod ({ cls := "PluginChains", name := "trace", desc := "(I)I" } : Jvm.MethodName)) ∈ lw_all := lw_g (lw_at lw_m15 16 rfl) rfl
theorem q3457 : (Jvm.Cond.selects "PluginChains" ({ cls := "PluginChains", name := "trace", desc := "(I)I" } : Jvm.MethodName) ({ cls := "PluginChains", name := "trace", desc := "(I)I" } : Jvm.MethodName)) ∈ lw_all := lw_g (lw_at lw_m15 17 rfl) rfl
theorem q3458 : (Jvm.Cond.code ({ cls := "PluginChains", name := "trace", desc := "(I)I" } : Jvm.MethodName) prog_1_method_57_code (2 : Nat) (Option.some Jvm.ClassFile.FieldType.int)) ∈ lw_all := lw_g (lw_at lw_m15 18 rfl) rfl
theorem q3459 : (Jvm.Cond.methodLink "PluginChains" (506 : Nat) ({ cls := "java/lang/Math", name := "min", desc := "(II)I" } : Jvm.MethodName)) ∈ lw_all := lw_g (lw_at lw_m15 19 rfl) rfl
theorem q3461 : (Jvm.Cond.instanceMethod ({ cls := "PluginChains", name := "log", desc := "(I)I" } : Jvm.MethodName)) ∈ lw_all := lw_g (lw_at lw_m15 21 rfl) rfl
theorem q3462 : (Jvm.Cond.selects "PluginChains" ({ cls := "PluginChains", name := "log", desc := "(I)I" } : Jvm.MethodName) ({ cls := "PluginChains", name := "log", desc := "(I)I" } : Jvm.MethodName)) ∈ lw_all := lw_g (lw_at lw_m15 22 rfl) rfl
theorem q3463 : (Jvm.Cond.code ({ cls := "PluginChains", name := "log", desc := "(I)I" } : Jvm.MethodName) prog_1_method_58_code (2 : Nat) (Option.some Jvm.ClassFile.FieldType.int)) ∈ lw_all := lw_g (lw_at lw_m15 23 rfl) rfl
theorem q3464 : (Jvm.Cond.methodLink "PluginChains" (511 : Nat) ({ cls := "PluginChains$Log", name := "at", desc := "(I)I" } : Jvm.MethodName)) ∈ lw_all := lw_g (lw_at lw_m15 24 rfl) rfl
theorem q3471 : (Jvm.Cond.instanceMethod ({ cls := "PluginChains", name := "days", desc := "(I)I" } : Jvm.MethodName)) ∈ lw_all := lw_g (lw_at lw_m15 31 rfl) rfl
theorem q3472 : (Jvm.Cond.selects "PluginChains" ({ cls := "PluginChains", name := "days", desc := "(I)I" } : Jvm.MethodName) ({ cls := "PluginChains", name := "days", desc := "(I)I" } : Jvm.MethodName)) ∈ lw_all := lw_g (lw_at lw_m15 32 rfl) rfl
theorem q3473 : (Jvm.Cond.codeWith ({ cls := "PluginChains", name := "days", desc := "(I)I" } : Jvm.MethodName) prog_1_method_60_code (3 : Nat) (Option.some Jvm.ClassFile.FieldType.int) [((0 : Nat), (65 : Nat), (66 : Nat), (21 : Nat))]) ∈ lw_all := lw_g (lw_at lw_m15 33 rfl) rfl
theorem q3474 : (Jvm.Cond.constantLong "PluginChains" (517 : Nat) (40 : Int64)) ∈ lw_all := lw_g (lw_at lw_m15 34 rfl) rfl
theorem q3475 : (Jvm.Cond.methodLink "PluginChains" (519 : Nat) ({ cls := "PluginChains", name := "day", desc := "()V" } : Jvm.MethodName)) ∈ lw_all := lw_g (lw_at lw_m15 35 rfl) rfl
theorem q3476 : (Jvm.Cond.privateMethod ({ cls := "PluginChains", name := "day", desc := "()V" } : Jvm.MethodName)) ∈ lw_tbl := lw_at lw_m15 36 rfl
theorem q3477 : (Jvm.Cond.instanceMethod ({ cls := "PluginChains", name := "day", desc := "()V" } : Jvm.MethodName)) ∈ lw_all := lw_g (lw_at lw_m15 37 rfl) rfl
theorem q3478 : (Jvm.Cond.codeWith ({ cls := "PluginChains", name := "day", desc := "()V" } : Jvm.MethodName) prog_1_method_59_code (4 : Nat) (Option.none : Option Jvm.ClassFile.FieldType) [((39 : Nat), (58 : Nat), (61 : Nat), (160 : Nat))]) ∈ lw_all := lw_g (lw_at lw_m15 38 rfl) rfl
theorem q3479 : (Jvm.Cond.methodLink "PluginChains" (514 : Nat) ({ cls := "PluginChains$Host", name := "draw", desc := "(I)I" } : Jvm.MethodName)) ∈ lw_all := lw_g (lw_at lw_m15 39 rfl) rfl
theorem q3484 : (Jvm.Cond.methodLink "PluginChains" (522 : Nat) ({ cls := "PluginChains$Ages", name := "many", desc := "()I" } : Jvm.MethodName)) ∈ lw_all := lw_g (lw_at lw_m15 44 rfl) rfl
theorem q3490 : (Jvm.Cond.instanceMethod ({ cls := "PluginChains", name := "seed", desc := "(I)I" } : Jvm.MethodName)) ∈ lw_all := lw_g (lw_at lw_m15 50 rfl) rfl
theorem q3491 : (Jvm.Cond.selects "PluginChains" ({ cls := "PluginChains", name := "seed", desc := "(I)I" } : Jvm.MethodName) ({ cls := "PluginChains", name := "seed", desc := "(I)I" } : Jvm.MethodName)) ∈ lw_all := lw_g (lw_at lw_m15 51 rfl) rfl
theorem q3492 : (Jvm.Cond.code ({ cls := "PluginChains", name := "seed", desc := "(I)I" } : Jvm.MethodName) prog_1_method_61_code (3 : Nat) (Option.some Jvm.ClassFile.FieldType.int)) ∈ lw_all := lw_g (lw_at lw_m15 52 rfl) rfl
theorem q3494 : (Jvm.Cond.instanceMethod ({ cls := "PluginChains", name := "image", desc := "()I" } : Jvm.MethodName)) ∈ lw_all := lw_g (lw_at lw_m15 54 rfl) rfl
theorem q3495 : (Jvm.Cond.selects "PluginChains" ({ cls := "PluginChains", name := "image", desc := "()I" } : Jvm.MethodName) ({ cls := "PluginChains", name := "image", desc := "()I" } : Jvm.MethodName)) ∈ lw_all := lw_g (lw_at lw_m15 55 rfl) rfl
theorem q3496 : (Jvm.Cond.code ({ cls := "PluginChains", name := "image", desc := "()I" } : Jvm.MethodName) prog_1_method_62_code (1 : Nat) (Option.some Jvm.ClassFile.FieldType.int)) ∈ lw_all := lw_g (lw_at lw_m15 56 rfl) rfl
theorem q3498 : (Jvm.Cond.instanceMethod ({ cls := "PluginChains", name := "restore", desc := "()I" } : Jvm.MethodName)) ∈ lw_all := lw_g (lw_at lw_m15 58 rfl) rfl
theorem q3499 : (Jvm.Cond.selects "PluginChains" ({ cls := "PluginChains", name := "restore", desc := "()I" } : Jvm.MethodName) ({ cls := "PluginChains", name := "restore", desc := "()I" } : Jvm.MethodName)) ∈ lw_all := lw_g (lw_at lw_m15 59 rfl) rfl
theorem q3500 : (Jvm.Cond.codeWith ({ cls := "PluginChains", name := "restore", desc := "()I" } : Jvm.MethodName) prog_1_method_63_code (2 : Nat) (Option.some Jvm.ClassFile.FieldType.int) [((0 : Nat), (46 : Nat), (47 : Nat), (21 : Nat))]) ∈ lw_all := lw_g (lw_at lw_m15 60 rfl) rfl
theorem q3501 : (Jvm.Cond.methodLink "PluginChains" (530 : Nat) ({ cls := "PluginChains", name := "shelvesFollow", desc := "()V" } : Jvm.MethodName)) ∈ lw_all := lw_g (lw_at lw_m15 61 rfl) rfl
theorem q3502 : (Jvm.Cond.privateMethod ({ cls := "PluginChains", name := "shelvesFollow", desc := "()V" } : Jvm.MethodName)) ∈ lw_tbl := lw_at lw_m15 62 rfl
theorem q3503 : (Jvm.Cond.instanceMethod ({ cls := "PluginChains", name := "shelvesFollow", desc := "()V" } : Jvm.MethodName)) ∈ lw_all := lw_g (lw_at lw_m15 63 rfl) rfl
theorem q3504 : (Jvm.Cond.code ({ cls := "PluginChains", name := "shelvesFollow", desc := "()V" } : Jvm.MethodName) prog_1_method_21_code (6 : Nat) (Option.none : Option Jvm.ClassFile.FieldType)) ∈ lw_all := lw_g (lw_at lw_m15 64 rfl) rfl
theorem q3506 : (Jvm.Cond.instanceMethod ({ cls := "PluginChains", name := "status", desc := "(I)I" } : Jvm.MethodName)) ∈ lw_all := lw_g (lw_at lw_m15 66 rfl) rfl
theorem q3507 : (Jvm.Cond.selects "PluginChains" ({ cls := "PluginChains", name := "status", desc := "(I)I" } : Jvm.MethodName) ({ cls := "PluginChains", name := "status", desc := "(I)I" } : Jvm.MethodName)) ∈ lw_all := lw_g (lw_at lw_m15 67 rfl) rfl
theorem q3508 : (Jvm.Cond.code ({ cls := "PluginChains", name := "status", desc := "(I)I" } : Jvm.MethodName) prog_1_method_65_code (2 : Nat) (Option.some Jvm.ClassFile.FieldType.int)) ∈ lw_all := lw_g (lw_at lw_m15 68 rfl) rfl
theorem q3509 : (Jvm.Cond.methodLink "PluginChains" (533 : Nat) ({ cls := "PluginChains", name := "inState", desc := "(I)I" } : Jvm.MethodName)) ∈ lw_all := lw_g (lw_at lw_m15 69 rfl) rfl
theorem q3510 : (Jvm.Cond.privateMethod ({ cls := "PluginChains", name := "inState", desc := "(I)I" } : Jvm.MethodName)) ∈ lw_tbl := lw_at lw_m15 70 rfl
theorem q3511 : (Jvm.Cond.instanceMethod ({ cls := "PluginChains", name := "inState", desc := "(I)I" } : Jvm.MethodName)) ∈ lw_all := lw_g (lw_at lw_m15 71 rfl) rfl
theorem q3512 : (Jvm.Cond.code ({ cls := "PluginChains", name := "inState", desc := "(I)I" } : Jvm.MethodName) prog_1_method_64_code (4 : Nat) (Option.some Jvm.ClassFile.FieldType.int)) ∈ lw_all := lw_g (lw_at lw_m15 72 rfl) rfl
theorem q3513 : (Jvm.Cond.constantLong "PluginChains" (540 : Nat) (11 : Int64)) ∈ lw_all := lw_g (lw_at lw_m15 73 rfl) rfl
theorem q3514 : (Jvm.Cond.constantLong "PluginChains" (542 : Nat) (17 : Int64)) ∈ lw_all := lw_g (lw_at lw_m15 74 rfl) rfl
theorem q4048 : (Jvm.Cond.castable "PluginChains" "java/lang/Object") ∈ lw_tbl := lw_at lw_m17 128 rfl
theorem in_X0 : ∀ w ∈ wsX00, w ∈ lw_all := lw_in wsX00 [386, 388, 390, 392, 394, 396, 398, 400, 402, 404, 406, 408] (by decide +kernel) (by decide +kernel)

