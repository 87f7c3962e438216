/-! PluginChainsModel -/
set_option maxRecDepth 100000
def RX5 : String := "PluginChainsModel"
def TX5 : u_T := fun k => match k with
  | 0 => ("PluginChainsModel", "plugs", "I", false)
  | 1 => ("PluginChainsModel", "told", "[I", true)
  | 2 => ("PluginChainsModel", "clock", "I", false)
  | 3 => ("PluginChainsModel", "seed", "I", false)
  | 4 => ("PluginChainsModel", "hooks", "I", false)
  | 5 => ("PluginChainsModel", "hook", "[I", true)
  | 6 => ("PluginChainsModel", "holding", "[I", true)
  | 7 => ("PluginChainsModel", "rowLength", "[I", true)
  | 8 => ("PluginChainsModel", "rowOf", "[J", true)
  | 9 => ("PluginChainsModel", "fault", "I", false)
  | 10 => ("PluginChainsModel", "reading", "I", false)
  | 11 => ("PluginChainsModel", "at", "I", false)
  | 12 => ("PluginChainsModel", "causes", "I", false)
  | 13 => ("PluginChainsModel", "cause", "[I", true)
  | 14 => ("PluginChainsModel", "failed", "I", false)
  | 15 => ("PluginChainsModel", "fails", "[I", true)
  | 16 => ("PluginChainsModel", "busy", "I", false)
  | 17 => ("PluginChainsModel", "started", "I", false)
  | 18 => ("PluginChainsModel", "starts", "[I", true)
  | 19 => ("PluginChainsModel", "isThought", "Z", false)
  | 20 => ("PluginChainsModel", "logged", "I", false)
  | 21 => ("PluginChainsModel", "log", "[I", true)
  | 22 => ("PluginChainsModel", "waveOf", "[I", true)
  | 23 => ("PluginChainsModel", "many", "I", false)
  | 24 => ("PluginChainsModel", "chain", "[I", true)
  | 25 => ("PluginChainsModel", "outcome", "I", false)
  | 26 => ("PluginChainsModel", "thrown", "I", false)
  | 27 => ("PluginChainsModel", "ran", "I", false)
  | 28 => ("PluginChainsModel", "ranOnes", "[I", true)
  | 29 => ("PluginChainsModel", "notes", "[I", true)
  | 30 => ("PluginChainsModel", "lastRan", "I", false)
  | 31 => ("PluginChainsModel", "traces", "[I", true)
  | 32 => ("PluginChainsModel", "given", "I", false)
  | 33 => ("PluginChainsModel", "refusals", "[I", true)
  | 34 => ("PluginChainsModel", "imaged", "Z", false)
  | 35 => ("PluginChainsModel", "image", "[I", true)
  | _ => ("PluginChainsModel", "ahead", "[I", true)
def tyX5 : Nat → FieldType := fun k => match k with
  | 0 => .int
  | 1 => .array .int
  | 2 => .int
  | 3 => .int
  | 4 => .int
  | 5 => .array .int
  | 6 => .array .int
  | 7 => .array .int
  | 8 => .array .long
  | 9 => .int
  | 10 => .int
  | 11 => .int
  | 12 => .int
  | 13 => .array .int
  | 14 => .int
  | 15 => .array .int
  | 16 => .int
  | 17 => .int
  | 18 => .array .int
  | 19 => .boolean
  | 20 => .int
  | 21 => .array .int
  | 22 => .array .int
  | 23 => .int
  | 24 => .array .int
  | 25 => .int
  | 26 => .int
  | 27 => .int
  | 28 => .array .int
  | 29 => .array .int
  | 30 => .int
  | 31 => .array .int
  | 32 => .int
  | 33 => .array .int
  | 34 => .boolean
  | 35 => .array .int
  | _ => .array .int
abbrev wsX50 : List Cond := u_ws RX5 TX5 37
set_option maxRecDepth 100000 in
theorem nmX5 : ∀ a, a < 37 → ∀ b, b < 37 → a ≠ b → (TX5 a).2.1 ≠ (TX5 b).2.1 := by decide +kernel
set_option maxRecDepth 100000 in
theorem tyX5_ok : ∀ k, k < 37 → parseFieldDescriptor (TX5 k).2.2.1 = some (tyX5 k) := by decide +kernel
abbrev cX5_init : ByteArray := prog_40_method_1_code
def yX5_init : MethodName := ⟨RX5, "<init>", "()V"⟩
def dkwX5_init_7 : List UInt8 := [180, 0, 16, 27, 2, 79, 132, 1, 1, 167, 255, 240, 177]
abbrev dktX5_init_7 : List UInt8 := dkwX5_init_7 ++ []
def dkwX5_init_6 : List UInt8 := [181, 0, 59, 42, 4, 181, 0, 62, 42, 2, 181, 0, 66, 3, 60, 27, 16, 8, 162, 0, 16, 42]
abbrev dktX5_init_6 : List UInt8 := dkwX5_init_6 ++ dktX5_init_7
def dkwX5_init_5 : List UInt8 := [16, 8, 188, 10, 181, 0, 53, 42, 17, 0, 232, 188, 10, 181, 0, 56, 42, 17, 0, 232, 188, 10]
abbrev dktX5_init_5 : List UInt8 := dkwX5_init_5 ++ dktX5_init_6
def dkwX5_init_4 : List UInt8 := [16, 30, 188, 10, 181, 0, 44, 42, 16, 12, 188, 10, 181, 0, 47, 42, 16, 30, 188, 10, 181, 0, 50, 42]
abbrev dktX5_init_4 : List UInt8 := dkwX5_init_4 ++ dktX5_init_5
def dkwX5_init_3 : List UInt8 := [16, 40, 188, 10, 181, 0, 35, 42, 16, 12, 188, 10, 181, 0, 38, 42, 16, 24, 188, 10, 181, 0, 41, 42]
abbrev dktX5_init_3 : List UInt8 := dkwX5_init_3 ++ dktX5_init_4
def dkwX5_init_2 : List UInt8 := [16, 36, 188, 10, 181, 0, 26, 42, 16, 36, 188, 10, 181, 0, 29, 42, 16, 12, 188, 10, 181, 0, 32, 42]
abbrev dktX5_init_2 : List UInt8 := dkwX5_init_2 ++ dktX5_init_3
def dkwX5_init_1 : List UInt8 := [188, 10, 181, 0, 16, 42, 16, 8, 188, 10, 181, 0, 19, 42, 17, 5, 0, 188, 11, 181, 0, 22, 42]
abbrev dktX5_init_1 : List UInt8 := dkwX5_init_1 ++ dktX5_init_2
def dkwX5_init_0 : List UInt8 := [42, 183, 0, 1, 42, 16, 108, 188, 10, 181, 0, 7, 42, 16, 120, 188, 10, 181, 0, 13, 42, 16, 8]
abbrev dktX5_init_0 : List UInt8 := dkwX5_init_0 ++ dktX5_init_1
theorem dksX5_init_0 : cX5_init.data.toList.drop 0 = dktX5_init_0 := by decide +kernel
theorem dksX5_init_1 : cX5_init.data.toList.drop 23 = dktX5_init_1 := dk_seg dksX5_init_0 23 rfl rfl
theorem dksX5_init_2 : cX5_init.data.toList.drop 46 = dktX5_init_2 := dk_seg dksX5_init_1 23 rfl rfl
theorem dksX5_init_3 : cX5_init.data.toList.drop 70 = dktX5_init_3 := dk_seg dksX5_init_2 24 rfl rfl
theorem dksX5_init_4 : cX5_init.data.toList.drop 94 = dktX5_init_4 := dk_seg dksX5_init_3 24 rfl rfl
theorem dksX5_init_5 : cX5_init.data.toList.drop 118 = dktX5_init_5 := dk_seg dksX5_init_4 24 rfl rfl
theorem dksX5_init_6 : cX5_init.data.toList.drop 140 = dktX5_init_6 := dk_seg dksX5_init_5 22 rfl rfl
theorem dksX5_init_7 : cX5_init.data.toList.drop 162 = dktX5_init_7 := dk_seg dksX5_init_6 22 rfl rfl
theorem dX5_init_0 : decode cX5_init 0 = .ok (.aload_n 0, 1) := dk_42 (dk_at dksX5_init_0 0 rfl rfl)
theorem dX5_init_1 : decode cX5_init 1 = .ok (.invokespecial 1, 3) := dk_183 0 1 (dk_at dksX5_init_0 1 rfl rfl)
theorem dX5_init_4 : decode cX5_init 4 = .ok (.aload_n 0, 1) := dk_42 (dk_at dksX5_init_0 4 rfl rfl)
theorem dX5_init_5 : decode cX5_init 5 = .ok (.bipush 108, 2) := dk_16 108 (dk_at dksX5_init_0 5 rfl rfl)
theorem dX5_init_7 : decode cX5_init 7 = .ok (.newarray .int, 2) := dk_188_10 (dk_at dksX5_init_0 7 rfl rfl)
theorem dX5_init_9 : decode cX5_init 9 = .ok (.putfield 7, 3) := dk_181 0 7 (dk_at dksX5_init_0 9 rfl rfl)
theorem dX5_init_12 : decode cX5_init 12 = .ok (.aload_n 0, 1) := dk_42 (dk_at dksX5_init_0 12 rfl rfl)
theorem dX5_init_13 : decode cX5_init 13 = .ok (.bipush 120, 2) := dk_16 120 (dk_at dksX5_init_0 13 rfl rfl)
theorem dX5_init_15 : decode cX5_init 15 = .ok (.newarray .int, 2) := dk_188_10 (dk_at dksX5_init_0 15 rfl rfl)
theorem dX5_init_17 : decode cX5_init 17 = .ok (.putfield 13, 3) := dk_181 0 13 (dk_at dksX5_init_0 17 rfl rfl)
theorem dX5_init_20 : decode cX5_init 20 = .ok (.aload_n 0, 1) := dk_42 (dk_at dksX5_init_0 20 rfl rfl)
theorem dX5_init_21 : decode cX5_init 21 = .ok (.bipush 8, 2) := dk_16 8 (dk_at dksX5_init_0 21 rfl rfl)
theorem dX5_init_23 : decode cX5_init 23 = .ok (.newarray .int, 2) := dk_188_10 (dk_at dksX5_init_1 0 rfl rfl)
theorem dX5_init_25 : decode cX5_init 25 = .ok (.putfield 16, 3) := dk_181 0 16 (dk_at dksX5_init_1 2 rfl rfl)
theorem dX5_init_28 : decode cX5_init 28 = .ok (.aload_n 0, 1) := dk_42 (dk_at dksX5_init_1 5 rfl rfl)
theorem dX5_init_29 : decode cX5_init 29 = .ok (.bipush 8, 2) := dk_16 8 (dk_at dksX5_init_1 6 rfl rfl)
theorem dX5_init_31 : decode cX5_init 31 = .ok (.newarray .int, 2) := dk_188_10 (dk_at dksX5_init_1 8 rfl rfl)
theorem dX5_init_33 : decode cX5_init 33 = .ok (.putfield 19, 3) := dk_181 0 19 (dk_at dksX5_init_1 10 rfl rfl)
theorem dX5_init_36 : decode cX5_init 36 = .ok (.aload_n 0, 1) := dk_42 (dk_at dksX5_init_1 13 rfl rfl)
theorem dX5_init_37 : decode cX5_init 37 = .ok (.sipush 1280, 3) := dk_17 5 0 (dk_at dksX5_init_1 14 rfl rfl)
theorem dX5_init_40 : decode cX5_init 40 = .ok (.newarray .long, 2) := dk_188_11 (dk_at dksX5_init_1 17 rfl rfl)
theorem dX5_init_42 : decode cX5_init 42 = .ok (.putfield 22, 3) := dk_181 0 22 (dk_at dksX5_init_1 19 rfl rfl)
theorem dX5_init_45 : decode cX5_init 45 = .ok (.aload_n 0, 1) := dk_42 (dk_at dksX5_init_1 22 rfl rfl)
theorem dX5_init_46 : decode cX5_init 46 = .ok (.bipush 36, 2) := dk_16 36 (dk_at dksX5_init_2 0 rfl rfl)
theorem dX5_init_48 : decode cX5_init 48 = .ok (.newarray .int, 2) := dk_188_10 (dk_at dksX5_init_2 2 rfl rfl)
theorem dX5_init_50 : decode cX5_init 50 = .ok (.putfield 26, 3) := dk_181 0 26 (dk_at dksX5_init_2 4 rfl rfl)
theorem dX5_init_53 : decode cX5_init 53 = .ok (.aload_n 0, 1) := dk_42 (dk_at dksX5_init_2 7 rfl rfl)
theorem dX5_init_54 : decode cX5_init 54 = .ok (.bipush 36, 2) := dk_16 36 (dk_at dksX5_init_2 8 rfl rfl)
theorem dX5_init_56 : decode cX5_init 56 = .ok (.newarray .int, 2) := dk_188_10 (dk_at dksX5_init_2 10 rfl rfl)
theorem dX5_init_58 : decode cX5_init 58 = .ok (.putfield 29, 3) := dk_181 0 29 (dk_at dksX5_init_2 12 rfl rfl)
theorem dX5_init_61 : decode cX5_init 61 = .ok (.aload_n 0, 1) := dk_42 (dk_at dksX5_init_2 15 rfl rfl)
theorem dX5_init_62 : decode cX5_init 62 = .ok (.bipush 12, 2) := dk_16 12 (dk_at dksX5_init_2 16 rfl rfl)
theorem dX5_init_64 : decode cX5_init 64 = .ok (.newarray .int, 2) := dk_188_10 (dk_at dksX5_init_2 18 rfl rfl)
theorem dX5_init_66 : decode cX5_init 66 = .ok (.putfield 32, 3) := dk_181 0 32 (dk_at dksX5_init_2 20 rfl rfl)
theorem dX5_init_69 : decode cX5_init 69 = .ok (.aload_n 0, 1) := dk_42 (dk_at dksX5_init_2 23 rfl rfl)
theorem dX5_init_70 : decode cX5_init 70 = .ok (.bipush 40, 2) := dk_16 40 (dk_at dksX5_init_3 0 rfl rfl)
theorem dX5_init_72 : decode cX5_init 72 = .ok (.newarray .int, 2) := dk_188_10 (dk_at dksX5_init_3 2 rfl rfl)
theorem dX5_init_74 : decode cX5_init 74 = .ok (.putfield 35, 3) := dk_181 0 35 (dk_at dksX5_init_3 4 rfl rfl)
theorem dX5_init_77 : decode cX5_init 77 = .ok (.aload_n 0, 1) := dk_42 (dk_at dksX5_init_3 7 rfl rfl)
theorem dX5_init_78 : decode cX5_init 78 = .ok (.bipush 12, 2) := dk_16 12 (dk_at dksX5_init_3 8 rfl rfl)
theorem dX5_init_80 : decode cX5_init 80 = .ok (.newarray .int, 2) := dk_188_10 (dk_at dksX5_init_3 10 rfl rfl)
theorem dX5_init_82 : decode cX5_init 82 = .ok (.putfield 38, 3) := dk_181 0 38 (dk_at dksX5_init_3 12 rfl rfl)
theorem dX5_init_85 : decode cX5_init 85 = .ok (.aload_n 0, 1) := dk_42 (dk_at dksX5_init_3 15 rfl rfl)
theorem dX5_init_86 : decode cX5_init 86 = .ok (.bipush 24, 2) := dk_16 24 (dk_at dksX5_init_3 16 rfl rfl)
theorem dX5_init_88 : decode cX5_init 88 = .ok (.newarray .int, 2) := dk_188_10 (dk_at dksX5_init_3 18 rfl rfl)
theorem dX5_init_90 : decode cX5_init 90 = .ok (.putfield 41, 3) := dk_181 0 41 (dk_at dksX5_init_3 20 rfl rfl)
theorem dX5_init_93 : decode cX5_init 93 = .ok (.aload_n 0, 1) := dk_42 (dk_at dksX5_init_3 23 rfl rfl)
theorem dX5_init_94 : decode cX5_init 94 = .ok (.bipush 30, 2) := dk_16 30 (dk_at dksX5_init_4 0 rfl rfl)
theorem dX5_init_96 : decode cX5_init 96 = .ok (.newarray .int, 2) := dk_188_10 (dk_at dksX5_init_4 2 rfl rfl)
theorem dX5_init_98 : decode cX5_init 98 = .ok (.putfield 44, 3) := dk_181 0 44 (dk_at dksX5_init_4 4 rfl rfl)
theorem dX5_init_101 : decode cX5_init 101 = .ok (.aload_n 0, 1) := dk_42 (dk_at dksX5_init_4 7 rfl rfl)
theorem dX5_init_102 : decode cX5_init 102 = .ok (.bipush 12, 2) := dk_16 12 (dk_at dksX5_init_4 8 rfl rfl)
theorem dX5_init_104 : decode cX5_init 104 = .ok (.newarray .int, 2) := dk_188_10 (dk_at dksX5_init_4 10 rfl rfl)
theorem dX5_init_106 : decode cX5_init 106 = .ok (.putfield 47, 3) := dk_181 0 47 (dk_at dksX5_init_4 12 rfl rfl)
theorem dX5_init_109 : decode cX5_init 109 = .ok (.aload_n 0, 1) := dk_42 (dk_at dksX5_init_4 15 rfl rfl)
theorem dX5_init_110 : decode cX5_init 110 = .ok (.bipush 30, 2) := dk_16 30 (dk_at dksX5_init_4 16 rfl rfl)
theorem dX5_init_112 : decode cX5_init 112 = .ok (.newarray .int, 2) := dk_188_10 (dk_at dksX5_init_4 18 rfl rfl)
theorem dX5_init_114 : decode cX5_init 114 = .ok (.putfield 50, 3) := dk_181 0 50 (dk_at dksX5_init_4 20 rfl rfl)
theorem dX5_init_117 : decode cX5_init 117 = .ok (.aload_n 0, 1) := dk_42 (dk_at dksX5_init_4 23 rfl rfl)
theorem dX5_init_118 : decode cX5_init 118 = .ok (.bipush 8, 2) := dk_16 8 (dk_at dksX5_init_5 0 rfl rfl)
theorem dX5_init_120 : decode cX5_init 120 = .ok (.newarray .int, 2) := dk_188_10 (dk_at dksX5_init_5 2 rfl rfl)
theorem dX5_init_122 : decode cX5_init 122 = .ok (.putfield 53, 3) := dk_181 0 53 (dk_at dksX5_init_5 4 rfl rfl)
theorem dX5_init_125 : decode cX5_init 125 = .ok (.aload_n 0, 1) := dk_42 (dk_at dksX5_init_5 7 rfl rfl)
theorem dX5_init_126 : decode cX5_init 126 = .ok (.sipush 232, 3) := dk_17 0 232 (dk_at dksX5_init_5 8 rfl rfl)
theorem dX5_init_129 : decode cX5_init 129 = .ok (.newarray .int, 2) := dk_188_10 (dk_at dksX5_init_5 11 rfl rfl)
theorem dX5_init_131 : decode cX5_init 131 = .ok (.putfield 56, 3) := dk_181 0 56 (dk_at dksX5_init_5 13 rfl rfl)
theorem dX5_init_134 : decode cX5_init 134 = .ok (.aload_n 0, 1) := dk_42 (dk_at dksX5_init_5 16 rfl rfl)
theorem dX5_init_135 : decode cX5_init 135 = .ok (.sipush 232, 3) := dk_17 0 232 (dk_at dksX5_init_5 17 rfl rfl)
theorem dX5_init_138 : decode cX5_init 138 = .ok (.newarray .int, 2) := dk_188_10 (dk_at dksX5_init_5 20 rfl rfl)
theorem dX5_init_140 : decode cX5_init 140 = .ok (.putfield 59, 3) := dk_181 0 59 (dk_at dksX5_init_6 0 rfl rfl)
theorem dX5_init_143 : decode cX5_init 143 = .ok (.aload_n 0, 1) := dk_42 (dk_at dksX5_init_6 3 rfl rfl)
theorem dX5_init_144 : decode cX5_init 144 = .ok (.iconst 1, 1) := dk_4 (dk_at dksX5_init_6 4 rfl rfl)
theorem dX5_init_145 : decode cX5_init 145 = .ok (.putfield 62, 3) := dk_181 0 62 (dk_at dksX5_init_6 5 rfl rfl)
theorem dX5_init_148 : decode cX5_init 148 = .ok (.aload_n 0, 1) := dk_42 (dk_at dksX5_init_6 8 rfl rfl)
theorem dX5_init_149 : decode cX5_init 149 = .ok (.iconst (-1), 1) := dk_2 (dk_at dksX5_init_6 9 rfl rfl)
theorem dX5_init_150 : decode cX5_init 150 = .ok (.putfield 66, 3) := dk_181 0 66 (dk_at dksX5_init_6 10 rfl rfl)
theorem dX5_init_153 : decode cX5_init 153 = .ok (.iconst 0, 1) := dk_3 (dk_at dksX5_init_6 13 rfl rfl)
theorem dX5_init_154 : decode cX5_init 154 = .ok (.istore_n 1, 1) := dk_60 (dk_at dksX5_init_6 14 rfl rfl)
theorem dX5_init_155 : decode cX5_init 155 = .ok (.iload_n 1, 1) := dk_27 (dk_at dksX5_init_6 15 rfl rfl)
theorem dX5_init_156 : decode cX5_init 156 = .ok (.bipush 8, 2) := dk_16 8 (dk_at dksX5_init_6 16 rfl rfl)
theorem dX5_init_158 : decode cX5_init 158 = .ok (.if_icmp .ge 16, 3) := dk_162 0 16 (dk_at dksX5_init_6 18 rfl rfl)
theorem dX5_init_161 : decode cX5_init 161 = .ok (.aload_n 0, 1) := dk_42 (dk_at dksX5_init_6 21 rfl rfl)
theorem dX5_init_162 : decode cX5_init 162 = .ok (.getfield 16, 3) := dk_180 0 16 (dk_at dksX5_init_7 0 rfl rfl)
theorem dX5_init_165 : decode cX5_init 165 = .ok (.iload_n 1, 1) := dk_27 (dk_at dksX5_init_7 3 rfl rfl)
theorem dX5_init_166 : decode cX5_init 166 = .ok (.iconst (-1), 1) := dk_2 (dk_at dksX5_init_7 4 rfl rfl)
theorem dX5_init_167 : decode cX5_init 167 = .ok (.iastore, 1) := dk_79 (dk_at dksX5_init_7 5 rfl rfl)
theorem dX5_init_168 : decode cX5_init 168 = .ok (.iinc 1 1, 3) := dk_132 1 1 (dk_at dksX5_init_7 6 rfl rfl)
theorem dX5_init_171 : decode cX5_init 171 = .ok (.goto (-16), 3) := dk_167 255 240 (dk_at dksX5_init_7 9 rfl rfl)
theorem dX5_init_174 : decode cX5_init 174 = .ok (.return_, 1) := dk_177 (dk_at dksX5_init_7 12 rfl rfl)
abbrev cX5_row : ByteArray := prog_40_method_14_code
def yX5_row : MethodName := ⟨RX5, "row", "(III)I"⟩
def dkwX5_row_4 : List UInt8 := [21, 4, 96, 9, 80, 132, 4, 1, 167, 255, 231, 4, 172]
abbrev dktX5_row_4 : List UInt8 := dkwX5_row_4 ++ []
def dkwX5_row_3 : List UInt8 := [27, 29, 79, 3, 54, 4, 21, 4, 17, 0, 160, 162, 0, 23, 42, 180, 0, 22, 17, 0, 160, 27, 104]
abbrev dktX5_row_3 : List UInt8 := dkwX5_row_3 ++ dktX5_row_4
def dkwX5_row_2 : List UInt8 := [164, 0, 10, 42, 16, 249, 182, 0, 69, 172, 42, 180, 0, 16, 27, 16, 100, 28, 96, 79, 42, 180, 0, 19]
abbrev dktX5_row_2 : List UInt8 := dkwX5_row_2 ++ dktX5_row_3
def dkwX5_row_1 : List UInt8 := [182, 0, 69, 172, 28, 3, 6, 184, 0, 76, 154, 0, 10, 42, 16, 250, 182, 0, 69, 172, 29, 17, 0, 160]
abbrev dktX5_row_1 : List UInt8 := dkwX5_row_1 ++ dktX5_row_2
def dkwX5_row_0 : List UInt8 := [27, 3, 16, 7, 184, 0, 76, 154, 0, 9, 42, 2, 182, 0, 69, 172, 29, 156, 0, 10, 42, 16, 252]
abbrev dktX5_row_0 : List UInt8 := dkwX5_row_0 ++ dktX5_row_1
theorem dksX5_row_0 : cX5_row.data.toList.drop 0 = dktX5_row_0 := by decide +kernel
theorem dksX5_row_1 : cX5_row.data.toList.drop 23 = dktX5_row_1 := dk_seg dksX5_row_0 23 rfl rfl
theorem dksX5_row_2 : cX5_row.data.toList.drop 47 = dktX5_row_2 := dk_seg dksX5_row_1 24 rfl rfl
theorem dksX5_row_3 : cX5_row.data.toList.drop 71 = dktX5_row_3 := dk_seg dksX5_row_2 24 rfl rfl
theorem dksX5_row_4 : cX5_row.data.toList.drop 94 = dktX5_row_4 := dk_seg dksX5_row_3 23 rfl rfl
theorem dX5_row_0 : decode cX5_row 0 = .ok (.iload_n 1, 1) := dk_27 (dk_at dksX5_row_0 0 rfl rfl)
theorem dX5_row_1 : decode cX5_row 1 = .ok (.iconst 0, 1) := dk_3 (dk_at dksX5_row_0 1 rfl rfl)
theorem dX5_row_2 : decode cX5_row 2 = .ok (.bipush 7, 2) := dk_16 7 (dk_at dksX5_row_0 2 rfl rfl)
theorem dX5_row_4 : decode cX5_row 4 = .ok (.invokestatic 76, 3) := dk_184 0 76 (dk_at dksX5_row_0 4 rfl rfl)
theorem dX5_row_7 : decode cX5_row 7 = .ok (.ifCond .ne 9, 3) := dk_154 0 9 (dk_at dksX5_row_0 7 rfl rfl)
theorem dX5_row_10 : decode cX5_row 10 = .ok (.aload_n 0, 1) := dk_42 (dk_at dksX5_row_0 10 rfl rfl)
theorem dX5_row_11 : decode cX5_row 11 = .ok (.iconst (-1), 1) := dk_2 (dk_at dksX5_row_0 11 rfl rfl)
theorem dX5_row_12 : decode cX5_row 12 = .ok (.invokevirtual 69, 3) := dk_182 0 69 (dk_at dksX5_row_0 12 rfl rfl)
theorem dX5_row_15 : decode cX5_row 15 = .ok (.ireturn, 1) := dk_172 (dk_at dksX5_row_0 15 rfl rfl)
theorem dX5_row_16 : decode cX5_row 16 = .ok (.iload_n 3, 1) := dk_29 (dk_at dksX5_row_0 16 rfl rfl)
theorem dX5_row_17 : decode cX5_row 17 = .ok (.ifCond .ge 10, 3) := dk_156 0 10 (dk_at dksX5_row_0 17 rfl rfl)
theorem dX5_row_20 : decode cX5_row 20 = .ok (.aload_n 0, 1) := dk_42 (dk_at dksX5_row_0 20 rfl rfl)
theorem dX5_row_21 : decode cX5_row 21 = .ok (.bipush (-4), 2) := dk_16 252 (dk_at dksX5_row_0 21 rfl rfl)
theorem dX5_row_23 : decode cX5_row 23 = .ok (.invokevirtual 69, 3) := dk_182 0 69 (dk_at dksX5_row_1 0 rfl rfl)
theorem dX5_row_26 : decode cX5_row 26 = .ok (.ireturn, 1) := dk_172 (dk_at dksX5_row_1 3 rfl rfl)
theorem dX5_row_27 : decode cX5_row 27 = .ok (.iload_n 2, 1) := dk_28 (dk_at dksX5_row_1 4 rfl rfl)
theorem dX5_row_28 : decode cX5_row 28 = .ok (.iconst 0, 1) := dk_3 (dk_at dksX5_row_1 5 rfl rfl)
theorem dX5_row_29 : decode cX5_row 29 = .ok (.iconst 3, 1) := dk_6 (dk_at dksX5_row_1 6 rfl rfl)
theorem dX5_row_30 : decode cX5_row 30 = .ok (.invokestatic 76, 3) := dk_184 0 76 (dk_at dksX5_row_1 7 rfl rfl)
theorem dX5_row_33 : decode cX5_row 33 = .ok (.ifCond .ne 10, 3) := dk_154 0 10 (dk_at dksX5_row_1 10 rfl rfl)
theorem dX5_row_36 : decode cX5_row 36 = .ok (.aload_n 0, 1) := dk_42 (dk_at dksX5_row_1 13 rfl rfl)
theorem dX5_row_37 : decode cX5_row 37 = .ok (.bipush (-6), 2) := dk_16 250 (dk_at dksX5_row_1 14 rfl rfl)
theorem dX5_row_39 : decode cX5_row 39 = .ok (.invokevirtual 69, 3) := dk_182 0 69 (dk_at dksX5_row_1 16 rfl rfl)
theorem dX5_row_42 : decode cX5_row 42 = .ok (.ireturn, 1) := dk_172 (dk_at dksX5_row_1 19 rfl rfl)
theorem dX5_row_43 : decode cX5_row 43 = .ok (.iload_n 3, 1) := dk_29 (dk_at dksX5_row_1 20 rfl rfl)
theorem dX5_row_44 : decode cX5_row 44 = .ok (.sipush 160, 3) := dk_17 0 160 (dk_at dksX5_row_1 21 rfl rfl)
theorem dX5_row_47 : decode cX5_row 47 = .ok (.if_icmp .le 10, 3) := dk_164 0 10 (dk_at dksX5_row_2 0 rfl rfl)
theorem dX5_row_50 : decode cX5_row 50 = .ok (.aload_n 0, 1) := dk_42 (dk_at dksX5_row_2 3 rfl rfl)
theorem dX5_row_51 : decode cX5_row 51 = .ok (.bipush (-7), 2) := dk_16 249 (dk_at dksX5_row_2 4 rfl rfl)
theorem dX5_row_53 : decode cX5_row 53 = .ok (.invokevirtual 69, 3) := dk_182 0 69 (dk_at dksX5_row_2 6 rfl rfl)
theorem dX5_row_56 : decode cX5_row 56 = .ok (.ireturn, 1) := dk_172 (dk_at dksX5_row_2 9 rfl rfl)
theorem dX5_row_57 : decode cX5_row 57 = .ok (.aload_n 0, 1) := dk_42 (dk_at dksX5_row_2 10 rfl rfl)
theorem dX5_row_58 : decode cX5_row 58 = .ok (.getfield 16, 3) := dk_180 0 16 (dk_at dksX5_row_2 11 rfl rfl)
theorem dX5_row_61 : decode cX5_row 61 = .ok (.iload_n 1, 1) := dk_27 (dk_at dksX5_row_2 14 rfl rfl)
theorem dX5_row_62 : decode cX5_row 62 = .ok (.bipush 100, 2) := dk_16 100 (dk_at dksX5_row_2 15 rfl rfl)
theorem dX5_row_64 : decode cX5_row 64 = .ok (.iload_n 2, 1) := dk_28 (dk_at dksX5_row_2 17 rfl rfl)
theorem dX5_row_65 : decode cX5_row 65 = .ok (.iadd, 1) := dk_96 (dk_at dksX5_row_2 18 rfl rfl)
theorem dX5_row_66 : decode cX5_row 66 = .ok (.iastore, 1) := dk_79 (dk_at dksX5_row_2 19 rfl rfl)
theorem dX5_row_67 : decode cX5_row 67 = .ok (.aload_n 0, 1) := dk_42 (dk_at dksX5_row_2 20 rfl rfl)
theorem dX5_row_68 : decode cX5_row 68 = .ok (.getfield 19, 3) := dk_180 0 19 (dk_at dksX5_row_2 21 rfl rfl)
theorem dX5_row_71 : decode cX5_row 71 = .ok (.iload_n 1, 1) := dk_27 (dk_at dksX5_row_3 0 rfl rfl)
theorem dX5_row_72 : decode cX5_row 72 = .ok (.iload_n 3, 1) := dk_29 (dk_at dksX5_row_3 1 rfl rfl)
theorem dX5_row_73 : decode cX5_row 73 = .ok (.iastore, 1) := dk_79 (dk_at dksX5_row_3 2 rfl rfl)
theorem dX5_row_74 : decode cX5_row 74 = .ok (.iconst 0, 1) := dk_3 (dk_at dksX5_row_3 3 rfl rfl)
theorem dX5_row_75 : decode cX5_row 75 = .ok (.istore 4, 2) := dk_54 4 (dk_at dksX5_row_3 4 rfl rfl)
theorem dX5_row_77 : decode cX5_row 77 = .ok (.iload 4, 2) := dk_21 4 (dk_at dksX5_row_3 6 rfl rfl)
theorem dX5_row_79 : decode cX5_row 79 = .ok (.sipush 160, 3) := dk_17 0 160 (dk_at dksX5_row_3 8 rfl rfl)
theorem dX5_row_82 : decode cX5_row 82 = .ok (.if_icmp .ge 23, 3) := dk_162 0 23 (dk_at dksX5_row_3 11 rfl rfl)
theorem dX5_row_85 : decode cX5_row 85 = .ok (.aload_n 0, 1) := dk_42 (dk_at dksX5_row_3 14 rfl rfl)
theorem dX5_row_86 : decode cX5_row 86 = .ok (.getfield 22, 3) := dk_180 0 22 (dk_at dksX5_row_3 15 rfl rfl)
theorem dX5_row_89 : decode cX5_row 89 = .ok (.sipush 160, 3) := dk_17 0 160 (dk_at dksX5_row_3 18 rfl rfl)
theorem dX5_row_92 : decode cX5_row 92 = .ok (.iload_n 1, 1) := dk_27 (dk_at dksX5_row_3 21 rfl rfl)
theorem dX5_row_93 : decode cX5_row 93 = .ok (.imul, 1) := dk_104 (dk_at dksX5_row_3 22 rfl rfl)
theorem dX5_row_94 : decode cX5_row 94 = .ok (.iload 4, 2) := dk_21 4 (dk_at dksX5_row_4 0 rfl rfl)
theorem dX5_row_96 : decode cX5_row 96 = .ok (.iadd, 1) := dk_96 (dk_at dksX5_row_4 2 rfl rfl)
theorem dX5_row_97 : decode cX5_row 97 = .ok (.lconst 0, 1) := dk_9 (dk_at dksX5_row_4 3 rfl rfl)
theorem dX5_row_98 : decode cX5_row 98 = .ok (.lastore, 1) := dk_80 (dk_at dksX5_row_4 4 rfl rfl)
theorem dX5_row_99 : decode cX5_row 99 = .ok (.iinc 4 1, 3) := dk_132 4 1 (dk_at dksX5_row_4 5 rfl rfl)
theorem dX5_row_102 : decode cX5_row 102 = .ok (.goto (-25), 3) := dk_167 255 231 (dk_at dksX5_row_4 8 rfl rfl)
theorem dX5_row_105 : decode cX5_row 105 = .ok (.iconst 1, 1) := dk_4 (dk_at dksX5_row_4 11 rfl rfl)
theorem dX5_row_106 : decode cX5_row 106 = .ok (.ireturn, 1) := dk_172 (dk_at dksX5_row_4 12 rfl rfl)
abbrev cX5_within : ByteArray := prog_40_method_4_code
def yX5_within : MethodName := ⟨RX5, "within", "(III)Z"⟩
def dkwX5_within_0 : List UInt8 := [26, 27, 161, 0, 12, 26, 28, 163, 0, 7, 4, 167, 0, 4, 3, 172]
abbrev dktX5_within_0 : List UInt8 := dkwX5_within_0 ++ []
theorem dksX5_within_0 : cX5_within.data.toList.drop 0 = dktX5_within_0 := by decide +kernel
theorem dX5_within_0 : decode cX5_within 0 = .ok (.iload_n 0, 1) := dk_26 (dk_at dksX5_within_0 0 rfl rfl)
theorem dX5_within_1 : decode cX5_within 1 = .ok (.iload_n 1, 1) := dk_27 (dk_at dksX5_within_0 1 rfl rfl)
theorem dX5_within_2 : decode cX5_within 2 = .ok (.if_icmp .lt 12, 3) := dk_161 0 12 (dk_at dksX5_within_0 2 rfl rfl)
theorem dX5_within_5 : decode cX5_within 5 = .ok (.iload_n 0, 1) := dk_26 (dk_at dksX5_within_0 5 rfl rfl)
theorem dX5_within_6 : decode cX5_within 6 = .ok (.iload_n 2, 1) := dk_28 (dk_at dksX5_within_0 6 rfl rfl)
theorem dX5_within_7 : decode cX5_within 7 = .ok (.if_icmp .gt 7, 3) := dk_163 0 7 (dk_at dksX5_within_0 7 rfl rfl)
theorem dX5_within_10 : decode cX5_within 10 = .ok (.iconst 1, 1) := dk_4 (dk_at dksX5_within_0 10 rfl rfl)
theorem dX5_within_11 : decode cX5_within 11 = .ok (.goto 4, 3) := dk_167 0 4 (dk_at dksX5_within_0 11 rfl rfl)
theorem dX5_within_14 : decode cX5_within 14 = .ok (.iconst 0, 1) := dk_3 (dk_at dksX5_within_0 14 rfl rfl)
theorem dX5_within_15 : decode cX5_within 15 = .ok (.ireturn, 1) := dk_172 (dk_at dksX5_within_0 15 rfl rfl)
abbrev cX5_no : ByteArray := prog_40_method_2_code
def yX5_no : MethodName := ⟨RX5, "no", "(I)I"⟩
def dkwX5_no_0 : List UInt8 := [42, 180, 0, 53, 27, 116, 92, 46, 4, 96, 79, 27, 172]
abbrev dktX5_no_0 : List UInt8 := dkwX5_no_0 ++ []
theorem dksX5_no_0 : cX5_no.data.toList.drop 0 = dktX5_no_0 := by decide +kernel
theorem dX5_no_0 : decode cX5_no 0 = .ok (.aload_n 0, 1) := dk_42 (dk_at dksX5_no_0 0 rfl rfl)
theorem dX5_no_1 : decode cX5_no 1 = .ok (.getfield 53, 3) := dk_180 0 53 (dk_at dksX5_no_0 1 rfl rfl)
theorem dX5_no_4 : decode cX5_no 4 = .ok (.iload_n 1, 1) := dk_27 (dk_at dksX5_no_0 4 rfl rfl)
theorem dX5_no_5 : decode cX5_no 5 = .ok (.ineg, 1) := dk_116 (dk_at dksX5_no_0 5 rfl rfl)
theorem dX5_no_6 : decode cX5_no 6 = .ok (.dup2, 1) := dk_92 (dk_at dksX5_no_0 6 rfl rfl)
theorem dX5_no_7 : decode cX5_no 7 = .ok (.iaload, 1) := dk_46 (dk_at dksX5_no_0 7 rfl rfl)
theorem dX5_no_8 : decode cX5_no 8 = .ok (.iconst 1, 1) := dk_4 (dk_at dksX5_no_0 8 rfl rfl)
theorem dX5_no_9 : decode cX5_no 9 = .ok (.iadd, 1) := dk_96 (dk_at dksX5_no_0 9 rfl rfl)
theorem dX5_no_10 : decode cX5_no 10 = .ok (.iastore, 1) := dk_79 (dk_at dksX5_no_0 10 rfl rfl)
theorem dX5_no_11 : decode cX5_no 11 = .ok (.iload_n 1, 1) := dk_27 (dk_at dksX5_no_0 11 rfl rfl)
theorem dX5_no_12 : decode cX5_no 12 = .ok (.ireturn, 1) := dk_172 (dk_at dksX5_no_0 12 rfl rfl)
abbrev cX5_set : ByteArray := prog_40_method_16_code
def yX5_set : MethodName := ⟨RX5, "set", "(IIJ)I"⟩
def dkwX5_set_4 : List UInt8 := [160, 0, 9, 33, 136, 133, 167, 0, 4, 33, 80, 4, 172]
abbrev dktX5_set_4 : List UInt8 := dkwX5_set_4 ++ []
def dkwX5_set_3 : List UInt8 := [136, 145, 133, 167, 0, 29, 21, 6, 4, 160, 0, 10, 33, 136, 147, 133, 167, 0, 16, 21, 6, 5]
abbrev dktX5_set_3 : List UInt8 := dkwX5_set_3 ++ dktX5_set_4
def dkwX5_set_2 : List UInt8 := [27, 46, 16, 100, 100, 54, 6, 42, 180, 0, 22, 17, 0, 160, 27, 104, 28, 96, 21, 6, 154, 0, 10, 33]
abbrev dktX5_set_2 : List UInt8 := dkwX5_set_2 ++ dktX5_set_3
def dkwX5_set_1 : List UInt8 := [180, 0, 19, 27, 46, 4, 100, 184, 0, 76, 154, 0, 10, 42, 16, 251, 182, 0, 69, 172, 42, 180, 0, 16]
abbrev dktX5_set_1 : List UInt8 := dkwX5_set_1 ++ dktX5_set_2
def dkwX5_set_0 : List UInt8 := [42, 27, 182, 0, 88, 54, 5, 21, 5, 156, 0, 10, 42, 21, 5, 182, 0, 69, 172, 28, 3, 42]
abbrev dktX5_set_0 : List UInt8 := dkwX5_set_0 ++ dktX5_set_1
theorem dksX5_set_0 : cX5_set.data.toList.drop 0 = dktX5_set_0 := by decide +kernel
theorem dksX5_set_1 : cX5_set.data.toList.drop 22 = dktX5_set_1 := dk_seg dksX5_set_0 22 rfl rfl
theorem dksX5_set_2 : cX5_set.data.toList.drop 46 = dktX5_set_2 := dk_seg dksX5_set_1 24 rfl rfl
theorem dksX5_set_3 : cX5_set.data.toList.drop 70 = dktX5_set_3 := dk_seg dksX5_set_2 24 rfl rfl
theorem dksX5_set_4 : cX5_set.data.toList.drop 92 = dktX5_set_4 := dk_seg dksX5_set_3 22 rfl rfl
theorem dX5_set_0 : decode cX5_set 0 = .ok (.aload_n 0, 1) := dk_42 (dk_at dksX5_set_0 0 rfl rfl)
theorem dX5_set_1 : decode cX5_set 1 = .ok (.iload_n 1, 1) := dk_27 (dk_at dksX5_set_0 1 rfl rfl)
theorem dX5_set_2 : decode cX5_set 2 = .ok (.invokevirtual 88, 3) := dk_182 0 88 (dk_at dksX5_set_0 2 rfl rfl)
theorem dX5_set_5 : decode cX5_set 5 = .ok (.istore 5, 2) := dk_54 5 (dk_at dksX5_set_0 5 rfl rfl)
theorem dX5_set_7 : decode cX5_set 7 = .ok (.iload 5, 2) := dk_21 5 (dk_at dksX5_set_0 7 rfl rfl)
theorem dX5_set_9 : decode cX5_set 9 = .ok (.ifCond .ge 10, 3) := dk_156 0 10 (dk_at dksX5_set_0 9 rfl rfl)
theorem dX5_set_12 : decode cX5_set 12 = .ok (.aload_n 0, 1) := dk_42 (dk_at dksX5_set_0 12 rfl rfl)
theorem dX5_set_13 : decode cX5_set 13 = .ok (.iload 5, 2) := dk_21 5 (dk_at dksX5_set_0 13 rfl rfl)
theorem dX5_set_15 : decode cX5_set 15 = .ok (.invokevirtual 69, 3) := dk_182 0 69 (dk_at dksX5_set_0 15 rfl rfl)
theorem dX5_set_18 : decode cX5_set 18 = .ok (.ireturn, 1) := dk_172 (dk_at dksX5_set_0 18 rfl rfl)
theorem dX5_set_19 : decode cX5_set 19 = .ok (.iload_n 2, 1) := dk_28 (dk_at dksX5_set_0 19 rfl rfl)
theorem dX5_set_20 : decode cX5_set 20 = .ok (.iconst 0, 1) := dk_3 (dk_at dksX5_set_0 20 rfl rfl)
theorem dX5_set_21 : decode cX5_set 21 = .ok (.aload_n 0, 1) := dk_42 (dk_at dksX5_set_0 21 rfl rfl)
theorem dX5_set_22 : decode cX5_set 22 = .ok (.getfield 19, 3) := dk_180 0 19 (dk_at dksX5_set_1 0 rfl rfl)
theorem dX5_set_25 : decode cX5_set 25 = .ok (.iload_n 1, 1) := dk_27 (dk_at dksX5_set_1 3 rfl rfl)
theorem dX5_set_26 : decode cX5_set 26 = .ok (.iaload, 1) := dk_46 (dk_at dksX5_set_1 4 rfl rfl)
theorem dX5_set_27 : decode cX5_set 27 = .ok (.iconst 1, 1) := dk_4 (dk_at dksX5_set_1 5 rfl rfl)
theorem dX5_set_28 : decode cX5_set 28 = .ok (.isub, 1) := dk_100 (dk_at dksX5_set_1 6 rfl rfl)
theorem dX5_set_29 : decode cX5_set 29 = .ok (.invokestatic 76, 3) := dk_184 0 76 (dk_at dksX5_set_1 7 rfl rfl)
theorem dX5_set_32 : decode cX5_set 32 = .ok (.ifCond .ne 10, 3) := dk_154 0 10 (dk_at dksX5_set_1 10 rfl rfl)
theorem dX5_set_35 : decode cX5_set 35 = .ok (.aload_n 0, 1) := dk_42 (dk_at dksX5_set_1 13 rfl rfl)
theorem dX5_set_36 : decode cX5_set 36 = .ok (.bipush (-5), 2) := dk_16 251 (dk_at dksX5_set_1 14 rfl rfl)
theorem dX5_set_38 : decode cX5_set 38 = .ok (.invokevirtual 69, 3) := dk_182 0 69 (dk_at dksX5_set_1 16 rfl rfl)
theorem dX5_set_41 : decode cX5_set 41 = .ok (.ireturn, 1) := dk_172 (dk_at dksX5_set_1 19 rfl rfl)
theorem dX5_set_42 : decode cX5_set 42 = .ok (.aload_n 0, 1) := dk_42 (dk_at dksX5_set_1 20 rfl rfl)
theorem dX5_set_43 : decode cX5_set 43 = .ok (.getfield 16, 3) := dk_180 0 16 (dk_at dksX5_set_1 21 rfl rfl)
theorem dX5_set_46 : decode cX5_set 46 = .ok (.iload_n 1, 1) := dk_27 (dk_at dksX5_set_2 0 rfl rfl)
theorem dX5_set_47 : decode cX5_set 47 = .ok (.iaload, 1) := dk_46 (dk_at dksX5_set_2 1 rfl rfl)
theorem dX5_set_48 : decode cX5_set 48 = .ok (.bipush 100, 2) := dk_16 100 (dk_at dksX5_set_2 2 rfl rfl)
theorem dX5_set_50 : decode cX5_set 50 = .ok (.isub, 1) := dk_100 (dk_at dksX5_set_2 4 rfl rfl)
theorem dX5_set_51 : decode cX5_set 51 = .ok (.istore 6, 2) := dk_54 6 (dk_at dksX5_set_2 5 rfl rfl)
theorem dX5_set_53 : decode cX5_set 53 = .ok (.aload_n 0, 1) := dk_42 (dk_at dksX5_set_2 7 rfl rfl)
theorem dX5_set_54 : decode cX5_set 54 = .ok (.getfield 22, 3) := dk_180 0 22 (dk_at dksX5_set_2 8 rfl rfl)
theorem dX5_set_57 : decode cX5_set 57 = .ok (.sipush 160, 3) := dk_17 0 160 (dk_at dksX5_set_2 11 rfl rfl)
theorem dX5_set_60 : decode cX5_set 60 = .ok (.iload_n 1, 1) := dk_27 (dk_at dksX5_set_2 14 rfl rfl)
theorem dX5_set_61 : decode cX5_set 61 = .ok (.imul, 1) := dk_104 (dk_at dksX5_set_2 15 rfl rfl)
theorem dX5_set_62 : decode cX5_set 62 = .ok (.iload_n 2, 1) := dk_28 (dk_at dksX5_set_2 16 rfl rfl)
theorem dX5_set_63 : decode cX5_set 63 = .ok (.iadd, 1) := dk_96 (dk_at dksX5_set_2 17 rfl rfl)
theorem dX5_set_64 : decode cX5_set 64 = .ok (.iload 6, 2) := dk_21 6 (dk_at dksX5_set_2 18 rfl rfl)
theorem dX5_set_66 : decode cX5_set 66 = .ok (.ifCond .ne 10, 3) := dk_154 0 10 (dk_at dksX5_set_2 20 rfl rfl)
theorem dX5_set_69 : decode cX5_set 69 = .ok (.lload_n 3, 1) := dk_33 (dk_at dksX5_set_2 23 rfl rfl)
theorem dX5_set_70 : decode cX5_set 70 = .ok (.l2i, 1) := dk_136 (dk_at dksX5_set_3 0 rfl rfl)
theorem dX5_set_71 : decode cX5_set 71 = .ok (.i2b, 1) := dk_145 (dk_at dksX5_set_3 1 rfl rfl)
theorem dX5_set_72 : decode cX5_set 72 = .ok (.i2l, 1) := dk_133 (dk_at dksX5_set_3 2 rfl rfl)
theorem dX5_set_73 : decode cX5_set 73 = .ok (.goto 29, 3) := dk_167 0 29 (dk_at dksX5_set_3 3 rfl rfl)
theorem dX5_set_76 : decode cX5_set 76 = .ok (.iload 6, 2) := dk_21 6 (dk_at dksX5_set_3 6 rfl rfl)
theorem dX5_set_78 : decode cX5_set 78 = .ok (.iconst 1, 1) := dk_4 (dk_at dksX5_set_3 8 rfl rfl)
theorem dX5_set_79 : decode cX5_set 79 = .ok (.if_icmp .ne 10, 3) := dk_160 0 10 (dk_at dksX5_set_3 9 rfl rfl)
theorem dX5_set_82 : decode cX5_set 82 = .ok (.lload_n 3, 1) := dk_33 (dk_at dksX5_set_3 12 rfl rfl)
theorem dX5_set_83 : decode cX5_set 83 = .ok (.l2i, 1) := dk_136 (dk_at dksX5_set_3 13 rfl rfl)
theorem dX5_set_84 : decode cX5_set 84 = .ok (.i2s, 1) := dk_147 (dk_at dksX5_set_3 14 rfl rfl)
theorem dX5_set_85 : decode cX5_set 85 = .ok (.i2l, 1) := dk_133 (dk_at dksX5_set_3 15 rfl rfl)
theorem dX5_set_86 : decode cX5_set 86 = .ok (.goto 16, 3) := dk_167 0 16 (dk_at dksX5_set_3 16 rfl rfl)
theorem dX5_set_89 : decode cX5_set 89 = .ok (.iload 6, 2) := dk_21 6 (dk_at dksX5_set_3 19 rfl rfl)
theorem dX5_set_91 : decode cX5_set 91 = .ok (.iconst 2, 1) := dk_5 (dk_at dksX5_set_3 21 rfl rfl)
theorem dX5_set_92 : decode cX5_set 92 = .ok (.if_icmp .ne 9, 3) := dk_160 0 9 (dk_at dksX5_set_4 0 rfl rfl)
theorem dX5_set_95 : decode cX5_set 95 = .ok (.lload_n 3, 1) := dk_33 (dk_at dksX5_set_4 3 rfl rfl)
theorem dX5_set_96 : decode cX5_set 96 = .ok (.l2i, 1) := dk_136 (dk_at dksX5_set_4 4 rfl rfl)
theorem dX5_set_97 : decode cX5_set 97 = .ok (.i2l, 1) := dk_133 (dk_at dksX5_set_4 5 rfl rfl)
theorem dX5_set_98 : decode cX5_set 98 = .ok (.goto 4, 3) := dk_167 0 4 (dk_at dksX5_set_4 6 rfl rfl)
theorem dX5_set_101 : decode cX5_set 101 = .ok (.lload_n 3, 1) := dk_33 (dk_at dksX5_set_4 9 rfl rfl)
theorem dX5_set_102 : decode cX5_set 102 = .ok (.lastore, 1) := dk_80 (dk_at dksX5_set_4 10 rfl rfl)
theorem dX5_set_103 : decode cX5_set 103 = .ok (.iconst 1, 1) := dk_4 (dk_at dksX5_set_4 11 rfl rfl)
theorem dX5_set_104 : decode cX5_set 104 = .ok (.ireturn, 1) := dk_172 (dk_at dksX5_set_4 12 rfl rfl)
abbrev cX5_noRow : ByteArray := prog_40_method_15_code
def yX5_noRow : MethodName := ⟨RX5, "noRow", "(I)I"⟩
def dkwX5_noRow_2 : List UInt8 := [172]
abbrev dktX5_noRow_2 : List UInt8 := dkwX5_noRow_2 ++ []
def dkwX5_noRow_1 : List UInt8 := [182, 0, 84, 154, 0, 6, 16, 254, 172, 42, 180, 0, 16, 27, 46, 156, 0, 8, 16, 253, 167, 0, 4, 3]
abbrev dktX5_noRow_1 : List UInt8 := dkwX5_noRow_1 ++ dktX5_noRow_2
def dkwX5_noRow_0 : List UInt8 := [27, 3, 16, 7, 184, 0, 76, 154, 0, 5, 2, 172, 42, 180, 0, 16, 27, 46, 155, 0, 14, 42, 27]
abbrev dktX5_noRow_0 : List UInt8 := dkwX5_noRow_0 ++ dktX5_noRow_1
theorem dksX5_noRow_0 : cX5_noRow.data.toList.drop 0 = dktX5_noRow_0 := by decide +kernel
theorem dksX5_noRow_1 : cX5_noRow.data.toList.drop 23 = dktX5_noRow_1 := dk_seg dksX5_noRow_0 23 rfl rfl
theorem dksX5_noRow_2 : cX5_noRow.data.toList.drop 47 = dktX5_noRow_2 := dk_seg dksX5_noRow_1 24 rfl rfl
theorem dX5_noRow_0 : decode cX5_noRow 0 = .ok (.iload_n 1, 1) := dk_27 (dk_at dksX5_noRow_0 0 rfl rfl)
theorem dX5_noRow_1 : decode cX5_noRow 1 = .ok (.iconst 0, 1) := dk_3 (dk_at dksX5_noRow_0 1 rfl rfl)
theorem dX5_noRow_2 : decode cX5_noRow 2 = .ok (.bipush 7, 2) := dk_16 7 (dk_at dksX5_noRow_0 2 rfl rfl)
theorem dX5_noRow_4 : decode cX5_noRow 4 = .ok (.invokestatic 76, 3) := dk_184 0 76 (dk_at dksX5_noRow_0 4 rfl rfl)
theorem dX5_noRow_7 : decode cX5_noRow 7 = .ok (.ifCond .ne 5, 3) := dk_154 0 5 (dk_at dksX5_noRow_0 7 rfl rfl)
theorem dX5_noRow_10 : decode cX5_noRow 10 = .ok (.iconst (-1), 1) := dk_2 (dk_at dksX5_noRow_0 10 rfl rfl)
theorem dX5_noRow_11 : decode cX5_noRow 11 = .ok (.ireturn, 1) := dk_172 (dk_at dksX5_noRow_0 11 rfl rfl)
theorem dX5_noRow_12 : decode cX5_noRow 12 = .ok (.aload_n 0, 1) := dk_42 (dk_at dksX5_noRow_0 12 rfl rfl)
theorem dX5_noRow_13 : decode cX5_noRow 13 = .ok (.getfield 16, 3) := dk_180 0 16 (dk_at dksX5_noRow_0 13 rfl rfl)
theorem dX5_noRow_16 : decode cX5_noRow 16 = .ok (.iload_n 1, 1) := dk_27 (dk_at dksX5_noRow_0 16 rfl rfl)
theorem dX5_noRow_17 : decode cX5_noRow 17 = .ok (.iaload, 1) := dk_46 (dk_at dksX5_noRow_0 17 rfl rfl)
theorem dX5_noRow_18 : decode cX5_noRow 18 = .ok (.ifCond .lt 14, 3) := dk_155 0 14 (dk_at dksX5_noRow_0 18 rfl rfl)
theorem dX5_noRow_21 : decode cX5_noRow 21 = .ok (.aload_n 0, 1) := dk_42 (dk_at dksX5_noRow_0 21 rfl rfl)
theorem dX5_noRow_22 : decode cX5_noRow 22 = .ok (.iload_n 1, 1) := dk_27 (dk_at dksX5_noRow_0 22 rfl rfl)
theorem dX5_noRow_23 : decode cX5_noRow 23 = .ok (.invokevirtual 84, 3) := dk_182 0 84 (dk_at dksX5_noRow_1 0 rfl rfl)
theorem dX5_noRow_26 : decode cX5_noRow 26 = .ok (.ifCond .ne 6, 3) := dk_154 0 6 (dk_at dksX5_noRow_1 3 rfl rfl)
theorem dX5_noRow_29 : decode cX5_noRow 29 = .ok (.bipush (-2), 2) := dk_16 254 (dk_at dksX5_noRow_1 6 rfl rfl)
theorem dX5_noRow_31 : decode cX5_noRow 31 = .ok (.ireturn, 1) := dk_172 (dk_at dksX5_noRow_1 8 rfl rfl)
theorem dX5_noRow_32 : decode cX5_noRow 32 = .ok (.aload_n 0, 1) := dk_42 (dk_at dksX5_noRow_1 9 rfl rfl)
theorem dX5_noRow_33 : decode cX5_noRow 33 = .ok (.getfield 16, 3) := dk_180 0 16 (dk_at dksX5_noRow_1 10 rfl rfl)
theorem dX5_noRow_36 : decode cX5_noRow 36 = .ok (.iload_n 1, 1) := dk_27 (dk_at dksX5_noRow_1 13 rfl rfl)
theorem dX5_noRow_37 : decode cX5_noRow 37 = .ok (.iaload, 1) := dk_46 (dk_at dksX5_noRow_1 14 rfl rfl)
theorem dX5_noRow_38 : decode cX5_noRow 38 = .ok (.ifCond .ge 8, 3) := dk_156 0 8 (dk_at dksX5_noRow_1 15 rfl rfl)
theorem dX5_noRow_41 : decode cX5_noRow 41 = .ok (.bipush (-3), 2) := dk_16 253 (dk_at dksX5_noRow_1 18 rfl rfl)
theorem dX5_noRow_43 : decode cX5_noRow 43 = .ok (.goto 4, 3) := dk_167 0 4 (dk_at dksX5_noRow_1 20 rfl rfl)
theorem dX5_noRow_46 : decode cX5_noRow 46 = .ok (.iconst 0, 1) := dk_3 (dk_at dksX5_noRow_1 23 rfl rfl)
theorem dX5_noRow_47 : decode cX5_noRow 47 = .ok (.ireturn, 1) := dk_172 (dk_at dksX5_noRow_2 0 rfl rfl)
abbrev cX5_isRow : ByteArray := prog_40_method_8_code
def yX5_isRow : MethodName := ⟨RX5, "isRow", "(I)Z"⟩
def dkwX5_isRow_0 : List UInt8 := [42, 180, 0, 16, 27, 46, 16, 100, 161, 0, 7, 4, 167, 0, 4, 3, 172]
abbrev dktX5_isRow_0 : List UInt8 := dkwX5_isRow_0 ++ []
theorem dksX5_isRow_0 : cX5_isRow.data.toList.drop 0 = dktX5_isRow_0 := by decide +kernel
theorem dX5_isRow_0 : decode cX5_isRow 0 = .ok (.aload_n 0, 1) := dk_42 (dk_at dksX5_isRow_0 0 rfl rfl)
theorem dX5_isRow_1 : decode cX5_isRow 1 = .ok (.getfield 16, 3) := dk_180 0 16 (dk_at dksX5_isRow_0 1 rfl rfl)
theorem dX5_isRow_4 : decode cX5_isRow 4 = .ok (.iload_n 1, 1) := dk_27 (dk_at dksX5_isRow_0 4 rfl rfl)
theorem dX5_isRow_5 : decode cX5_isRow 5 = .ok (.iaload, 1) := dk_46 (dk_at dksX5_isRow_0 5 rfl rfl)
theorem dX5_isRow_6 : decode cX5_isRow 6 = .ok (.bipush 100, 2) := dk_16 100 (dk_at dksX5_isRow_0 6 rfl rfl)
theorem dX5_isRow_8 : decode cX5_isRow 8 = .ok (.if_icmp .lt 7, 3) := dk_161 0 7 (dk_at dksX5_isRow_0 8 rfl rfl)
theorem dX5_isRow_11 : decode cX5_isRow 11 = .ok (.iconst 1, 1) := dk_4 (dk_at dksX5_isRow_0 11 rfl rfl)
theorem dX5_isRow_12 : decode cX5_isRow 12 = .ok (.goto 4, 3) := dk_167 0 4 (dk_at dksX5_isRow_0 12 rfl rfl)
theorem dX5_isRow_15 : decode cX5_isRow 15 = .ok (.iconst 0, 1) := dk_3 (dk_at dksX5_isRow_0 15 rfl rfl)
theorem dX5_isRow_16 : decode cX5_isRow 16 = .ok (.ireturn, 1) := dk_172 (dk_at dksX5_isRow_0 16 rfl rfl)
abbrev cX5_copy : ByteArray := prog_40_method_17_code
def yX5_copy : MethodName := ⟨RX5, "copy", "(IIIII)I"⟩
def dkwX5_copy_12 : List UInt8 := [17, 0, 160, 27, 104, 29, 96, 21, 6, 96, 47, 80, 132, 6, 1, 167, 255, 215, 4, 172]
abbrev dktX5_copy_12 : List UInt8 := dkwX5_copy_12 ++ []
def dkwX5_copy_11 : List UInt8 := [162, 0, 40, 42, 180, 0, 22, 17, 0, 160, 28, 104, 21, 4, 96, 21, 6, 96, 42, 180, 0, 22]
abbrev dktX5_copy_11 : List UInt8 := dkwX5_copy_11 ++ dktX5_copy_12
def dkwX5_copy_10 : List UInt8 := [96, 21, 6, 96, 47, 80, 132, 6, 255, 167, 255, 217, 167, 0, 50, 3, 54, 6, 21, 6, 21, 5]
abbrev dktX5_copy_10 : List UInt8 := dkwX5_copy_10 ++ dktX5_copy_11
def dkwX5_copy_9 : List UInt8 := [180, 0, 22, 17, 0, 160, 28, 104, 21, 4, 96, 21, 6, 96, 42, 180, 0, 22, 17, 0, 160, 27, 104, 29]
abbrev dktX5_copy_9 : List UInt8 := dkwX5_copy_9 ++ dktX5_copy_10
def dkwX5_copy_8 : List UInt8 := [28, 160, 0, 60, 29, 21, 4, 162, 0, 54, 21, 5, 4, 100, 54, 6, 21, 6, 155, 0, 40, 42]
abbrev dktX5_copy_8 : List UInt8 := dkwX5_copy_8 ++ dktX5_copy_9
def dkwX5_copy_7 : List UInt8 := [133, 21, 5, 133, 97, 42, 180, 0, 19, 28, 46, 133, 148, 158, 0, 10, 42, 16, 251, 182, 0, 69, 172, 27]
abbrev dktX5_copy_7 : List UInt8 := dkwX5_copy_7 ++ dktX5_copy_8
def dkwX5_copy_6 : List UInt8 := [21, 4, 155, 0, 38, 29, 133, 21, 5, 133, 97, 42, 180, 0, 19, 27, 46, 133, 148, 157, 0, 21, 21, 4]
abbrev dktX5_copy_6 : List UInt8 := dkwX5_copy_6 ++ dktX5_copy_7
def dkwX5_copy_5 : List UInt8 := [42, 16, 253, 182, 0, 69, 172, 21, 5, 156, 0, 10, 42, 16, 252, 182, 0, 69, 172, 29, 155, 0, 43]
abbrev dktX5_copy_5 : List UInt8 := dkwX5_copy_5 ++ dktX5_copy_6
def dkwX5_copy_4 : List UInt8 := [16, 254, 182, 0, 69, 172, 42, 180, 0, 16, 27, 46, 155, 0, 12, 42, 180, 0, 16, 28, 46, 156, 0, 10]
abbrev dktX5_copy_4 : List UInt8 := dkwX5_copy_4 ++ dktX5_copy_5
def dkwX5_copy_3 : List UInt8 := [42, 28, 182, 0, 84, 153, 0, 25, 42, 180, 0, 16, 27, 46, 42, 180, 0, 16, 28, 46, 159, 0, 10, 42]
abbrev dktX5_copy_3 : List UInt8 := dkwX5_copy_3 ++ dktX5_copy_4
def dkwX5_copy_2 : List UInt8 := [180, 0, 16, 28, 46, 155, 0, 11, 42, 28, 182, 0, 84, 153, 0, 34, 42, 27, 182, 0, 84, 153, 0, 33]
abbrev dktX5_copy_2 : List UInt8 := dkwX5_copy_2 ++ dktX5_copy_3
def dkwX5_copy_1 : List UInt8 := [182, 0, 69, 172, 42, 180, 0, 16, 27, 46, 155, 0, 11, 42, 27, 182, 0, 84, 153, 0, 51, 42]
abbrev dktX5_copy_1 : List UInt8 := dkwX5_copy_1 ++ dktX5_copy_2
def dkwX5_copy_0 : List UInt8 := [27, 3, 16, 7, 184, 0, 76, 153, 0, 13, 28, 3, 16, 7, 184, 0, 76, 154, 0, 9, 42, 2]
abbrev dktX5_copy_0 : List UInt8 := dkwX5_copy_0 ++ dktX5_copy_1
theorem dksX5_copy_0 : cX5_copy.data.toList.drop 0 = dktX5_copy_0 := by decide +kernel
theorem dksX5_copy_1 : cX5_copy.data.toList.drop 22 = dktX5_copy_1 := dk_seg dksX5_copy_0 22 rfl rfl
theorem dksX5_copy_2 : cX5_copy.data.toList.drop 44 = dktX5_copy_2 := dk_seg dksX5_copy_1 22 rfl rfl
theorem dksX5_copy_3 : cX5_copy.data.toList.drop 68 = dktX5_copy_3 := dk_seg dksX5_copy_2 24 rfl rfl
theorem dksX5_copy_4 : cX5_copy.data.toList.drop 92 = dktX5_copy_4 := dk_seg dksX5_copy_3 24 rfl rfl
theorem dksX5_copy_5 : cX5_copy.data.toList.drop 116 = dktX5_copy_5 := dk_seg dksX5_copy_4 24 rfl rfl
theorem dksX5_copy_6 : cX5_copy.data.toList.drop 139 = dktX5_copy_6 := dk_seg dksX5_copy_5 23 rfl rfl
theorem dksX5_copy_7 : cX5_copy.data.toList.drop 163 = dktX5_copy_7 := dk_seg dksX5_copy_6 24 rfl rfl
theorem dksX5_copy_8 : cX5_copy.data.toList.drop 187 = dktX5_copy_8 := dk_seg dksX5_copy_7 24 rfl rfl
theorem dksX5_copy_9 : cX5_copy.data.toList.drop 209 = dktX5_copy_9 := dk_seg dksX5_copy_8 22 rfl rfl
theorem dksX5_copy_10 : cX5_copy.data.toList.drop 233 = dktX5_copy_10 := dk_seg dksX5_copy_9 24 rfl rfl
theorem dksX5_copy_11 : cX5_copy.data.toList.drop 255 = dktX5_copy_11 := dk_seg dksX5_copy_10 22 rfl rfl
theorem dksX5_copy_12 : cX5_copy.data.toList.drop 277 = dktX5_copy_12 := dk_seg dksX5_copy_11 22 rfl rfl
theorem dX5_copy_0 : decode cX5_copy 0 = .ok (.iload_n 1, 1) := dk_27 (dk_at dksX5_copy_0 0 rfl rfl)
theorem dX5_copy_1 : decode cX5_copy 1 = .ok (.iconst 0, 1) := dk_3 (dk_at dksX5_copy_0 1 rfl rfl)
theorem dX5_copy_2 : decode cX5_copy 2 = .ok (.bipush 7, 2) := dk_16 7 (dk_at dksX5_copy_0 2 rfl rfl)
theorem dX5_copy_4 : decode cX5_copy 4 = .ok (.invokestatic 76, 3) := dk_184 0 76 (dk_at dksX5_copy_0 4 rfl rfl)
theorem dX5_copy_7 : decode cX5_copy 7 = .ok (.ifCond .eq 13, 3) := dk_153 0 13 (dk_at dksX5_copy_0 7 rfl rfl)
theorem dX5_copy_10 : decode cX5_copy 10 = .ok (.iload_n 2, 1) := dk_28 (dk_at dksX5_copy_0 10 rfl rfl)
theorem dX5_copy_11 : decode cX5_copy 11 = .ok (.iconst 0, 1) := dk_3 (dk_at dksX5_copy_0 11 rfl rfl)
theorem dX5_copy_12 : decode cX5_copy 12 = .ok (.bipush 7, 2) := dk_16 7 (dk_at dksX5_copy_0 12 rfl rfl)
theorem dX5_copy_14 : decode cX5_copy 14 = .ok (.invokestatic 76, 3) := dk_184 0 76 (dk_at dksX5_copy_0 14 rfl rfl)
theorem dX5_copy_17 : decode cX5_copy 17 = .ok (.ifCond .ne 9, 3) := dk_154 0 9 (dk_at dksX5_copy_0 17 rfl rfl)
theorem dX5_copy_20 : decode cX5_copy 20 = .ok (.aload_n 0, 1) := dk_42 (dk_at dksX5_copy_0 20 rfl rfl)
theorem dX5_copy_21 : decode cX5_copy 21 = .ok (.iconst (-1), 1) := dk_2 (dk_at dksX5_copy_0 21 rfl rfl)
theorem dX5_copy_22 : decode cX5_copy 22 = .ok (.invokevirtual 69, 3) := dk_182 0 69 (dk_at dksX5_copy_1 0 rfl rfl)
theorem dX5_copy_25 : decode cX5_copy 25 = .ok (.ireturn, 1) := dk_172 (dk_at dksX5_copy_1 3 rfl rfl)
theorem dX5_copy_26 : decode cX5_copy 26 = .ok (.aload_n 0, 1) := dk_42 (dk_at dksX5_copy_1 4 rfl rfl)
theorem dX5_copy_27 : decode cX5_copy 27 = .ok (.getfield 16, 3) := dk_180 0 16 (dk_at dksX5_copy_1 5 rfl rfl)
theorem dX5_copy_30 : decode cX5_copy 30 = .ok (.iload_n 1, 1) := dk_27 (dk_at dksX5_copy_1 8 rfl rfl)
theorem dX5_copy_31 : decode cX5_copy 31 = .ok (.iaload, 1) := dk_46 (dk_at dksX5_copy_1 9 rfl rfl)
theorem dX5_copy_32 : decode cX5_copy 32 = .ok (.ifCond .lt 11, 3) := dk_155 0 11 (dk_at dksX5_copy_1 10 rfl rfl)
theorem dX5_copy_35 : decode cX5_copy 35 = .ok (.aload_n 0, 1) := dk_42 (dk_at dksX5_copy_1 13 rfl rfl)
theorem dX5_copy_36 : decode cX5_copy 36 = .ok (.iload_n 1, 1) := dk_27 (dk_at dksX5_copy_1 14 rfl rfl)
theorem dX5_copy_37 : decode cX5_copy 37 = .ok (.invokevirtual 84, 3) := dk_182 0 84 (dk_at dksX5_copy_1 15 rfl rfl)
theorem dX5_copy_40 : decode cX5_copy 40 = .ok (.ifCond .eq 51, 3) := dk_153 0 51 (dk_at dksX5_copy_1 18 rfl rfl)
theorem dX5_copy_43 : decode cX5_copy 43 = .ok (.aload_n 0, 1) := dk_42 (dk_at dksX5_copy_1 21 rfl rfl)
theorem dX5_copy_44 : decode cX5_copy 44 = .ok (.getfield 16, 3) := dk_180 0 16 (dk_at dksX5_copy_2 0 rfl rfl)
theorem dX5_copy_47 : decode cX5_copy 47 = .ok (.iload_n 2, 1) := dk_28 (dk_at dksX5_copy_2 3 rfl rfl)
theorem dX5_copy_48 : decode cX5_copy 48 = .ok (.iaload, 1) := dk_46 (dk_at dksX5_copy_2 4 rfl rfl)
theorem dX5_copy_49 : decode cX5_copy 49 = .ok (.ifCond .lt 11, 3) := dk_155 0 11 (dk_at dksX5_copy_2 5 rfl rfl)
theorem dX5_copy_52 : decode cX5_copy 52 = .ok (.aload_n 0, 1) := dk_42 (dk_at dksX5_copy_2 8 rfl rfl)
theorem dX5_copy_53 : decode cX5_copy 53 = .ok (.iload_n 2, 1) := dk_28 (dk_at dksX5_copy_2 9 rfl rfl)
theorem dX5_copy_54 : decode cX5_copy 54 = .ok (.invokevirtual 84, 3) := dk_182 0 84 (dk_at dksX5_copy_2 10 rfl rfl)
theorem dX5_copy_57 : decode cX5_copy 57 = .ok (.ifCond .eq 34, 3) := dk_153 0 34 (dk_at dksX5_copy_2 13 rfl rfl)
theorem dX5_copy_60 : decode cX5_copy 60 = .ok (.aload_n 0, 1) := dk_42 (dk_at dksX5_copy_2 16 rfl rfl)
theorem dX5_copy_61 : decode cX5_copy 61 = .ok (.iload_n 1, 1) := dk_27 (dk_at dksX5_copy_2 17 rfl rfl)
theorem dX5_copy_62 : decode cX5_copy 62 = .ok (.invokevirtual 84, 3) := dk_182 0 84 (dk_at dksX5_copy_2 18 rfl rfl)
theorem dX5_copy_65 : decode cX5_copy 65 = .ok (.ifCond .eq 33, 3) := dk_153 0 33 (dk_at dksX5_copy_2 21 rfl rfl)
theorem dX5_copy_68 : decode cX5_copy 68 = .ok (.aload_n 0, 1) := dk_42 (dk_at dksX5_copy_3 0 rfl rfl)
theorem dX5_copy_69 : decode cX5_copy 69 = .ok (.iload_n 2, 1) := dk_28 (dk_at dksX5_copy_3 1 rfl rfl)
theorem dX5_copy_70 : decode cX5_copy 70 = .ok (.invokevirtual 84, 3) := dk_182 0 84 (dk_at dksX5_copy_3 2 rfl rfl)
theorem dX5_copy_73 : decode cX5_copy 73 = .ok (.ifCond .eq 25, 3) := dk_153 0 25 (dk_at dksX5_copy_3 5 rfl rfl)
theorem dX5_copy_76 : decode cX5_copy 76 = .ok (.aload_n 0, 1) := dk_42 (dk_at dksX5_copy_3 8 rfl rfl)
theorem dX5_copy_77 : decode cX5_copy 77 = .ok (.getfield 16, 3) := dk_180 0 16 (dk_at dksX5_copy_3 9 rfl rfl)
theorem dX5_copy_80 : decode cX5_copy 80 = .ok (.iload_n 1, 1) := dk_27 (dk_at dksX5_copy_3 12 rfl rfl)
theorem dX5_copy_81 : decode cX5_copy 81 = .ok (.iaload, 1) := dk_46 (dk_at dksX5_copy_3 13 rfl rfl)
theorem dX5_copy_82 : decode cX5_copy 82 = .ok (.aload_n 0, 1) := dk_42 (dk_at dksX5_copy_3 14 rfl rfl)
theorem dX5_copy_83 : decode cX5_copy 83 = .ok (.getfield 16, 3) := dk_180 0 16 (dk_at dksX5_copy_3 15 rfl rfl)
theorem dX5_copy_86 : decode cX5_copy 86 = .ok (.iload_n 2, 1) := dk_28 (dk_at dksX5_copy_3 18 rfl rfl)
theorem dX5_copy_87 : decode cX5_copy 87 = .ok (.iaload, 1) := dk_46 (dk_at dksX5_copy_3 19 rfl rfl)
theorem dX5_copy_88 : decode cX5_copy 88 = .ok (.if_icmp .eq 10, 3) := dk_159 0 10 (dk_at dksX5_copy_3 20 rfl rfl)
theorem dX5_copy_91 : decode cX5_copy 91 = .ok (.aload_n 0, 1) := dk_42 (dk_at dksX5_copy_3 23 rfl rfl)
theorem dX5_copy_92 : decode cX5_copy 92 = .ok (.bipush (-2), 2) := dk_16 254 (dk_at dksX5_copy_4 0 rfl rfl)
theorem dX5_copy_94 : decode cX5_copy 94 = .ok (.invokevirtual 69, 3) := dk_182 0 69 (dk_at dksX5_copy_4 2 rfl rfl)
theorem dX5_copy_97 : decode cX5_copy 97 = .ok (.ireturn, 1) := dk_172 (dk_at dksX5_copy_4 5 rfl rfl)
theorem dX5_copy_98 : decode cX5_copy 98 = .ok (.aload_n 0, 1) := dk_42 (dk_at dksX5_copy_4 6 rfl rfl)
theorem dX5_copy_99 : decode cX5_copy 99 = .ok (.getfield 16, 3) := dk_180 0 16 (dk_at dksX5_copy_4 7 rfl rfl)
theorem dX5_copy_102 : decode cX5_copy 102 = .ok (.iload_n 1, 1) := dk_27 (dk_at dksX5_copy_4 10 rfl rfl)
theorem dX5_copy_103 : decode cX5_copy 103 = .ok (.iaload, 1) := dk_46 (dk_at dksX5_copy_4 11 rfl rfl)
theorem dX5_copy_104 : decode cX5_copy 104 = .ok (.ifCond .lt 12, 3) := dk_155 0 12 (dk_at dksX5_copy_4 12 rfl rfl)
theorem dX5_copy_107 : decode cX5_copy 107 = .ok (.aload_n 0, 1) := dk_42 (dk_at dksX5_copy_4 15 rfl rfl)
theorem dX5_copy_108 : decode cX5_copy 108 = .ok (.getfield 16, 3) := dk_180 0 16 (dk_at dksX5_copy_4 16 rfl rfl)
theorem dX5_copy_111 : decode cX5_copy 111 = .ok (.iload_n 2, 1) := dk_28 (dk_at dksX5_copy_4 19 rfl rfl)
theorem dX5_copy_112 : decode cX5_copy 112 = .ok (.iaload, 1) := dk_46 (dk_at dksX5_copy_4 20 rfl rfl)
theorem dX5_copy_113 : decode cX5_copy 113 = .ok (.ifCond .ge 10, 3) := dk_156 0 10 (dk_at dksX5_copy_4 21 rfl rfl)
theorem dX5_copy_116 : decode cX5_copy 116 = .ok (.aload_n 0, 1) := dk_42 (dk_at dksX5_copy_5 0 rfl rfl)
theorem dX5_copy_117 : decode cX5_copy 117 = .ok (.bipush (-3), 2) := dk_16 253 (dk_at dksX5_copy_5 1 rfl rfl)
theorem dX5_copy_119 : decode cX5_copy 119 = .ok (.invokevirtual 69, 3) := dk_182 0 69 (dk_at dksX5_copy_5 3 rfl rfl)
theorem dX5_copy_122 : decode cX5_copy 122 = .ok (.ireturn, 1) := dk_172 (dk_at dksX5_copy_5 6 rfl rfl)
theorem dX5_copy_123 : decode cX5_copy 123 = .ok (.iload 5, 2) := dk_21 5 (dk_at dksX5_copy_5 7 rfl rfl)
theorem dX5_copy_125 : decode cX5_copy 125 = .ok (.ifCond .ge 10, 3) := dk_156 0 10 (dk_at dksX5_copy_5 9 rfl rfl)
theorem dX5_copy_128 : decode cX5_copy 128 = .ok (.aload_n 0, 1) := dk_42 (dk_at dksX5_copy_5 12 rfl rfl)
theorem dX5_copy_129 : decode cX5_copy 129 = .ok (.bipush (-4), 2) := dk_16 252 (dk_at dksX5_copy_5 13 rfl rfl)
theorem dX5_copy_131 : decode cX5_copy 131 = .ok (.invokevirtual 69, 3) := dk_182 0 69 (dk_at dksX5_copy_5 15 rfl rfl)
theorem dX5_copy_134 : decode cX5_copy 134 = .ok (.ireturn, 1) := dk_172 (dk_at dksX5_copy_5 18 rfl rfl)
theorem dX5_copy_135 : decode cX5_copy 135 = .ok (.iload_n 3, 1) := dk_29 (dk_at dksX5_copy_5 19 rfl rfl)
theorem dX5_copy_136 : decode cX5_copy 136 = .ok (.ifCond .lt 43, 3) := dk_155 0 43 (dk_at dksX5_copy_5 20 rfl rfl)
theorem dX5_copy_139 : decode cX5_copy 139 = .ok (.iload 4, 2) := dk_21 4 (dk_at dksX5_copy_6 0 rfl rfl)
theorem dX5_copy_141 : decode cX5_copy 141 = .ok (.ifCond .lt 38, 3) := dk_155 0 38 (dk_at dksX5_copy_6 2 rfl rfl)
theorem dX5_copy_144 : decode cX5_copy 144 = .ok (.iload_n 3, 1) := dk_29 (dk_at dksX5_copy_6 5 rfl rfl)
theorem dX5_copy_145 : decode cX5_copy 145 = .ok (.i2l, 1) := dk_133 (dk_at dksX5_copy_6 6 rfl rfl)
theorem dX5_copy_146 : decode cX5_copy 146 = .ok (.iload 5, 2) := dk_21 5 (dk_at dksX5_copy_6 7 rfl rfl)
theorem dX5_copy_148 : decode cX5_copy 148 = .ok (.i2l, 1) := dk_133 (dk_at dksX5_copy_6 9 rfl rfl)
theorem dX5_copy_149 : decode cX5_copy 149 = .ok (.ladd, 1) := dk_97 (dk_at dksX5_copy_6 10 rfl rfl)
theorem dX5_copy_150 : decode cX5_copy 150 = .ok (.aload_n 0, 1) := dk_42 (dk_at dksX5_copy_6 11 rfl rfl)
theorem dX5_copy_151 : decode cX5_copy 151 = .ok (.getfield 19, 3) := dk_180 0 19 (dk_at dksX5_copy_6 12 rfl rfl)
theorem dX5_copy_154 : decode cX5_copy 154 = .ok (.iload_n 1, 1) := dk_27 (dk_at dksX5_copy_6 15 rfl rfl)
theorem dX5_copy_155 : decode cX5_copy 155 = .ok (.iaload, 1) := dk_46 (dk_at dksX5_copy_6 16 rfl rfl)
theorem dX5_copy_156 : decode cX5_copy 156 = .ok (.i2l, 1) := dk_133 (dk_at dksX5_copy_6 17 rfl rfl)
theorem dX5_copy_157 : decode cX5_copy 157 = .ok (.lcmp, 1) := dk_148 (dk_at dksX5_copy_6 18 rfl rfl)
theorem dX5_copy_158 : decode cX5_copy 158 = .ok (.ifCond .gt 21, 3) := dk_157 0 21 (dk_at dksX5_copy_6 19 rfl rfl)
theorem dX5_copy_161 : decode cX5_copy 161 = .ok (.iload 4, 2) := dk_21 4 (dk_at dksX5_copy_6 22 rfl rfl)
theorem dX5_copy_163 : decode cX5_copy 163 = .ok (.i2l, 1) := dk_133 (dk_at dksX5_copy_7 0 rfl rfl)
theorem dX5_copy_164 : decode cX5_copy 164 = .ok (.iload 5, 2) := dk_21 5 (dk_at dksX5_copy_7 1 rfl rfl)
theorem dX5_copy_166 : decode cX5_copy 166 = .ok (.i2l, 1) := dk_133 (dk_at dksX5_copy_7 3 rfl rfl)
theorem dX5_copy_167 : decode cX5_copy 167 = .ok (.ladd, 1) := dk_97 (dk_at dksX5_copy_7 4 rfl rfl)
theorem dX5_copy_168 : decode cX5_copy 168 = .ok (.aload_n 0, 1) := dk_42 (dk_at dksX5_copy_7 5 rfl rfl)
theorem dX5_copy_169 : decode cX5_copy 169 = .ok (.getfield 19, 3) := dk_180 0 19 (dk_at dksX5_copy_7 6 rfl rfl)
theorem dX5_copy_172 : decode cX5_copy 172 = .ok (.iload_n 2, 1) := dk_28 (dk_at dksX5_copy_7 9 rfl rfl)
theorem dX5_copy_173 : decode cX5_copy 173 = .ok (.iaload, 1) := dk_46 (dk_at dksX5_copy_7 10 rfl rfl)
theorem dX5_copy_174 : decode cX5_copy 174 = .ok (.i2l, 1) := dk_133 (dk_at dksX5_copy_7 11 rfl rfl)
theorem dX5_copy_175 : decode cX5_copy 175 = .ok (.lcmp, 1) := dk_148 (dk_at dksX5_copy_7 12 rfl rfl)
theorem dX5_copy_176 : decode cX5_copy 176 = .ok (.ifCond .le 10, 3) := dk_158 0 10 (dk_at dksX5_copy_7 13 rfl rfl)
theorem dX5_copy_179 : decode cX5_copy 179 = .ok (.aload_n 0, 1) := dk_42 (dk_at dksX5_copy_7 16 rfl rfl)
theorem dX5_copy_180 : decode cX5_copy 180 = .ok (.bipush (-5), 2) := dk_16 251 (dk_at dksX5_copy_7 17 rfl rfl)
theorem dX5_copy_182 : decode cX5_copy 182 = .ok (.invokevirtual 69, 3) := dk_182 0 69 (dk_at dksX5_copy_7 19 rfl rfl)
theorem dX5_copy_185 : decode cX5_copy 185 = .ok (.ireturn, 1) := dk_172 (dk_at dksX5_copy_7 22 rfl rfl)
theorem dX5_copy_186 : decode cX5_copy 186 = .ok (.iload_n 1, 1) := dk_27 (dk_at dksX5_copy_7 23 rfl rfl)
theorem dX5_copy_187 : decode cX5_copy 187 = .ok (.iload_n 2, 1) := dk_28 (dk_at dksX5_copy_8 0 rfl rfl)
theorem dX5_copy_188 : decode cX5_copy 188 = .ok (.if_icmp .ne 60, 3) := dk_160 0 60 (dk_at dksX5_copy_8 1 rfl rfl)
theorem dX5_copy_191 : decode cX5_copy 191 = .ok (.iload_n 3, 1) := dk_29 (dk_at dksX5_copy_8 4 rfl rfl)
theorem dX5_copy_192 : decode cX5_copy 192 = .ok (.iload 4, 2) := dk_21 4 (dk_at dksX5_copy_8 5 rfl rfl)
theorem dX5_copy_194 : decode cX5_copy 194 = .ok (.if_icmp .ge 54, 3) := dk_162 0 54 (dk_at dksX5_copy_8 7 rfl rfl)
theorem dX5_copy_197 : decode cX5_copy 197 = .ok (.iload 5, 2) := dk_21 5 (dk_at dksX5_copy_8 10 rfl rfl)
theorem dX5_copy_199 : decode cX5_copy 199 = .ok (.iconst 1, 1) := dk_4 (dk_at dksX5_copy_8 12 rfl rfl)
theorem dX5_copy_200 : decode cX5_copy 200 = .ok (.isub, 1) := dk_100 (dk_at dksX5_copy_8 13 rfl rfl)
theorem dX5_copy_201 : decode cX5_copy 201 = .ok (.istore 6, 2) := dk_54 6 (dk_at dksX5_copy_8 14 rfl rfl)
theorem dX5_copy_203 : decode cX5_copy 203 = .ok (.iload 6, 2) := dk_21 6 (dk_at dksX5_copy_8 16 rfl rfl)
theorem dX5_copy_205 : decode cX5_copy 205 = .ok (.ifCond .lt 40, 3) := dk_155 0 40 (dk_at dksX5_copy_8 18 rfl rfl)
theorem dX5_copy_208 : decode cX5_copy 208 = .ok (.aload_n 0, 1) := dk_42 (dk_at dksX5_copy_8 21 rfl rfl)
theorem dX5_copy_209 : decode cX5_copy 209 = .ok (.getfield 22, 3) := dk_180 0 22 (dk_at dksX5_copy_9 0 rfl rfl)
theorem dX5_copy_212 : decode cX5_copy 212 = .ok (.sipush 160, 3) := dk_17 0 160 (dk_at dksX5_copy_9 3 rfl rfl)
theorem dX5_copy_215 : decode cX5_copy 215 = .ok (.iload_n 2, 1) := dk_28 (dk_at dksX5_copy_9 6 rfl rfl)
theorem dX5_copy_216 : decode cX5_copy 216 = .ok (.imul, 1) := dk_104 (dk_at dksX5_copy_9 7 rfl rfl)
theorem dX5_copy_217 : decode cX5_copy 217 = .ok (.iload 4, 2) := dk_21 4 (dk_at dksX5_copy_9 8 rfl rfl)
theorem dX5_copy_219 : decode cX5_copy 219 = .ok (.iadd, 1) := dk_96 (dk_at dksX5_copy_9 10 rfl rfl)
theorem dX5_copy_220 : decode cX5_copy 220 = .ok (.iload 6, 2) := dk_21 6 (dk_at dksX5_copy_9 11 rfl rfl)
theorem dX5_copy_222 : decode cX5_copy 222 = .ok (.iadd, 1) := dk_96 (dk_at dksX5_copy_9 13 rfl rfl)
theorem dX5_copy_223 : decode cX5_copy 223 = .ok (.aload_n 0, 1) := dk_42 (dk_at dksX5_copy_9 14 rfl rfl)
theorem dX5_copy_224 : decode cX5_copy 224 = .ok (.getfield 22, 3) := dk_180 0 22 (dk_at dksX5_copy_9 15 rfl rfl)
theorem dX5_copy_227 : decode cX5_copy 227 = .ok (.sipush 160, 3) := dk_17 0 160 (dk_at dksX5_copy_9 18 rfl rfl)
theorem dX5_copy_230 : decode cX5_copy 230 = .ok (.iload_n 1, 1) := dk_27 (dk_at dksX5_copy_9 21 rfl rfl)
theorem dX5_copy_231 : decode cX5_copy 231 = .ok (.imul, 1) := dk_104 (dk_at dksX5_copy_9 22 rfl rfl)
theorem dX5_copy_232 : decode cX5_copy 232 = .ok (.iload_n 3, 1) := dk_29 (dk_at dksX5_copy_9 23 rfl rfl)
theorem dX5_copy_233 : decode cX5_copy 233 = .ok (.iadd, 1) := dk_96 (dk_at dksX5_copy_10 0 rfl rfl)
theorem dX5_copy_234 : decode cX5_copy 234 = .ok (.iload 6, 2) := dk_21 6 (dk_at dksX5_copy_10 1 rfl rfl)
theorem dX5_copy_236 : decode cX5_copy 236 = .ok (.iadd, 1) := dk_96 (dk_at dksX5_copy_10 3 rfl rfl)
theorem dX5_copy_237 : decode cX5_copy 237 = .ok (.laload, 1) := dk_47 (dk_at dksX5_copy_10 4 rfl rfl)
theorem dX5_copy_238 : decode cX5_copy 238 = .ok (.lastore, 1) := dk_80 (dk_at dksX5_copy_10 5 rfl rfl)
theorem dX5_copy_239 : decode cX5_copy 239 = .ok (.iinc 6 (-1), 3) := dk_132 6 255 (dk_at dksX5_copy_10 6 rfl rfl)
theorem dX5_copy_242 : decode cX5_copy 242 = .ok (.goto (-39), 3) := dk_167 255 217 (dk_at dksX5_copy_10 9 rfl rfl)
theorem dX5_copy_245 : decode cX5_copy 245 = .ok (.goto 50, 3) := dk_167 0 50 (dk_at dksX5_copy_10 12 rfl rfl)
theorem dX5_copy_248 : decode cX5_copy 248 = .ok (.iconst 0, 1) := dk_3 (dk_at dksX5_copy_10 15 rfl rfl)
theorem dX5_copy_249 : decode cX5_copy 249 = .ok (.istore 6, 2) := dk_54 6 (dk_at dksX5_copy_10 16 rfl rfl)
theorem dX5_copy_251 : decode cX5_copy 251 = .ok (.iload 6, 2) := dk_21 6 (dk_at dksX5_copy_10 18 rfl rfl)
theorem dX5_copy_253 : decode cX5_copy 253 = .ok (.iload 5, 2) := dk_21 5 (dk_at dksX5_copy_10 20 rfl rfl)
theorem dX5_copy_255 : decode cX5_copy 255 = .ok (.if_icmp .ge 40, 3) := dk_162 0 40 (dk_at dksX5_copy_11 0 rfl rfl)
theorem dX5_copy_258 : decode cX5_copy 258 = .ok (.aload_n 0, 1) := dk_42 (dk_at dksX5_copy_11 3 rfl rfl)
theorem dX5_copy_259 : decode cX5_copy 259 = .ok (.getfield 22, 3) := dk_180 0 22 (dk_at dksX5_copy_11 4 rfl rfl)
theorem dX5_copy_262 : decode cX5_copy 262 = .ok (.sipush 160, 3) := dk_17 0 160 (dk_at dksX5_copy_11 7 rfl rfl)
theorem dX5_copy_265 : decode cX5_copy 265 = .ok (.iload_n 2, 1) := dk_28 (dk_at dksX5_copy_11 10 rfl rfl)
theorem dX5_copy_266 : decode cX5_copy 266 = .ok (.imul, 1) := dk_104 (dk_at dksX5_copy_11 11 rfl rfl)
theorem dX5_copy_267 : decode cX5_copy 267 = .ok (.iload 4, 2) := dk_21 4 (dk_at dksX5_copy_11 12 rfl rfl)
theorem dX5_copy_269 : decode cX5_copy 269 = .ok (.iadd, 1) := dk_96 (dk_at dksX5_copy_11 14 rfl rfl)
theorem dX5_copy_270 : decode cX5_copy 270 = .ok (.iload 6, 2) := dk_21 6 (dk_at dksX5_copy_11 15 rfl rfl)
theorem dX5_copy_272 : decode cX5_copy 272 = .ok (.iadd, 1) := dk_96 (dk_at dksX5_copy_11 17 rfl rfl)
theorem dX5_copy_273 : decode cX5_copy 273 = .ok (.aload_n 0, 1) := dk_42 (dk_at dksX5_copy_11 18 rfl rfl)
theorem dX5_copy_274 : decode cX5_copy 274 = .ok (.getfield 22, 3) := dk_180 0 22 (dk_at dksX5_copy_11 19 rfl rfl)
theorem dX5_copy_277 : decode cX5_copy 277 = .ok (.sipush 160, 3) := dk_17 0 160 (dk_at dksX5_copy_12 0 rfl rfl)
theorem dX5_copy_280 : decode cX5_copy 280 = .ok (.iload_n 1, 1) := dk_27 (dk_at dksX5_copy_12 3 rfl rfl)
theorem dX5_copy_281 : decode cX5_copy 281 = .ok (.imul, 1) := dk_104 (dk_at dksX5_copy_12 4 rfl rfl)
theorem dX5_copy_282 : decode cX5_copy 282 = .ok (.iload_n 3, 1) := dk_29 (dk_at dksX5_copy_12 5 rfl rfl)
theorem dX5_copy_283 : decode cX5_copy 283 = .ok (.iadd, 1) := dk_96 (dk_at dksX5_copy_12 6 rfl rfl)
theorem dX5_copy_284 : decode cX5_copy 284 = .ok (.iload 6, 2) := dk_21 6 (dk_at dksX5_copy_12 7 rfl rfl)
theorem dX5_copy_286 : decode cX5_copy 286 = .ok (.iadd, 1) := dk_96 (dk_at dksX5_copy_12 9 rfl rfl)
theorem dX5_copy_287 : decode cX5_copy 287 = .ok (.laload, 1) := dk_47 (dk_at dksX5_copy_12 10 rfl rfl)
theorem dX5_copy_288 : decode cX5_copy 288 = .ok (.lastore, 1) := dk_80 (dk_at dksX5_copy_12 11 rfl rfl)
theorem dX5_copy_289 : decode cX5_copy 289 = .ok (.iinc 6 1, 3) := dk_132 6 1 (dk_at dksX5_copy_12 12 rfl rfl)
theorem dX5_copy_292 : decode cX5_copy 292 = .ok (.goto (-41), 3) := dk_167 255 215 (dk_at dksX5_copy_12 15 rfl rfl)
theorem dX5_copy_295 : decode cX5_copy 295 = .ok (.iconst 1, 1) := dk_4 (dk_at dksX5_copy_12 18 rfl rfl)
theorem dX5_copy_296 : decode cX5_copy 296 = .ok (.ireturn, 1) := dk_172 (dk_at dksX5_copy_12 19 rfl rfl)
abbrev cX5_element : ByteArray := prog_40_method_18_code
def yX5_element : MethodName := ⟨RX5, "element", "(II)J"⟩
def dkwX5_element_2 : List UInt8 := [167, 0, 4, 9, 173]
abbrev dktX5_element_2 : List UInt8 := dkwX5_element_2 ++ []
def dkwX5_element_1 : List UInt8 := [27, 46, 4, 100, 184, 0, 76, 153, 0, 18, 42, 180, 0, 22, 17, 0, 160, 27, 104, 28, 96, 47]
abbrev dktX5_element_1 : List UInt8 := dkwX5_element_1 ++ dktX5_element_2
def dkwX5_element_0 : List UInt8 := [27, 3, 16, 7, 184, 0, 76, 153, 0, 42, 42, 27, 182, 0, 84, 153, 0, 34, 28, 3, 42, 180, 0, 19]
abbrev dktX5_element_0 : List UInt8 := dkwX5_element_0 ++ dktX5_element_1
theorem dksX5_element_0 : cX5_element.data.toList.drop 0 = dktX5_element_0 := by decide +kernel
theorem dksX5_element_1 : cX5_element.data.toList.drop 24 = dktX5_element_1 := dk_seg dksX5_element_0 24 rfl rfl
theorem dksX5_element_2 : cX5_element.data.toList.drop 46 = dktX5_element_2 := dk_seg dksX5_element_1 22 rfl rfl
theorem dX5_element_0 : decode cX5_element 0 = .ok (.iload_n 1, 1) := dk_27 (dk_at dksX5_element_0 0 rfl rfl)
theorem dX5_element_1 : decode cX5_element 1 = .ok (.iconst 0, 1) := dk_3 (dk_at dksX5_element_0 1 rfl rfl)
theorem dX5_element_2 : decode cX5_element 2 = .ok (.bipush 7, 2) := dk_16 7 (dk_at dksX5_element_0 2 rfl rfl)
theorem dX5_element_4 : decode cX5_element 4 = .ok (.invokestatic 76, 3) := dk_184 0 76 (dk_at dksX5_element_0 4 rfl rfl)
theorem dX5_element_7 : decode cX5_element 7 = .ok (.ifCond .eq 42, 3) := dk_153 0 42 (dk_at dksX5_element_0 7 rfl rfl)
theorem dX5_element_10 : decode cX5_element 10 = .ok (.aload_n 0, 1) := dk_42 (dk_at dksX5_element_0 10 rfl rfl)
theorem dX5_element_11 : decode cX5_element 11 = .ok (.iload_n 1, 1) := dk_27 (dk_at dksX5_element_0 11 rfl rfl)
theorem dX5_element_12 : decode cX5_element 12 = .ok (.invokevirtual 84, 3) := dk_182 0 84 (dk_at dksX5_element_0 12 rfl rfl)
theorem dX5_element_15 : decode cX5_element 15 = .ok (.ifCond .eq 34, 3) := dk_153 0 34 (dk_at dksX5_element_0 15 rfl rfl)
theorem dX5_element_18 : decode cX5_element 18 = .ok (.iload_n 2, 1) := dk_28 (dk_at dksX5_element_0 18 rfl rfl)
theorem dX5_element_19 : decode cX5_element 19 = .ok (.iconst 0, 1) := dk_3 (dk_at dksX5_element_0 19 rfl rfl)
theorem dX5_element_20 : decode cX5_element 20 = .ok (.aload_n 0, 1) := dk_42 (dk_at dksX5_element_0 20 rfl rfl)
theorem dX5_element_21 : decode cX5_element 21 = .ok (.getfield 19, 3) := dk_180 0 19 (dk_at dksX5_element_0 21 rfl rfl)
theorem dX5_element_24 : decode cX5_element 24 = .ok (.iload_n 1, 1) := dk_27 (dk_at dksX5_element_1 0 rfl rfl)
theorem dX5_element_25 : decode cX5_element 25 = .ok (.iaload, 1) := dk_46 (dk_at dksX5_element_1 1 rfl rfl)
theorem dX5_element_26 : decode cX5_element 26 = .ok (.iconst 1, 1) := dk_4 (dk_at dksX5_element_1 2 rfl rfl)
theorem dX5_element_27 : decode cX5_element 27 = .ok (.isub, 1) := dk_100 (dk_at dksX5_element_1 3 rfl rfl)
theorem dX5_element_28 : decode cX5_element 28 = .ok (.invokestatic 76, 3) := dk_184 0 76 (dk_at dksX5_element_1 4 rfl rfl)
theorem dX5_element_31 : decode cX5_element 31 = .ok (.ifCond .eq 18, 3) := dk_153 0 18 (dk_at dksX5_element_1 7 rfl rfl)
theorem dX5_element_34 : decode cX5_element 34 = .ok (.aload_n 0, 1) := dk_42 (dk_at dksX5_element_1 10 rfl rfl)
theorem dX5_element_35 : decode cX5_element 35 = .ok (.getfield 22, 3) := dk_180 0 22 (dk_at dksX5_element_1 11 rfl rfl)
theorem dX5_element_38 : decode cX5_element 38 = .ok (.sipush 160, 3) := dk_17 0 160 (dk_at dksX5_element_1 14 rfl rfl)
theorem dX5_element_41 : decode cX5_element 41 = .ok (.iload_n 1, 1) := dk_27 (dk_at dksX5_element_1 17 rfl rfl)
theorem dX5_element_42 : decode cX5_element 42 = .ok (.imul, 1) := dk_104 (dk_at dksX5_element_1 18 rfl rfl)
theorem dX5_element_43 : decode cX5_element 43 = .ok (.iload_n 2, 1) := dk_28 (dk_at dksX5_element_1 19 rfl rfl)
theorem dX5_element_44 : decode cX5_element 44 = .ok (.iadd, 1) := dk_96 (dk_at dksX5_element_1 20 rfl rfl)
theorem dX5_element_45 : decode cX5_element 45 = .ok (.laload, 1) := dk_47 (dk_at dksX5_element_1 21 rfl rfl)
theorem dX5_element_46 : decode cX5_element 46 = .ok (.goto 4, 3) := dk_167 0 4 (dk_at dksX5_element_2 0 rfl rfl)
theorem dX5_element_49 : decode cX5_element 49 = .ok (.lconst 0, 1) := dk_9 (dk_at dksX5_element_2 3 rfl rfl)
theorem dX5_element_50 : decode cX5_element 50 = .ok (.lreturn, 1) := dk_173 (dk_at dksX5_element_2 4 rfl rfl)
abbrev cX5_show : ByteArray := prog_40_method_19_code
def yX5_show : MethodName := ⟨RX5, "show", "(II)I"⟩
def dkwX5_show_1 : List UInt8 := [2, 182, 0, 69, 172, 42, 180, 0, 16, 27, 28, 79, 28, 2, 160, 0, 7, 3, 167, 0, 4, 4, 172]
abbrev dktX5_show_1 : List UInt8 := dkwX5_show_1 ++ []
def dkwX5_show_0 : List UInt8 := [27, 3, 16, 7, 184, 0, 76, 153, 0, 16, 28, 2, 159, 0, 17, 42, 28, 182, 0, 91, 154, 0, 9, 42]
abbrev dktX5_show_0 : List UInt8 := dkwX5_show_0 ++ dktX5_show_1
theorem dksX5_show_0 : cX5_show.data.toList.drop 0 = dktX5_show_0 := by decide +kernel
theorem dksX5_show_1 : cX5_show.data.toList.drop 24 = dktX5_show_1 := dk_seg dksX5_show_0 24 rfl rfl
theorem dX5_show_0 : decode cX5_show 0 = .ok (.iload_n 1, 1) := dk_27 (dk_at dksX5_show_0 0 rfl rfl)
theorem dX5_show_1 : decode cX5_show 1 = .ok (.iconst 0, 1) := dk_3 (dk_at dksX5_show_0 1 rfl rfl)
theorem dX5_show_2 : decode cX5_show 2 = .ok (.bipush 7, 2) := dk_16 7 (dk_at dksX5_show_0 2 rfl rfl)
theorem dX5_show_4 : decode cX5_show 4 = .ok (.invokestatic 76, 3) := dk_184 0 76 (dk_at dksX5_show_0 4 rfl rfl)
theorem dX5_show_7 : decode cX5_show 7 = .ok (.ifCond .eq 16, 3) := dk_153 0 16 (dk_at dksX5_show_0 7 rfl rfl)
theorem dX5_show_10 : decode cX5_show 10 = .ok (.iload_n 2, 1) := dk_28 (dk_at dksX5_show_0 10 rfl rfl)
theorem dX5_show_11 : decode cX5_show 11 = .ok (.iconst (-1), 1) := dk_2 (dk_at dksX5_show_0 11 rfl rfl)
theorem dX5_show_12 : decode cX5_show 12 = .ok (.if_icmp .eq 17, 3) := dk_159 0 17 (dk_at dksX5_show_0 12 rfl rfl)
theorem dX5_show_15 : decode cX5_show 15 = .ok (.aload_n 0, 1) := dk_42 (dk_at dksX5_show_0 15 rfl rfl)
theorem dX5_show_16 : decode cX5_show 16 = .ok (.iload_n 2, 1) := dk_28 (dk_at dksX5_show_0 16 rfl rfl)
theorem dX5_show_17 : decode cX5_show 17 = .ok (.invokevirtual 91, 3) := dk_182 0 91 (dk_at dksX5_show_0 17 rfl rfl)
theorem dX5_show_20 : decode cX5_show 20 = .ok (.ifCond .ne 9, 3) := dk_154 0 9 (dk_at dksX5_show_0 20 rfl rfl)
theorem dX5_show_23 : decode cX5_show 23 = .ok (.aload_n 0, 1) := dk_42 (dk_at dksX5_show_0 23 rfl rfl)
theorem dX5_show_24 : decode cX5_show 24 = .ok (.iconst (-1), 1) := dk_2 (dk_at dksX5_show_1 0 rfl rfl)
theorem dX5_show_25 : decode cX5_show 25 = .ok (.invokevirtual 69, 3) := dk_182 0 69 (dk_at dksX5_show_1 1 rfl rfl)
theorem dX5_show_28 : decode cX5_show 28 = .ok (.ireturn, 1) := dk_172 (dk_at dksX5_show_1 4 rfl rfl)
theorem dX5_show_29 : decode cX5_show 29 = .ok (.aload_n 0, 1) := dk_42 (dk_at dksX5_show_1 5 rfl rfl)
theorem dX5_show_30 : decode cX5_show 30 = .ok (.getfield 16, 3) := dk_180 0 16 (dk_at dksX5_show_1 6 rfl rfl)
theorem dX5_show_33 : decode cX5_show 33 = .ok (.iload_n 1, 1) := dk_27 (dk_at dksX5_show_1 9 rfl rfl)
theorem dX5_show_34 : decode cX5_show 34 = .ok (.iload_n 2, 1) := dk_28 (dk_at dksX5_show_1 10 rfl rfl)
theorem dX5_show_35 : decode cX5_show 35 = .ok (.iastore, 1) := dk_79 (dk_at dksX5_show_1 11 rfl rfl)
theorem dX5_show_36 : decode cX5_show 36 = .ok (.iload_n 2, 1) := dk_28 (dk_at dksX5_show_1 12 rfl rfl)
theorem dX5_show_37 : decode cX5_show 37 = .ok (.iconst (-1), 1) := dk_2 (dk_at dksX5_show_1 13 rfl rfl)
theorem dX5_show_38 : decode cX5_show 38 = .ok (.if_icmp .ne 7, 3) := dk_160 0 7 (dk_at dksX5_show_1 14 rfl rfl)
theorem dX5_show_41 : decode cX5_show 41 = .ok (.iconst 0, 1) := dk_3 (dk_at dksX5_show_1 17 rfl rfl)
theorem dX5_show_42 : decode cX5_show 42 = .ok (.goto 4, 3) := dk_167 0 4 (dk_at dksX5_show_1 18 rfl rfl)
theorem dX5_show_45 : decode cX5_show 45 = .ok (.iconst 1, 1) := dk_4 (dk_at dksX5_show_1 21 rfl rfl)
theorem dX5_show_46 : decode cX5_show 46 = .ok (.ireturn, 1) := dk_172 (dk_at dksX5_show_1 22 rfl rfl)
abbrev cX5_isPlug : ByteArray := prog_40_method_5_code
def yX5_isPlug : MethodName := ⟨RX5, "isPlug", "(I)Z"⟩
def dkwX5_isPlug_0 : List UInt8 := [27, 3, 42, 180, 0, 73, 4, 100, 184, 0, 76, 172]
abbrev dktX5_isPlug_0 : List UInt8 := dkwX5_isPlug_0 ++ []
theorem dksX5_isPlug_0 : cX5_isPlug.data.toList.drop 0 = dktX5_isPlug_0 := by decide +kernel
theorem dX5_isPlug_0 : decode cX5_isPlug 0 = .ok (.iload_n 1, 1) := dk_27 (dk_at dksX5_isPlug_0 0 rfl rfl)
theorem dX5_isPlug_1 : decode cX5_isPlug 1 = .ok (.iconst 0, 1) := dk_3 (dk_at dksX5_isPlug_0 1 rfl rfl)
theorem dX5_isPlug_2 : decode cX5_isPlug 2 = .ok (.aload_n 0, 1) := dk_42 (dk_at dksX5_isPlug_0 2 rfl rfl)
theorem dX5_isPlug_3 : decode cX5_isPlug 3 = .ok (.getfield 73, 3) := dk_180 0 73 (dk_at dksX5_isPlug_0 3 rfl rfl)
theorem dX5_isPlug_6 : decode cX5_isPlug 6 = .ok (.iconst 1, 1) := dk_4 (dk_at dksX5_isPlug_0 6 rfl rfl)
theorem dX5_isPlug_7 : decode cX5_isPlug 7 = .ok (.isub, 1) := dk_100 (dk_at dksX5_isPlug_0 7 rfl rfl)
theorem dX5_isPlug_8 : decode cX5_isPlug 8 = .ok (.invokestatic 76, 3) := dk_184 0 76 (dk_at dksX5_isPlug_0 8 rfl rfl)
theorem dX5_isPlug_11 : decode cX5_isPlug 11 = .ok (.ireturn, 1) := dk_172 (dk_at dksX5_isPlug_0 11 rfl rfl)
abbrev cX5_holds : ByteArray := prog_40_method_20_code
def yX5_holds : MethodName := ⟨RX5, "holds", "(I)I"⟩
def dkwX5_holds_0 : List UInt8 := [27, 3, 16, 7, 184, 0, 76, 153, 0, 12, 42, 180, 0, 16, 27, 46, 167, 0, 4, 2, 172]
abbrev dktX5_holds_0 : List UInt8 := dkwX5_holds_0 ++ []
theorem dksX5_holds_0 : cX5_holds.data.toList.drop 0 = dktX5_holds_0 := by decide +kernel
theorem dX5_holds_0 : decode cX5_holds 0 = .ok (.iload_n 1, 1) := dk_27 (dk_at dksX5_holds_0 0 rfl rfl)
theorem dX5_holds_1 : decode cX5_holds 1 = .ok (.iconst 0, 1) := dk_3 (dk_at dksX5_holds_0 1 rfl rfl)
theorem dX5_holds_2 : decode cX5_holds 2 = .ok (.bipush 7, 2) := dk_16 7 (dk_at dksX5_holds_0 2 rfl rfl)
theorem dX5_holds_4 : decode cX5_holds 4 = .ok (.invokestatic 76, 3) := dk_184 0 76 (dk_at dksX5_holds_0 4 rfl rfl)
theorem dX5_holds_7 : decode cX5_holds 7 = .ok (.ifCond .eq 12, 3) := dk_153 0 12 (dk_at dksX5_holds_0 7 rfl rfl)
theorem dX5_holds_10 : decode cX5_holds 10 = .ok (.aload_n 0, 1) := dk_42 (dk_at dksX5_holds_0 10 rfl rfl)
theorem dX5_holds_11 : decode cX5_holds 11 = .ok (.getfield 16, 3) := dk_180 0 16 (dk_at dksX5_holds_0 11 rfl rfl)
theorem dX5_holds_14 : decode cX5_holds 14 = .ok (.iload_n 1, 1) := dk_27 (dk_at dksX5_holds_0 14 rfl rfl)
theorem dX5_holds_15 : decode cX5_holds 15 = .ok (.iaload, 1) := dk_46 (dk_at dksX5_holds_0 15 rfl rfl)
theorem dX5_holds_16 : decode cX5_holds 16 = .ok (.goto 4, 3) := dk_167 0 4 (dk_at dksX5_holds_0 16 rfl rfl)
theorem dX5_holds_19 : decode cX5_holds 19 = .ok (.iconst (-1), 1) := dk_2 (dk_at dksX5_holds_0 19 rfl rfl)
theorem dX5_holds_20 : decode cX5_holds 20 = .ok (.ireturn, 1) := dk_172 (dk_at dksX5_holds_0 20 rfl rfl)
abbrev cX5_says : ByteArray := prog_40_method_24_code
def yX5_says : MethodName := ⟨RX5, "says", "(II)I"⟩
def dkwX5_says_4 : List UInt8 := [42, 7, 29, 182, 0, 80, 184, 0, 97, 167, 0, 8, 42, 29, 182, 0, 111, 172]
abbrev dktX5_says_4 : List UInt8 := dkwX5_says_4 ++ []
def dkwX5_says_3 : List UInt8 := [182, 0, 69, 172, 28, 154, 0, 12, 42, 5, 29, 182, 0, 80, 167, 0, 27, 28, 5, 112, 4, 160, 0, 15]
abbrev dktX5_says_3 : List UInt8 := dkwX5_says_3 ++ dktX5_says_4
def dkwX5_says_2 : List UInt8 := [182, 0, 80, 28, 184, 0, 107, 154, 0, 10, 42, 16, 254, 182, 0, 69, 172, 29, 156, 0, 10, 42, 16, 253]
abbrev dktX5_says_2 : List UInt8 := dkwX5_says_2 ++ dktX5_says_3
def dkwX5_says_1 : List UInt8 := [172, 42, 180, 0, 16, 27, 46, 62, 29, 155, 0, 31, 42, 27, 182, 0, 84, 154, 0, 16, 42, 4, 29]
abbrev dktX5_says_1 : List UInt8 := dkwX5_says_1 ++ dktX5_says_2
def dkwX5_says_0 : List UInt8 := [27, 3, 16, 7, 184, 0, 76, 153, 0, 12, 28, 3, 7, 184, 0, 76, 154, 0, 9, 42, 2, 182, 0, 69]
abbrev dktX5_says_0 : List UInt8 := dkwX5_says_0 ++ dktX5_says_1
theorem dksX5_says_0 : cX5_says.data.toList.drop 0 = dktX5_says_0 := by decide +kernel
theorem dksX5_says_1 : cX5_says.data.toList.drop 24 = dktX5_says_1 := dk_seg dksX5_says_0 24 rfl rfl
theorem dksX5_says_2 : cX5_says.data.toList.drop 47 = dktX5_says_2 := dk_seg dksX5_says_1 23 rfl rfl
theorem dksX5_says_3 : cX5_says.data.toList.drop 71 = dktX5_says_3 := dk_seg dksX5_says_2 24 rfl rfl
theorem dksX5_says_4 : cX5_says.data.toList.drop 95 = dktX5_says_4 := dk_seg dksX5_says_3 24 rfl rfl
theorem dX5_says_0 : decode cX5_says 0 = .ok (.iload_n 1, 1) := dk_27 (dk_at dksX5_says_0 0 rfl rfl)
theorem dX5_says_1 : decode cX5_says 1 = .ok (.iconst 0, 1) := dk_3 (dk_at dksX5_says_0 1 rfl rfl)
theorem dX5_says_2 : decode cX5_says 2 = .ok (.bipush 7, 2) := dk_16 7 (dk_at dksX5_says_0 2 rfl rfl)
theorem dX5_says_4 : decode cX5_says 4 = .ok (.invokestatic 76, 3) := dk_184 0 76 (dk_at dksX5_says_0 4 rfl rfl)
theorem dX5_says_7 : decode cX5_says 7 = .ok (.ifCond .eq 12, 3) := dk_153 0 12 (dk_at dksX5_says_0 7 rfl rfl)
theorem dX5_says_10 : decode cX5_says 10 = .ok (.iload_n 2, 1) := dk_28 (dk_at dksX5_says_0 10 rfl rfl)
theorem dX5_says_11 : decode cX5_says 11 = .ok (.iconst 0, 1) := dk_3 (dk_at dksX5_says_0 11 rfl rfl)
theorem dX5_says_12 : decode cX5_says 12 = .ok (.iconst 4, 1) := dk_7 (dk_at dksX5_says_0 12 rfl rfl)
theorem dX5_says_13 : decode cX5_says 13 = .ok (.invokestatic 76, 3) := dk_184 0 76 (dk_at dksX5_says_0 13 rfl rfl)
theorem dX5_says_16 : decode cX5_says 16 = .ok (.ifCond .ne 9, 3) := dk_154 0 9 (dk_at dksX5_says_0 16 rfl rfl)
theorem dX5_says_19 : decode cX5_says 19 = .ok (.aload_n 0, 1) := dk_42 (dk_at dksX5_says_0 19 rfl rfl)
theorem dX5_says_20 : decode cX5_says 20 = .ok (.iconst (-1), 1) := dk_2 (dk_at dksX5_says_0 20 rfl rfl)
theorem dX5_says_21 : decode cX5_says 21 = .ok (.invokevirtual 69, 3) := dk_182 0 69 (dk_at dksX5_says_0 21 rfl rfl)
theorem dX5_says_24 : decode cX5_says 24 = .ok (.ireturn, 1) := dk_172 (dk_at dksX5_says_1 0 rfl rfl)
theorem dX5_says_25 : decode cX5_says 25 = .ok (.aload_n 0, 1) := dk_42 (dk_at dksX5_says_1 1 rfl rfl)
theorem dX5_says_26 : decode cX5_says 26 = .ok (.getfield 16, 3) := dk_180 0 16 (dk_at dksX5_says_1 2 rfl rfl)
theorem dX5_says_29 : decode cX5_says 29 = .ok (.iload_n 1, 1) := dk_27 (dk_at dksX5_says_1 5 rfl rfl)
theorem dX5_says_30 : decode cX5_says 30 = .ok (.iaload, 1) := dk_46 (dk_at dksX5_says_1 6 rfl rfl)
theorem dX5_says_31 : decode cX5_says 31 = .ok (.istore_n 3, 1) := dk_62 (dk_at dksX5_says_1 7 rfl rfl)
theorem dX5_says_32 : decode cX5_says 32 = .ok (.iload_n 3, 1) := dk_29 (dk_at dksX5_says_1 8 rfl rfl)
theorem dX5_says_33 : decode cX5_says 33 = .ok (.ifCond .lt 31, 3) := dk_155 0 31 (dk_at dksX5_says_1 9 rfl rfl)
theorem dX5_says_36 : decode cX5_says 36 = .ok (.aload_n 0, 1) := dk_42 (dk_at dksX5_says_1 12 rfl rfl)
theorem dX5_says_37 : decode cX5_says 37 = .ok (.iload_n 1, 1) := dk_27 (dk_at dksX5_says_1 13 rfl rfl)
theorem dX5_says_38 : decode cX5_says 38 = .ok (.invokevirtual 84, 3) := dk_182 0 84 (dk_at dksX5_says_1 14 rfl rfl)
theorem dX5_says_41 : decode cX5_says 41 = .ok (.ifCond .ne 16, 3) := dk_154 0 16 (dk_at dksX5_says_1 17 rfl rfl)
theorem dX5_says_44 : decode cX5_says 44 = .ok (.aload_n 0, 1) := dk_42 (dk_at dksX5_says_1 20 rfl rfl)
theorem dX5_says_45 : decode cX5_says 45 = .ok (.iconst 1, 1) := dk_4 (dk_at dksX5_says_1 21 rfl rfl)
theorem dX5_says_46 : decode cX5_says 46 = .ok (.iload_n 3, 1) := dk_29 (dk_at dksX5_says_1 22 rfl rfl)
theorem dX5_says_47 : decode cX5_says 47 = .ok (.invokevirtual 80, 3) := dk_182 0 80 (dk_at dksX5_says_2 0 rfl rfl)
theorem dX5_says_50 : decode cX5_says 50 = .ok (.iload_n 2, 1) := dk_28 (dk_at dksX5_says_2 3 rfl rfl)
theorem dX5_says_51 : decode cX5_says 51 = .ok (.invokestatic 107, 3) := dk_184 0 107 (dk_at dksX5_says_2 4 rfl rfl)
theorem dX5_says_54 : decode cX5_says 54 = .ok (.ifCond .ne 10, 3) := dk_154 0 10 (dk_at dksX5_says_2 7 rfl rfl)
theorem dX5_says_57 : decode cX5_says 57 = .ok (.aload_n 0, 1) := dk_42 (dk_at dksX5_says_2 10 rfl rfl)
theorem dX5_says_58 : decode cX5_says 58 = .ok (.bipush (-2), 2) := dk_16 254 (dk_at dksX5_says_2 11 rfl rfl)
theorem dX5_says_60 : decode cX5_says 60 = .ok (.invokevirtual 69, 3) := dk_182 0 69 (dk_at dksX5_says_2 13 rfl rfl)
theorem dX5_says_63 : decode cX5_says 63 = .ok (.ireturn, 1) := dk_172 (dk_at dksX5_says_2 16 rfl rfl)
theorem dX5_says_64 : decode cX5_says 64 = .ok (.iload_n 3, 1) := dk_29 (dk_at dksX5_says_2 17 rfl rfl)
theorem dX5_says_65 : decode cX5_says 65 = .ok (.ifCond .ge 10, 3) := dk_156 0 10 (dk_at dksX5_says_2 18 rfl rfl)
theorem dX5_says_68 : decode cX5_says 68 = .ok (.aload_n 0, 1) := dk_42 (dk_at dksX5_says_2 21 rfl rfl)
theorem dX5_says_69 : decode cX5_says 69 = .ok (.bipush (-3), 2) := dk_16 253 (dk_at dksX5_says_2 22 rfl rfl)
theorem dX5_says_71 : decode cX5_says 71 = .ok (.invokevirtual 69, 3) := dk_182 0 69 (dk_at dksX5_says_3 0 rfl rfl)
theorem dX5_says_74 : decode cX5_says 74 = .ok (.ireturn, 1) := dk_172 (dk_at dksX5_says_3 3 rfl rfl)
theorem dX5_says_75 : decode cX5_says 75 = .ok (.iload_n 2, 1) := dk_28 (dk_at dksX5_says_3 4 rfl rfl)
theorem dX5_says_76 : decode cX5_says 76 = .ok (.ifCond .ne 12, 3) := dk_154 0 12 (dk_at dksX5_says_3 5 rfl rfl)
theorem dX5_says_79 : decode cX5_says 79 = .ok (.aload_n 0, 1) := dk_42 (dk_at dksX5_says_3 8 rfl rfl)
theorem dX5_says_80 : decode cX5_says 80 = .ok (.iconst 2, 1) := dk_5 (dk_at dksX5_says_3 9 rfl rfl)
theorem dX5_says_81 : decode cX5_says 81 = .ok (.iload_n 3, 1) := dk_29 (dk_at dksX5_says_3 10 rfl rfl)
theorem dX5_says_82 : decode cX5_says 82 = .ok (.invokevirtual 80, 3) := dk_182 0 80 (dk_at dksX5_says_3 11 rfl rfl)
theorem dX5_says_85 : decode cX5_says 85 = .ok (.goto 27, 3) := dk_167 0 27 (dk_at dksX5_says_3 14 rfl rfl)
theorem dX5_says_88 : decode cX5_says 88 = .ok (.iload_n 2, 1) := dk_28 (dk_at dksX5_says_3 17 rfl rfl)
theorem dX5_says_89 : decode cX5_says 89 = .ok (.iconst 2, 1) := dk_5 (dk_at dksX5_says_3 18 rfl rfl)
theorem dX5_says_90 : decode cX5_says 90 = .ok (.irem, 1) := dk_112 (dk_at dksX5_says_3 19 rfl rfl)
theorem dX5_says_91 : decode cX5_says 91 = .ok (.iconst 1, 1) := dk_4 (dk_at dksX5_says_3 20 rfl rfl)
theorem dX5_says_92 : decode cX5_says 92 = .ok (.if_icmp .ne 15, 3) := dk_160 0 15 (dk_at dksX5_says_3 21 rfl rfl)
theorem dX5_says_95 : decode cX5_says 95 = .ok (.aload_n 0, 1) := dk_42 (dk_at dksX5_says_4 0 rfl rfl)
theorem dX5_says_96 : decode cX5_says 96 = .ok (.iconst 4, 1) := dk_7 (dk_at dksX5_says_4 1 rfl rfl)
theorem dX5_says_97 : decode cX5_says 97 = .ok (.iload_n 3, 1) := dk_29 (dk_at dksX5_says_4 2 rfl rfl)
theorem dX5_says_98 : decode cX5_says 98 = .ok (.invokevirtual 80, 3) := dk_182 0 80 (dk_at dksX5_says_4 3 rfl rfl)
theorem dX5_says_101 : decode cX5_says 101 = .ok (.invokestatic 97, 3) := dk_184 0 97 (dk_at dksX5_says_4 6 rfl rfl)
theorem dX5_says_104 : decode cX5_says 104 = .ok (.goto 8, 3) := dk_167 0 8 (dk_at dksX5_says_4 9 rfl rfl)
theorem dX5_says_107 : decode cX5_says 107 = .ok (.aload_n 0, 1) := dk_42 (dk_at dksX5_says_4 12 rfl rfl)
theorem dX5_says_108 : decode cX5_says 108 = .ok (.iload_n 3, 1) := dk_29 (dk_at dksX5_says_4 13 rfl rfl)
theorem dX5_says_109 : decode cX5_says 109 = .ok (.invokevirtual 111, 3) := dk_182 0 111 (dk_at dksX5_says_4 14 rfl rfl)
theorem dX5_says_112 : decode cX5_says 112 = .ok (.ireturn, 1) := dk_172 (dk_at dksX5_says_4 17 rfl rfl)
abbrev cX5_of : ByteArray := prog_40_method_9_code
def yX5_of : MethodName := ⟨RX5, "of", "(II)I"⟩
def dkwX5_of_0 : List UInt8 := [42, 180, 0, 7, 16, 12, 27, 104, 28, 96, 46, 172]
abbrev dktX5_of_0 : List UInt8 := dkwX5_of_0 ++ []
theorem dksX5_of_0 : cX5_of.data.toList.drop 0 = dktX5_of_0 := by decide +kernel
theorem dX5_of_0 : decode cX5_of 0 = .ok (.aload_n 0, 1) := dk_42 (dk_at dksX5_of_0 0 rfl rfl)
theorem dX5_of_1 : decode cX5_of 1 = .ok (.getfield 7, 3) := dk_180 0 7 (dk_at dksX5_of_0 1 rfl rfl)
theorem dX5_of_4 : decode cX5_of 4 = .ok (.bipush 12, 2) := dk_16 12 (dk_at dksX5_of_0 4 rfl rfl)
theorem dX5_of_6 : decode cX5_of 6 = .ok (.iload_n 1, 1) := dk_27 (dk_at dksX5_of_0 6 rfl rfl)
theorem dX5_of_7 : decode cX5_of 7 = .ok (.imul, 1) := dk_104 (dk_at dksX5_of_0 7 rfl rfl)
theorem dX5_of_8 : decode cX5_of 8 = .ok (.iload_n 2, 1) := dk_28 (dk_at dksX5_of_0 8 rfl rfl)
theorem dX5_of_9 : decode cX5_of 9 = .ok (.iadd, 1) := dk_96 (dk_at dksX5_of_0 9 rfl rfl)
theorem dX5_of_10 : decode cX5_of 10 = .ok (.iaload, 1) := dk_46 (dk_at dksX5_of_0 10 rfl rfl)
theorem dX5_of_11 : decode cX5_of 11 = .ok (.ireturn, 1) := dk_172 (dk_at dksX5_of_0 11 rfl rfl)
abbrev cX5_isUnder : ByteArray := prog_40_method_22_code
def yX5_isUnder : MethodName := ⟨RX5, "isUnder", "(II)Z"⟩
def dkwX5_isUnder_1 : List UInt8 := [4, 167, 0, 4, 3, 172]
abbrev dktX5_isUnder_1 : List UInt8 := dkwX5_isUnder_1 ++ []
def dkwX5_isUnder_0 : List UInt8 := [26, 61, 28, 27, 159, 0, 15, 28, 158, 0, 11, 28, 184, 0, 94, 61, 167, 255, 242, 28, 27, 160, 0, 7]
abbrev dktX5_isUnder_0 : List UInt8 := dkwX5_isUnder_0 ++ dktX5_isUnder_1
theorem dksX5_isUnder_0 : cX5_isUnder.data.toList.drop 0 = dktX5_isUnder_0 := by decide +kernel
theorem dksX5_isUnder_1 : cX5_isUnder.data.toList.drop 24 = dktX5_isUnder_1 := dk_seg dksX5_isUnder_0 24 rfl rfl
theorem dX5_isUnder_0 : decode cX5_isUnder 0 = .ok (.iload_n 0, 1) := dk_26 (dk_at dksX5_isUnder_0 0 rfl rfl)
theorem dX5_isUnder_1 : decode cX5_isUnder 1 = .ok (.istore_n 2, 1) := dk_61 (dk_at dksX5_isUnder_0 1 rfl rfl)
theorem dX5_isUnder_2 : decode cX5_isUnder 2 = .ok (.iload_n 2, 1) := dk_28 (dk_at dksX5_isUnder_0 2 rfl rfl)
theorem dX5_isUnder_3 : decode cX5_isUnder 3 = .ok (.iload_n 1, 1) := dk_27 (dk_at dksX5_isUnder_0 3 rfl rfl)
theorem dX5_isUnder_4 : decode cX5_isUnder 4 = .ok (.if_icmp .eq 15, 3) := dk_159 0 15 (dk_at dksX5_isUnder_0 4 rfl rfl)
theorem dX5_isUnder_7 : decode cX5_isUnder 7 = .ok (.iload_n 2, 1) := dk_28 (dk_at dksX5_isUnder_0 7 rfl rfl)
theorem dX5_isUnder_8 : decode cX5_isUnder 8 = .ok (.ifCond .le 11, 3) := dk_158 0 11 (dk_at dksX5_isUnder_0 8 rfl rfl)
theorem dX5_isUnder_11 : decode cX5_isUnder 11 = .ok (.iload_n 2, 1) := dk_28 (dk_at dksX5_isUnder_0 11 rfl rfl)
theorem dX5_isUnder_12 : decode cX5_isUnder 12 = .ok (.invokestatic 94, 3) := dk_184 0 94 (dk_at dksX5_isUnder_0 12 rfl rfl)
theorem dX5_isUnder_15 : decode cX5_isUnder 15 = .ok (.istore_n 2, 1) := dk_61 (dk_at dksX5_isUnder_0 15 rfl rfl)
theorem dX5_isUnder_16 : decode cX5_isUnder 16 = .ok (.goto (-14), 3) := dk_167 255 242 (dk_at dksX5_isUnder_0 16 rfl rfl)
theorem dX5_isUnder_19 : decode cX5_isUnder 19 = .ok (.iload_n 2, 1) := dk_28 (dk_at dksX5_isUnder_0 19 rfl rfl)
theorem dX5_isUnder_20 : decode cX5_isUnder 20 = .ok (.iload_n 1, 1) := dk_27 (dk_at dksX5_isUnder_0 20 rfl rfl)
theorem dX5_isUnder_21 : decode cX5_isUnder 21 = .ok (.if_icmp .ne 7, 3) := dk_160 0 7 (dk_at dksX5_isUnder_0 21 rfl rfl)
theorem dX5_isUnder_24 : decode cX5_isUnder 24 = .ok (.iconst 1, 1) := dk_4 (dk_at dksX5_isUnder_1 0 rfl rfl)
theorem dX5_isUnder_25 : decode cX5_isUnder 25 = .ok (.goto 4, 3) := dk_167 0 4 (dk_at dksX5_isUnder_1 1 rfl rfl)
theorem dX5_isUnder_28 : decode cX5_isUnder 28 = .ok (.iconst 0, 1) := dk_3 (dk_at dksX5_isUnder_1 4 rfl rfl)
theorem dX5_isUnder_29 : decode cX5_isUnder 29 = .ok (.ireturn, 1) := dk_172 (dk_at dksX5_isUnder_1 5 rfl rfl)
abbrev cX5_above : ByteArray := prog_40_method_21_code
def yX5_above : MethodName := ⟨RX5, "above", "(I)I"⟩
def dkwX5_above_0 : List UInt8 := [26, 5, 164, 0, 9, 26, 5, 100, 167, 0, 4, 3, 172]
abbrev dktX5_above_0 : List UInt8 := dkwX5_above_0 ++ []
theorem dksX5_above_0 : cX5_above.data.toList.drop 0 = dktX5_above_0 := by decide +kernel
theorem dX5_above_0 : decode cX5_above 0 = .ok (.iload_n 0, 1) := dk_26 (dk_at dksX5_above_0 0 rfl rfl)
theorem dX5_above_1 : decode cX5_above 1 = .ok (.iconst 2, 1) := dk_5 (dk_at dksX5_above_0 1 rfl rfl)
theorem dX5_above_2 : decode cX5_above 2 = .ok (.if_icmp .le 9, 3) := dk_164 0 9 (dk_at dksX5_above_0 2 rfl rfl)
theorem dX5_above_5 : decode cX5_above 5 = .ok (.iload_n 0, 1) := dk_26 (dk_at dksX5_above_0 5 rfl rfl)
theorem dX5_above_6 : decode cX5_above 6 = .ok (.iconst 2, 1) := dk_5 (dk_at dksX5_above_0 6 rfl rfl)
theorem dX5_above_7 : decode cX5_above 7 = .ok (.isub, 1) := dk_100 (dk_at dksX5_above_0 7 rfl rfl)
theorem dX5_above_8 : decode cX5_above 8 = .ok (.goto 4, 3) := dk_167 0 4 (dk_at dksX5_above_0 8 rfl rfl)
theorem dX5_above_11 : decode cX5_above 11 = .ok (.iconst 0, 1) := dk_3 (dk_at dksX5_above_0 11 rfl rfl)
theorem dX5_above_12 : decode cX5_above 12 = .ok (.ireturn, 1) := dk_172 (dk_at dksX5_above_0 12 rfl rfl)
abbrev cX5_strength : ByteArray := prog_40_method_23_code
def yX5_strength : MethodName := ⟨RX5, "strength", "(I)I"⟩
def dkwX5_strength_3 : List UInt8 := [29, 172, 21, 4, 172, 5, 29, 104, 172, 21, 4, 4, 96, 172, 28, 172]
abbrev dktX5_strength_3 : List UInt8 := dkwX5_strength_3 ++ []
def dkwX5_strength_2 : List UInt8 := [170, 0, 0, 0, 0, 0, 0, 46, 0, 0, 0, 1, 0, 0, 0, 4, 0, 0, 0, 32, 0, 0, 0, 34, 0, 0, 0, 37, 0, 0, 0, 41]
abbrev dktX5_strength_2 : List UInt8 := dkwX5_strength_2 ++ dktX5_strength_3
def dkwX5_strength_1 : List UInt8 := [54, 4, 42, 4, 27, 182, 0, 80]
abbrev dktX5_strength_1 : List UInt8 := dkwX5_strength_1 ++ dktX5_strength_2
def dkwX5_strength_0 : List UInt8 := [42, 5, 27, 182, 0, 80, 61, 28, 42, 7, 27, 182, 0, 80, 184, 0, 97, 96, 62, 8, 28, 184, 0, 102]
abbrev dktX5_strength_0 : List UInt8 := dkwX5_strength_0 ++ dktX5_strength_1
theorem dksX5_strength_0 : cX5_strength.data.toList.drop 0 = dktX5_strength_0 := by decide +kernel
theorem dksX5_strength_1 : cX5_strength.data.toList.drop 24 = dktX5_strength_1 := dk_seg dksX5_strength_0 24 rfl rfl
theorem dksX5_strength_2 : cX5_strength.data.toList.drop 32 = dktX5_strength_2 := dk_seg dksX5_strength_1 8 rfl rfl
theorem dksX5_strength_3 : cX5_strength.data.toList.drop 64 = dktX5_strength_3 := dk_seg dksX5_strength_2 32 rfl rfl
theorem dX5_strength_0 : decode cX5_strength 0 = .ok (.aload_n 0, 1) := dk_42 (dk_at dksX5_strength_0 0 rfl rfl)
theorem dX5_strength_1 : decode cX5_strength 1 = .ok (.iconst 2, 1) := dk_5 (dk_at dksX5_strength_0 1 rfl rfl)
theorem dX5_strength_2 : decode cX5_strength 2 = .ok (.iload_n 1, 1) := dk_27 (dk_at dksX5_strength_0 2 rfl rfl)
theorem dX5_strength_3 : decode cX5_strength 3 = .ok (.invokevirtual 80, 3) := dk_182 0 80 (dk_at dksX5_strength_0 3 rfl rfl)
theorem dX5_strength_6 : decode cX5_strength 6 = .ok (.istore_n 2, 1) := dk_61 (dk_at dksX5_strength_0 6 rfl rfl)
theorem dX5_strength_7 : decode cX5_strength 7 = .ok (.iload_n 2, 1) := dk_28 (dk_at dksX5_strength_0 7 rfl rfl)
theorem dX5_strength_8 : decode cX5_strength 8 = .ok (.aload_n 0, 1) := dk_42 (dk_at dksX5_strength_0 8 rfl rfl)
theorem dX5_strength_9 : decode cX5_strength 9 = .ok (.iconst 4, 1) := dk_7 (dk_at dksX5_strength_0 9 rfl rfl)
theorem dX5_strength_10 : decode cX5_strength 10 = .ok (.iload_n 1, 1) := dk_27 (dk_at dksX5_strength_0 10 rfl rfl)
theorem dX5_strength_11 : decode cX5_strength 11 = .ok (.invokevirtual 80, 3) := dk_182 0 80 (dk_at dksX5_strength_0 11 rfl rfl)
theorem dX5_strength_14 : decode cX5_strength 14 = .ok (.invokestatic 97, 3) := dk_184 0 97 (dk_at dksX5_strength_0 14 rfl rfl)
theorem dX5_strength_17 : decode cX5_strength 17 = .ok (.iadd, 1) := dk_96 (dk_at dksX5_strength_0 17 rfl rfl)
theorem dX5_strength_18 : decode cX5_strength 18 = .ok (.istore_n 3, 1) := dk_62 (dk_at dksX5_strength_0 18 rfl rfl)
theorem dX5_strength_19 : decode cX5_strength 19 = .ok (.iconst 5, 1) := dk_8 (dk_at dksX5_strength_0 19 rfl rfl)
theorem dX5_strength_20 : decode cX5_strength 20 = .ok (.iload_n 2, 1) := dk_28 (dk_at dksX5_strength_0 20 rfl rfl)
theorem dX5_strength_21 : decode cX5_strength 21 = .ok (.invokestatic 102, 3) := dk_184 0 102 (dk_at dksX5_strength_0 21 rfl rfl)
theorem dX5_strength_24 : decode cX5_strength 24 = .ok (.istore 4, 2) := dk_54 4 (dk_at dksX5_strength_1 0 rfl rfl)
theorem dX5_strength_26 : decode cX5_strength 26 = .ok (.aload_n 0, 1) := dk_42 (dk_at dksX5_strength_1 2 rfl rfl)
theorem dX5_strength_27 : decode cX5_strength 27 = .ok (.iconst 1, 1) := dk_4 (dk_at dksX5_strength_1 3 rfl rfl)
theorem dX5_strength_28 : decode cX5_strength 28 = .ok (.iload_n 1, 1) := dk_27 (dk_at dksX5_strength_1 4 rfl rfl)
theorem dX5_strength_29 : decode cX5_strength 29 = .ok (.invokevirtual 80, 3) := dk_182 0 80 (dk_at dksX5_strength_1 5 rfl rfl)
theorem dX5_strength_32 : decode cX5_strength 32 = .ok (.tableswitch 46 1 4 #[32, 34, 37, 41], 32) := by decide +kernel
theorem dX5_strength_64 : decode cX5_strength 64 = .ok (.iload_n 3, 1) := dk_29 (dk_at dksX5_strength_3 0 rfl rfl)
theorem dX5_strength_65 : decode cX5_strength 65 = .ok (.ireturn, 1) := dk_172 (dk_at dksX5_strength_3 1 rfl rfl)
theorem dX5_strength_66 : decode cX5_strength 66 = .ok (.iload 4, 2) := dk_21 4 (dk_at dksX5_strength_3 2 rfl rfl)
theorem dX5_strength_68 : decode cX5_strength 68 = .ok (.ireturn, 1) := dk_172 (dk_at dksX5_strength_3 4 rfl rfl)
theorem dX5_strength_69 : decode cX5_strength 69 = .ok (.iconst 2, 1) := dk_5 (dk_at dksX5_strength_3 5 rfl rfl)
theorem dX5_strength_70 : decode cX5_strength 70 = .ok (.iload_n 3, 1) := dk_29 (dk_at dksX5_strength_3 6 rfl rfl)
theorem dX5_strength_71 : decode cX5_strength 71 = .ok (.imul, 1) := dk_104 (dk_at dksX5_strength_3 7 rfl rfl)
theorem dX5_strength_72 : decode cX5_strength 72 = .ok (.ireturn, 1) := dk_172 (dk_at dksX5_strength_3 8 rfl rfl)
theorem dX5_strength_73 : decode cX5_strength 73 = .ok (.iload 4, 2) := dk_21 4 (dk_at dksX5_strength_3 9 rfl rfl)
theorem dX5_strength_75 : decode cX5_strength 75 = .ok (.iconst 1, 1) := dk_4 (dk_at dksX5_strength_3 11 rfl rfl)
theorem dX5_strength_76 : decode cX5_strength 76 = .ok (.iadd, 1) := dk_96 (dk_at dksX5_strength_3 12 rfl rfl)
theorem dX5_strength_77 : decode cX5_strength 77 = .ok (.ireturn, 1) := dk_172 (dk_at dksX5_strength_3 13 rfl rfl)
theorem dX5_strength_78 : decode cX5_strength 78 = .ok (.iload_n 2, 1) := dk_28 (dk_at dksX5_strength_3 14 rfl rfl)
theorem dX5_strength_79 : decode cX5_strength 79 = .ok (.ireturn, 1) := dk_172 (dk_at dksX5_strength_3 15 rfl rfl)
abbrev cX5_plug : ByteArray := prog_40_method_28_code
def yX5_plug : MethodName := ⟨RX5, "plug", "(IIIIII)I"⟩
def dkwX5_plug_4 : List UInt8 := [42, 16, 249, 182, 0, 69, 167, 0, 16, 42, 27, 28, 29, 21, 4, 21, 5, 21, 6, 182, 0, 124, 172]
abbrev dktX5_plug_4 : List UInt8 := dkwX5_plug_4 ++ []
def dkwX5_plug_3 : List UInt8 := [21, 6, 182, 0, 121, 153, 0, 10, 42, 16, 250, 182, 0, 69, 172, 42, 180, 0, 73, 16, 12, 160, 0, 12]
abbrev dktX5_plug_3 : List UInt8 := dkwX5_plug_3 ++ dktX5_plug_4
def dkwX5_plug_2 : List UInt8 := [153, 0, 31, 21, 5, 3, 16, 9, 184, 0, 76, 153, 0, 20, 21, 6, 184, 0, 118, 153, 0, 12, 42]
abbrev dktX5_plug_2 : List UInt8 := dkwX5_plug_2 ++ dktX5_plug_3
def dkwX5_plug_1 : List UInt8 := [153, 0, 54, 29, 3, 17, 0, 255, 184, 0, 76, 153, 0, 43, 21, 4, 3, 17, 0, 255, 184, 0, 76]
abbrev dktX5_plug_1 : List UInt8 := dkwX5_plug_1 ++ dktX5_plug_2
def dkwX5_plug_0 : List UInt8 := [27, 3, 7, 184, 0, 76, 154, 0, 9, 42, 2, 182, 0, 69, 172, 28, 3, 16, 9, 184, 0, 76]
abbrev dktX5_plug_0 : List UInt8 := dkwX5_plug_0 ++ dktX5_plug_1
theorem dksX5_plug_0 : cX5_plug.data.toList.drop 0 = dktX5_plug_0 := by decide +kernel
theorem dksX5_plug_1 : cX5_plug.data.toList.drop 22 = dktX5_plug_1 := dk_seg dksX5_plug_0 22 rfl rfl
theorem dksX5_plug_2 : cX5_plug.data.toList.drop 45 = dktX5_plug_2 := dk_seg dksX5_plug_1 23 rfl rfl
theorem dksX5_plug_3 : cX5_plug.data.toList.drop 68 = dktX5_plug_3 := dk_seg dksX5_plug_2 23 rfl rfl
theorem dksX5_plug_4 : cX5_plug.data.toList.drop 92 = dktX5_plug_4 := dk_seg dksX5_plug_3 24 rfl rfl
theorem dX5_plug_0 : decode cX5_plug 0 = .ok (.iload_n 1, 1) := dk_27 (dk_at dksX5_plug_0 0 rfl rfl)
theorem dX5_plug_1 : decode cX5_plug 1 = .ok (.iconst 0, 1) := dk_3 (dk_at dksX5_plug_0 1 rfl rfl)
theorem dX5_plug_2 : decode cX5_plug 2 = .ok (.iconst 4, 1) := dk_7 (dk_at dksX5_plug_0 2 rfl rfl)
theorem dX5_plug_3 : decode cX5_plug 3 = .ok (.invokestatic 76, 3) := dk_184 0 76 (dk_at dksX5_plug_0 3 rfl rfl)
theorem dX5_plug_6 : decode cX5_plug 6 = .ok (.ifCond .ne 9, 3) := dk_154 0 9 (dk_at dksX5_plug_0 6 rfl rfl)
theorem dX5_plug_9 : decode cX5_plug 9 = .ok (.aload_n 0, 1) := dk_42 (dk_at dksX5_plug_0 9 rfl rfl)
theorem dX5_plug_10 : decode cX5_plug 10 = .ok (.iconst (-1), 1) := dk_2 (dk_at dksX5_plug_0 10 rfl rfl)
theorem dX5_plug_11 : decode cX5_plug 11 = .ok (.invokevirtual 69, 3) := dk_182 0 69 (dk_at dksX5_plug_0 11 rfl rfl)
theorem dX5_plug_14 : decode cX5_plug 14 = .ok (.ireturn, 1) := dk_172 (dk_at dksX5_plug_0 14 rfl rfl)
theorem dX5_plug_15 : decode cX5_plug 15 = .ok (.iload_n 2, 1) := dk_28 (dk_at dksX5_plug_0 15 rfl rfl)
theorem dX5_plug_16 : decode cX5_plug 16 = .ok (.iconst 0, 1) := dk_3 (dk_at dksX5_plug_0 16 rfl rfl)
theorem dX5_plug_17 : decode cX5_plug 17 = .ok (.bipush 9, 2) := dk_16 9 (dk_at dksX5_plug_0 17 rfl rfl)
theorem dX5_plug_19 : decode cX5_plug 19 = .ok (.invokestatic 76, 3) := dk_184 0 76 (dk_at dksX5_plug_0 19 rfl rfl)
theorem dX5_plug_22 : decode cX5_plug 22 = .ok (.ifCond .eq 54, 3) := dk_153 0 54 (dk_at dksX5_plug_1 0 rfl rfl)
theorem dX5_plug_25 : decode cX5_plug 25 = .ok (.iload_n 3, 1) := dk_29 (dk_at dksX5_plug_1 3 rfl rfl)
theorem dX5_plug_26 : decode cX5_plug 26 = .ok (.iconst 0, 1) := dk_3 (dk_at dksX5_plug_1 4 rfl rfl)
theorem dX5_plug_27 : decode cX5_plug 27 = .ok (.sipush 255, 3) := dk_17 0 255 (dk_at dksX5_plug_1 5 rfl rfl)
theorem dX5_plug_30 : decode cX5_plug 30 = .ok (.invokestatic 76, 3) := dk_184 0 76 (dk_at dksX5_plug_1 8 rfl rfl)
theorem dX5_plug_33 : decode cX5_plug 33 = .ok (.ifCond .eq 43, 3) := dk_153 0 43 (dk_at dksX5_plug_1 11 rfl rfl)
theorem dX5_plug_36 : decode cX5_plug 36 = .ok (.iload 4, 2) := dk_21 4 (dk_at dksX5_plug_1 14 rfl rfl)
theorem dX5_plug_38 : decode cX5_plug 38 = .ok (.iconst 0, 1) := dk_3 (dk_at dksX5_plug_1 16 rfl rfl)
theorem dX5_plug_39 : decode cX5_plug 39 = .ok (.sipush 255, 3) := dk_17 0 255 (dk_at dksX5_plug_1 17 rfl rfl)
theorem dX5_plug_42 : decode cX5_plug 42 = .ok (.invokestatic 76, 3) := dk_184 0 76 (dk_at dksX5_plug_1 20 rfl rfl)
theorem dX5_plug_45 : decode cX5_plug 45 = .ok (.ifCond .eq 31, 3) := dk_153 0 31 (dk_at dksX5_plug_2 0 rfl rfl)
theorem dX5_plug_48 : decode cX5_plug 48 = .ok (.iload 5, 2) := dk_21 5 (dk_at dksX5_plug_2 3 rfl rfl)
theorem dX5_plug_50 : decode cX5_plug 50 = .ok (.iconst 0, 1) := dk_3 (dk_at dksX5_plug_2 5 rfl rfl)
theorem dX5_plug_51 : decode cX5_plug 51 = .ok (.bipush 9, 2) := dk_16 9 (dk_at dksX5_plug_2 6 rfl rfl)
theorem dX5_plug_53 : decode cX5_plug 53 = .ok (.invokestatic 76, 3) := dk_184 0 76 (dk_at dksX5_plug_2 8 rfl rfl)
theorem dX5_plug_56 : decode cX5_plug 56 = .ok (.ifCond .eq 20, 3) := dk_153 0 20 (dk_at dksX5_plug_2 11 rfl rfl)
theorem dX5_plug_59 : decode cX5_plug 59 = .ok (.iload 6, 2) := dk_21 6 (dk_at dksX5_plug_2 14 rfl rfl)
theorem dX5_plug_61 : decode cX5_plug 61 = .ok (.invokestatic 118, 3) := dk_184 0 118 (dk_at dksX5_plug_2 16 rfl rfl)
theorem dX5_plug_64 : decode cX5_plug 64 = .ok (.ifCond .eq 12, 3) := dk_153 0 12 (dk_at dksX5_plug_2 19 rfl rfl)
theorem dX5_plug_67 : decode cX5_plug 67 = .ok (.aload_n 0, 1) := dk_42 (dk_at dksX5_plug_2 22 rfl rfl)
theorem dX5_plug_68 : decode cX5_plug 68 = .ok (.iload 6, 2) := dk_21 6 (dk_at dksX5_plug_3 0 rfl rfl)
theorem dX5_plug_70 : decode cX5_plug 70 = .ok (.invokevirtual 121, 3) := dk_182 0 121 (dk_at dksX5_plug_3 2 rfl rfl)
theorem dX5_plug_73 : decode cX5_plug 73 = .ok (.ifCond .eq 10, 3) := dk_153 0 10 (dk_at dksX5_plug_3 5 rfl rfl)
theorem dX5_plug_76 : decode cX5_plug 76 = .ok (.aload_n 0, 1) := dk_42 (dk_at dksX5_plug_3 8 rfl rfl)
theorem dX5_plug_77 : decode cX5_plug 77 = .ok (.bipush (-6), 2) := dk_16 250 (dk_at dksX5_plug_3 9 rfl rfl)
theorem dX5_plug_79 : decode cX5_plug 79 = .ok (.invokevirtual 69, 3) := dk_182 0 69 (dk_at dksX5_plug_3 11 rfl rfl)
theorem dX5_plug_82 : decode cX5_plug 82 = .ok (.ireturn, 1) := dk_172 (dk_at dksX5_plug_3 14 rfl rfl)
theorem dX5_plug_83 : decode cX5_plug 83 = .ok (.aload_n 0, 1) := dk_42 (dk_at dksX5_plug_3 15 rfl rfl)
theorem dX5_plug_84 : decode cX5_plug 84 = .ok (.getfield 73, 3) := dk_180 0 73 (dk_at dksX5_plug_3 16 rfl rfl)
theorem dX5_plug_87 : decode cX5_plug 87 = .ok (.bipush 12, 2) := dk_16 12 (dk_at dksX5_plug_3 19 rfl rfl)
theorem dX5_plug_89 : decode cX5_plug 89 = .ok (.if_icmp .ne 12, 3) := dk_160 0 12 (dk_at dksX5_plug_3 21 rfl rfl)
theorem dX5_plug_92 : decode cX5_plug 92 = .ok (.aload_n 0, 1) := dk_42 (dk_at dksX5_plug_4 0 rfl rfl)
theorem dX5_plug_93 : decode cX5_plug 93 = .ok (.bipush (-7), 2) := dk_16 249 (dk_at dksX5_plug_4 1 rfl rfl)
theorem dX5_plug_95 : decode cX5_plug 95 = .ok (.invokevirtual 69, 3) := dk_182 0 69 (dk_at dksX5_plug_4 3 rfl rfl)
theorem dX5_plug_98 : decode cX5_plug 98 = .ok (.goto 16, 3) := dk_167 0 16 (dk_at dksX5_plug_4 6 rfl rfl)
theorem dX5_plug_101 : decode cX5_plug 101 = .ok (.aload_n 0, 1) := dk_42 (dk_at dksX5_plug_4 9 rfl rfl)
theorem dX5_plug_102 : decode cX5_plug 102 = .ok (.iload_n 1, 1) := dk_27 (dk_at dksX5_plug_4 10 rfl rfl)
theorem dX5_plug_103 : decode cX5_plug 103 = .ok (.iload_n 2, 1) := dk_28 (dk_at dksX5_plug_4 11 rfl rfl)
theorem dX5_plug_104 : decode cX5_plug 104 = .ok (.iload_n 3, 1) := dk_29 (dk_at dksX5_plug_4 12 rfl rfl)
theorem dX5_plug_105 : decode cX5_plug 105 = .ok (.iload 4, 2) := dk_21 4 (dk_at dksX5_plug_4 13 rfl rfl)
theorem dX5_plug_107 : decode cX5_plug 107 = .ok (.iload 5, 2) := dk_21 5 (dk_at dksX5_plug_4 15 rfl rfl)
theorem dX5_plug_109 : decode cX5_plug 109 = .ok (.iload 6, 2) := dk_21 6 (dk_at dksX5_plug_4 17 rfl rfl)
theorem dX5_plug_111 : decode cX5_plug 111 = .ok (.invokevirtual 124, 3) := dk_182 0 124 (dk_at dksX5_plug_4 19 rfl rfl)
theorem dX5_plug_114 : decode cX5_plug 114 = .ok (.ireturn, 1) := dk_172 (dk_at dksX5_plug_4 22 rfl rfl)
abbrev cX5_isName : ByteArray := prog_40_method_26_code
def yX5_isName : MethodName := ⟨RX5, "isName", "(I)Z"⟩
def dkwX5_isName_1 : List UInt8 := [154, 0, 5, 3, 172, 27, 16, 27, 108, 60, 167, 255, 238, 4, 172]
abbrev dktX5_isName_1 : List UInt8 := dkwX5_isName_1 ++ []
def dkwX5_isName_0 : List UInt8 := [26, 158, 0, 9, 26, 18, 114, 161, 0, 5, 3, 172, 26, 60, 27, 158, 0, 20, 27, 16, 27, 112]
abbrev dktX5_isName_0 : List UInt8 := dkwX5_isName_0 ++ dktX5_isName_1
theorem dksX5_isName_0 : cX5_isName.data.toList.drop 0 = dktX5_isName_0 := by decide +kernel
theorem dksX5_isName_1 : cX5_isName.data.toList.drop 22 = dktX5_isName_1 := dk_seg dksX5_isName_0 22 rfl rfl
theorem dX5_isName_0 : decode cX5_isName 0 = .ok (.iload_n 0, 1) := dk_26 (dk_at dksX5_isName_0 0 rfl rfl)
theorem dX5_isName_1 : decode cX5_isName 1 = .ok (.ifCond .le 9, 3) := dk_158 0 9 (dk_at dksX5_isName_0 1 rfl rfl)
theorem dX5_isName_4 : decode cX5_isName 4 = .ok (.iload_n 0, 1) := dk_26 (dk_at dksX5_isName_0 4 rfl rfl)
theorem dX5_isName_5 : decode cX5_isName 5 = .ok (.ldc 114, 2) := dk_18 114 (dk_at dksX5_isName_0 5 rfl rfl)
theorem dX5_isName_7 : decode cX5_isName 7 = .ok (.if_icmp .lt 5, 3) := dk_161 0 5 (dk_at dksX5_isName_0 7 rfl rfl)
theorem dX5_isName_10 : decode cX5_isName 10 = .ok (.iconst 0, 1) := dk_3 (dk_at dksX5_isName_0 10 rfl rfl)
theorem dX5_isName_11 : decode cX5_isName 11 = .ok (.ireturn, 1) := dk_172 (dk_at dksX5_isName_0 11 rfl rfl)
theorem dX5_isName_12 : decode cX5_isName 12 = .ok (.iload_n 0, 1) := dk_26 (dk_at dksX5_isName_0 12 rfl rfl)
theorem dX5_isName_13 : decode cX5_isName 13 = .ok (.istore_n 1, 1) := dk_60 (dk_at dksX5_isName_0 13 rfl rfl)
theorem dX5_isName_14 : decode cX5_isName 14 = .ok (.iload_n 1, 1) := dk_27 (dk_at dksX5_isName_0 14 rfl rfl)
theorem dX5_isName_15 : decode cX5_isName 15 = .ok (.ifCond .le 20, 3) := dk_158 0 20 (dk_at dksX5_isName_0 15 rfl rfl)
theorem dX5_isName_18 : decode cX5_isName 18 = .ok (.iload_n 1, 1) := dk_27 (dk_at dksX5_isName_0 18 rfl rfl)
theorem dX5_isName_19 : decode cX5_isName 19 = .ok (.bipush 27, 2) := dk_16 27 (dk_at dksX5_isName_0 19 rfl rfl)
theorem dX5_isName_21 : decode cX5_isName 21 = .ok (.irem, 1) := dk_112 (dk_at dksX5_isName_0 21 rfl rfl)
theorem dX5_isName_22 : decode cX5_isName 22 = .ok (.ifCond .ne 5, 3) := dk_154 0 5 (dk_at dksX5_isName_1 0 rfl rfl)
theorem dX5_isName_25 : decode cX5_isName 25 = .ok (.iconst 0, 1) := dk_3 (dk_at dksX5_isName_1 3 rfl rfl)
theorem dX5_isName_26 : decode cX5_isName 26 = .ok (.ireturn, 1) := dk_172 (dk_at dksX5_isName_1 4 rfl rfl)
theorem dX5_isName_27 : decode cX5_isName 27 = .ok (.iload_n 1, 1) := dk_27 (dk_at dksX5_isName_1 5 rfl rfl)
theorem dX5_isName_28 : decode cX5_isName 28 = .ok (.bipush 27, 2) := dk_16 27 (dk_at dksX5_isName_1 6 rfl rfl)
theorem dX5_isName_30 : decode cX5_isName 30 = .ok (.idiv, 1) := dk_108 (dk_at dksX5_isName_1 8 rfl rfl)
theorem dX5_isName_31 : decode cX5_isName 31 = .ok (.istore_n 1, 1) := dk_60 (dk_at dksX5_isName_1 9 rfl rfl)
theorem dX5_isName_32 : decode cX5_isName 32 = .ok (.goto (-18), 3) := dk_167 255 238 (dk_at dksX5_isName_1 10 rfl rfl)
theorem dX5_isName_35 : decode cX5_isName 35 = .ok (.iconst 1, 1) := dk_4 (dk_at dksX5_isName_1 13 rfl rfl)
theorem dX5_isName_36 : decode cX5_isName 36 = .ok (.ireturn, 1) := dk_172 (dk_at dksX5_isName_1 14 rfl rfl)
abbrev cX5_isThere : ByteArray := prog_40_method_27_code
def yX5_isThere : MethodName := ⟨RX5, "isThere", "(I)Z"⟩
def dkwX5_isThere_1 : List UInt8 := [182, 0, 80, 27, 160, 0, 5, 4, 172, 132, 2, 1, 167, 255, 223, 3, 172]
abbrev dktX5_isThere_1 : List UInt8 := dkwX5_isThere_1 ++ []
def dkwX5_isThere_0 : List UInt8 := [3, 61, 28, 42, 180, 0, 73, 162, 0, 31, 42, 28, 182, 0, 115, 6, 159, 0, 16, 42, 16, 6, 28]
abbrev dktX5_isThere_0 : List UInt8 := dkwX5_isThere_0 ++ dktX5_isThere_1
theorem dksX5_isThere_0 : cX5_isThere.data.toList.drop 0 = dktX5_isThere_0 := by decide +kernel
theorem dksX5_isThere_1 : cX5_isThere.data.toList.drop 23 = dktX5_isThere_1 := dk_seg dksX5_isThere_0 23 rfl rfl
theorem dX5_isThere_0 : decode cX5_isThere 0 = .ok (.iconst 0, 1) := dk_3 (dk_at dksX5_isThere_0 0 rfl rfl)
theorem dX5_isThere_1 : decode cX5_isThere 1 = .ok (.istore_n 2, 1) := dk_61 (dk_at dksX5_isThere_0 1 rfl rfl)
theorem dX5_isThere_2 : decode cX5_isThere 2 = .ok (.iload_n 2, 1) := dk_28 (dk_at dksX5_isThere_0 2 rfl rfl)
theorem dX5_isThere_3 : decode cX5_isThere 3 = .ok (.aload_n 0, 1) := dk_42 (dk_at dksX5_isThere_0 3 rfl rfl)
theorem dX5_isThere_4 : decode cX5_isThere 4 = .ok (.getfield 73, 3) := dk_180 0 73 (dk_at dksX5_isThere_0 4 rfl rfl)
theorem dX5_isThere_7 : decode cX5_isThere 7 = .ok (.if_icmp .ge 31, 3) := dk_162 0 31 (dk_at dksX5_isThere_0 7 rfl rfl)
theorem dX5_isThere_10 : decode cX5_isThere 10 = .ok (.aload_n 0, 1) := dk_42 (dk_at dksX5_isThere_0 10 rfl rfl)
theorem dX5_isThere_11 : decode cX5_isThere 11 = .ok (.iload_n 2, 1) := dk_28 (dk_at dksX5_isThere_0 11 rfl rfl)
theorem dX5_isThere_12 : decode cX5_isThere 12 = .ok (.invokevirtual 115, 3) := dk_182 0 115 (dk_at dksX5_isThere_0 12 rfl rfl)
theorem dX5_isThere_15 : decode cX5_isThere 15 = .ok (.iconst 3, 1) := dk_6 (dk_at dksX5_isThere_0 15 rfl rfl)
theorem dX5_isThere_16 : decode cX5_isThere 16 = .ok (.if_icmp .eq 16, 3) := dk_159 0 16 (dk_at dksX5_isThere_0 16 rfl rfl)
theorem dX5_isThere_19 : decode cX5_isThere 19 = .ok (.aload_n 0, 1) := dk_42 (dk_at dksX5_isThere_0 19 rfl rfl)
theorem dX5_isThere_20 : decode cX5_isThere 20 = .ok (.bipush 6, 2) := dk_16 6 (dk_at dksX5_isThere_0 20 rfl rfl)
theorem dX5_isThere_22 : decode cX5_isThere 22 = .ok (.iload_n 2, 1) := dk_28 (dk_at dksX5_isThere_0 22 rfl rfl)
theorem dX5_isThere_23 : decode cX5_isThere 23 = .ok (.invokevirtual 80, 3) := dk_182 0 80 (dk_at dksX5_isThere_1 0 rfl rfl)
theorem dX5_isThere_26 : decode cX5_isThere 26 = .ok (.iload_n 1, 1) := dk_27 (dk_at dksX5_isThere_1 3 rfl rfl)
theorem dX5_isThere_27 : decode cX5_isThere 27 = .ok (.if_icmp .ne 5, 3) := dk_160 0 5 (dk_at dksX5_isThere_1 4 rfl rfl)
theorem dX5_isThere_30 : decode cX5_isThere 30 = .ok (.iconst 1, 1) := dk_4 (dk_at dksX5_isThere_1 7 rfl rfl)
theorem dX5_isThere_31 : decode cX5_isThere 31 = .ok (.ireturn, 1) := dk_172 (dk_at dksX5_isThere_1 8 rfl rfl)
theorem dX5_isThere_32 : decode cX5_isThere 32 = .ok (.iinc 2 1, 3) := dk_132 2 1 (dk_at dksX5_isThere_1 9 rfl rfl)
theorem dX5_isThere_35 : decode cX5_isThere 35 = .ok (.goto (-33), 3) := dk_167 255 223 (dk_at dksX5_isThere_1 12 rfl rfl)
theorem dX5_isThere_38 : decode cX5_isThere 38 = .ok (.iconst 0, 1) := dk_3 (dk_at dksX5_isThere_1 15 rfl rfl)
theorem dX5_isThere_39 : decode cX5_isThere 39 = .ok (.ireturn, 1) := dk_172 (dk_at dksX5_isThere_1 16 rfl rfl)
abbrev cX5_state : ByteArray := prog_40_method_10_code
def yX5_state : MethodName := ⟨RX5, "state", "(I)I"⟩
def dkwX5_state_0 : List UInt8 := [42, 180, 0, 7, 27, 46, 172]
abbrev dktX5_state_0 : List UInt8 := dkwX5_state_0 ++ []
theorem dksX5_state_0 : cX5_state.data.toList.drop 0 = dktX5_state_0 := by decide +kernel
theorem dX5_state_0 : decode cX5_state 0 = .ok (.aload_n 0, 1) := dk_42 (dk_at dksX5_state_0 0 rfl rfl)
theorem dX5_state_1 : decode cX5_state 1 = .ok (.getfield 7, 3) := dk_180 0 7 (dk_at dksX5_state_0 1 rfl rfl)
theorem dX5_state_4 : decode cX5_state 4 = .ok (.iload_n 1, 1) := dk_27 (dk_at dksX5_state_0 4 rfl rfl)
theorem dX5_state_5 : decode cX5_state 5 = .ok (.iaload, 1) := dk_46 (dk_at dksX5_state_0 5 rfl rfl)
theorem dX5_state_6 : decode cX5_state 6 = .ok (.ireturn, 1) := dk_172 (dk_at dksX5_state_0 6 rfl rfl)
abbrev cX5_newPlug : ByteArray := prog_40_method_25_code
def yX5_newPlug : MethodName := ⟨RX5, "newPlug", "(IIIIII)I"⟩
def dkwX5_newPlug_5 : List UInt8 := [79, 42, 89, 180, 0, 73, 90, 4, 96, 181, 0, 73, 172]
abbrev dktX5_newPlug_5 : List UInt8 := dkwX5_newPlug_5 ++ []
def dkwX5_newPlug_4 : List UInt8 := [180, 0, 7, 16, 84, 42, 180, 0, 73, 96, 3, 79, 42, 180, 0, 7, 16, 96, 42, 180, 0, 73, 96, 3]
abbrev dktX5_newPlug_4 : List UInt8 := dkwX5_newPlug_4 ++ dktX5_newPlug_5
def dkwX5_newPlug_3 : List UInt8 := [180, 0, 73, 96, 21, 5, 79, 42, 180, 0, 7, 16, 72, 42, 180, 0, 73, 96, 21, 6, 79, 42]
abbrev dktX5_newPlug_3 : List UInt8 := dkwX5_newPlug_3 ++ dktX5_newPlug_4
def dkwX5_newPlug_2 : List UInt8 := [79, 42, 180, 0, 7, 16, 48, 42, 180, 0, 73, 96, 21, 4, 79, 42, 180, 0, 7, 16, 60, 42]
abbrev dktX5_newPlug_2 : List UInt8 := dkwX5_newPlug_2 ++ dktX5_newPlug_3
def dkwX5_newPlug_1 : List UInt8 := [180, 0, 7, 16, 24, 42, 180, 0, 73, 96, 28, 79, 42, 180, 0, 7, 16, 36, 42, 180, 0, 73, 96, 29]
abbrev dktX5_newPlug_1 : List UInt8 := dkwX5_newPlug_1 ++ dktX5_newPlug_2
def dkwX5_newPlug_0 : List UInt8 := [42, 180, 0, 7, 42, 180, 0, 73, 3, 79, 42, 180, 0, 7, 16, 12, 42, 180, 0, 73, 96, 27, 79, 42]
abbrev dktX5_newPlug_0 : List UInt8 := dkwX5_newPlug_0 ++ dktX5_newPlug_1
theorem dksX5_newPlug_0 : cX5_newPlug.data.toList.drop 0 = dktX5_newPlug_0 := by decide +kernel
theorem dksX5_newPlug_1 : cX5_newPlug.data.toList.drop 24 = dktX5_newPlug_1 := dk_seg dksX5_newPlug_0 24 rfl rfl
theorem dksX5_newPlug_2 : cX5_newPlug.data.toList.drop 48 = dktX5_newPlug_2 := dk_seg dksX5_newPlug_1 24 rfl rfl
theorem dksX5_newPlug_3 : cX5_newPlug.data.toList.drop 70 = dktX5_newPlug_3 := dk_seg dksX5_newPlug_2 22 rfl rfl
theorem dksX5_newPlug_4 : cX5_newPlug.data.toList.drop 92 = dktX5_newPlug_4 := dk_seg dksX5_newPlug_3 22 rfl rfl
theorem dksX5_newPlug_5 : cX5_newPlug.data.toList.drop 116 = dktX5_newPlug_5 := dk_seg dksX5_newPlug_4 24 rfl rfl
theorem dX5_newPlug_0 : decode cX5_newPlug 0 = .ok (.aload_n 0, 1) := dk_42 (dk_at dksX5_newPlug_0 0 rfl rfl)
theorem dX5_newPlug_1 : decode cX5_newPlug 1 = .ok (.getfield 7, 3) := dk_180 0 7 (dk_at dksX5_newPlug_0 1 rfl rfl)
theorem dX5_newPlug_4 : decode cX5_newPlug 4 = .ok (.aload_n 0, 1) := dk_42 (dk_at dksX5_newPlug_0 4 rfl rfl)
theorem dX5_newPlug_5 : decode cX5_newPlug 5 = .ok (.getfield 73, 3) := dk_180 0 73 (dk_at dksX5_newPlug_0 5 rfl rfl)
theorem dX5_newPlug_8 : decode cX5_newPlug 8 = .ok (.iconst 0, 1) := dk_3 (dk_at dksX5_newPlug_0 8 rfl rfl)
theorem dX5_newPlug_9 : decode cX5_newPlug 9 = .ok (.iastore, 1) := dk_79 (dk_at dksX5_newPlug_0 9 rfl rfl)
theorem dX5_newPlug_10 : decode cX5_newPlug 10 = .ok (.aload_n 0, 1) := dk_42 (dk_at dksX5_newPlug_0 10 rfl rfl)
theorem dX5_newPlug_11 : decode cX5_newPlug 11 = .ok (.getfield 7, 3) := dk_180 0 7 (dk_at dksX5_newPlug_0 11 rfl rfl)
theorem dX5_newPlug_14 : decode cX5_newPlug 14 = .ok (.bipush 12, 2) := dk_16 12 (dk_at dksX5_newPlug_0 14 rfl rfl)
theorem dX5_newPlug_16 : decode cX5_newPlug 16 = .ok (.aload_n 0, 1) := dk_42 (dk_at dksX5_newPlug_0 16 rfl rfl)
theorem dX5_newPlug_17 : decode cX5_newPlug 17 = .ok (.getfield 73, 3) := dk_180 0 73 (dk_at dksX5_newPlug_0 17 rfl rfl)
theorem dX5_newPlug_20 : decode cX5_newPlug 20 = .ok (.iadd, 1) := dk_96 (dk_at dksX5_newPlug_0 20 rfl rfl)
theorem dX5_newPlug_21 : decode cX5_newPlug 21 = .ok (.iload_n 1, 1) := dk_27 (dk_at dksX5_newPlug_0 21 rfl rfl)
theorem dX5_newPlug_22 : decode cX5_newPlug 22 = .ok (.iastore, 1) := dk_79 (dk_at dksX5_newPlug_0 22 rfl rfl)
theorem dX5_newPlug_23 : decode cX5_newPlug 23 = .ok (.aload_n 0, 1) := dk_42 (dk_at dksX5_newPlug_0 23 rfl rfl)
theorem dX5_newPlug_24 : decode cX5_newPlug 24 = .ok (.getfield 7, 3) := dk_180 0 7 (dk_at dksX5_newPlug_1 0 rfl rfl)
theorem dX5_newPlug_27 : decode cX5_newPlug 27 = .ok (.bipush 24, 2) := dk_16 24 (dk_at dksX5_newPlug_1 3 rfl rfl)
theorem dX5_newPlug_29 : decode cX5_newPlug 29 = .ok (.aload_n 0, 1) := dk_42 (dk_at dksX5_newPlug_1 5 rfl rfl)
theorem dX5_newPlug_30 : decode cX5_newPlug 30 = .ok (.getfield 73, 3) := dk_180 0 73 (dk_at dksX5_newPlug_1 6 rfl rfl)
theorem dX5_newPlug_33 : decode cX5_newPlug 33 = .ok (.iadd, 1) := dk_96 (dk_at dksX5_newPlug_1 9 rfl rfl)
theorem dX5_newPlug_34 : decode cX5_newPlug 34 = .ok (.iload_n 2, 1) := dk_28 (dk_at dksX5_newPlug_1 10 rfl rfl)
theorem dX5_newPlug_35 : decode cX5_newPlug 35 = .ok (.iastore, 1) := dk_79 (dk_at dksX5_newPlug_1 11 rfl rfl)
theorem dX5_newPlug_36 : decode cX5_newPlug 36 = .ok (.aload_n 0, 1) := dk_42 (dk_at dksX5_newPlug_1 12 rfl rfl)
theorem dX5_newPlug_37 : decode cX5_newPlug 37 = .ok (.getfield 7, 3) := dk_180 0 7 (dk_at dksX5_newPlug_1 13 rfl rfl)
theorem dX5_newPlug_40 : decode cX5_newPlug 40 = .ok (.bipush 36, 2) := dk_16 36 (dk_at dksX5_newPlug_1 16 rfl rfl)
theorem dX5_newPlug_42 : decode cX5_newPlug 42 = .ok (.aload_n 0, 1) := dk_42 (dk_at dksX5_newPlug_1 18 rfl rfl)
theorem dX5_newPlug_43 : decode cX5_newPlug 43 = .ok (.getfield 73, 3) := dk_180 0 73 (dk_at dksX5_newPlug_1 19 rfl rfl)
theorem dX5_newPlug_46 : decode cX5_newPlug 46 = .ok (.iadd, 1) := dk_96 (dk_at dksX5_newPlug_1 22 rfl rfl)
theorem dX5_newPlug_47 : decode cX5_newPlug 47 = .ok (.iload_n 3, 1) := dk_29 (dk_at dksX5_newPlug_1 23 rfl rfl)
theorem dX5_newPlug_48 : decode cX5_newPlug 48 = .ok (.iastore, 1) := dk_79 (dk_at dksX5_newPlug_2 0 rfl rfl)
theorem dX5_newPlug_49 : decode cX5_newPlug 49 = .ok (.aload_n 0, 1) := dk_42 (dk_at dksX5_newPlug_2 1 rfl rfl)
theorem dX5_newPlug_50 : decode cX5_newPlug 50 = .ok (.getfield 7, 3) := dk_180 0 7 (dk_at dksX5_newPlug_2 2 rfl rfl)
theorem dX5_newPlug_53 : decode cX5_newPlug 53 = .ok (.bipush 48, 2) := dk_16 48 (dk_at dksX5_newPlug_2 5 rfl rfl)
theorem dX5_newPlug_55 : decode cX5_newPlug 55 = .ok (.aload_n 0, 1) := dk_42 (dk_at dksX5_newPlug_2 7 rfl rfl)
theorem dX5_newPlug_56 : decode cX5_newPlug 56 = .ok (.getfield 73, 3) := dk_180 0 73 (dk_at dksX5_newPlug_2 8 rfl rfl)
theorem dX5_newPlug_59 : decode cX5_newPlug 59 = .ok (.iadd, 1) := dk_96 (dk_at dksX5_newPlug_2 11 rfl rfl)
theorem dX5_newPlug_60 : decode cX5_newPlug 60 = .ok (.iload 4, 2) := dk_21 4 (dk_at dksX5_newPlug_2 12 rfl rfl)
theorem dX5_newPlug_62 : decode cX5_newPlug 62 = .ok (.iastore, 1) := dk_79 (dk_at dksX5_newPlug_2 14 rfl rfl)
theorem dX5_newPlug_63 : decode cX5_newPlug 63 = .ok (.aload_n 0, 1) := dk_42 (dk_at dksX5_newPlug_2 15 rfl rfl)
theorem dX5_newPlug_64 : decode cX5_newPlug 64 = .ok (.getfield 7, 3) := dk_180 0 7 (dk_at dksX5_newPlug_2 16 rfl rfl)
theorem dX5_newPlug_67 : decode cX5_newPlug 67 = .ok (.bipush 60, 2) := dk_16 60 (dk_at dksX5_newPlug_2 19 rfl rfl)
theorem dX5_newPlug_69 : decode cX5_newPlug 69 = .ok (.aload_n 0, 1) := dk_42 (dk_at dksX5_newPlug_2 21 rfl rfl)
theorem dX5_newPlug_70 : decode cX5_newPlug 70 = .ok (.getfield 73, 3) := dk_180 0 73 (dk_at dksX5_newPlug_3 0 rfl rfl)
theorem dX5_newPlug_73 : decode cX5_newPlug 73 = .ok (.iadd, 1) := dk_96 (dk_at dksX5_newPlug_3 3 rfl rfl)
theorem dX5_newPlug_74 : decode cX5_newPlug 74 = .ok (.iload 5, 2) := dk_21 5 (dk_at dksX5_newPlug_3 4 rfl rfl)
theorem dX5_newPlug_76 : decode cX5_newPlug 76 = .ok (.iastore, 1) := dk_79 (dk_at dksX5_newPlug_3 6 rfl rfl)
theorem dX5_newPlug_77 : decode cX5_newPlug 77 = .ok (.aload_n 0, 1) := dk_42 (dk_at dksX5_newPlug_3 7 rfl rfl)
theorem dX5_newPlug_78 : decode cX5_newPlug 78 = .ok (.getfield 7, 3) := dk_180 0 7 (dk_at dksX5_newPlug_3 8 rfl rfl)
theorem dX5_newPlug_81 : decode cX5_newPlug 81 = .ok (.bipush 72, 2) := dk_16 72 (dk_at dksX5_newPlug_3 11 rfl rfl)
theorem dX5_newPlug_83 : decode cX5_newPlug 83 = .ok (.aload_n 0, 1) := dk_42 (dk_at dksX5_newPlug_3 13 rfl rfl)
theorem dX5_newPlug_84 : decode cX5_newPlug 84 = .ok (.getfield 73, 3) := dk_180 0 73 (dk_at dksX5_newPlug_3 14 rfl rfl)
theorem dX5_newPlug_87 : decode cX5_newPlug 87 = .ok (.iadd, 1) := dk_96 (dk_at dksX5_newPlug_3 17 rfl rfl)
theorem dX5_newPlug_88 : decode cX5_newPlug 88 = .ok (.iload 6, 2) := dk_21 6 (dk_at dksX5_newPlug_3 18 rfl rfl)
theorem dX5_newPlug_90 : decode cX5_newPlug 90 = .ok (.iastore, 1) := dk_79 (dk_at dksX5_newPlug_3 20 rfl rfl)
theorem dX5_newPlug_91 : decode cX5_newPlug 91 = .ok (.aload_n 0, 1) := dk_42 (dk_at dksX5_newPlug_3 21 rfl rfl)
theorem dX5_newPlug_92 : decode cX5_newPlug 92 = .ok (.getfield 7, 3) := dk_180 0 7 (dk_at dksX5_newPlug_4 0 rfl rfl)
theorem dX5_newPlug_95 : decode cX5_newPlug 95 = .ok (.bipush 84, 2) := dk_16 84 (dk_at dksX5_newPlug_4 3 rfl rfl)
theorem dX5_newPlug_97 : decode cX5_newPlug 97 = .ok (.aload_n 0, 1) := dk_42 (dk_at dksX5_newPlug_4 5 rfl rfl)
theorem dX5_newPlug_98 : decode cX5_newPlug 98 = .ok (.getfield 73, 3) := dk_180 0 73 (dk_at dksX5_newPlug_4 6 rfl rfl)
theorem dX5_newPlug_101 : decode cX5_newPlug 101 = .ok (.iadd, 1) := dk_96 (dk_at dksX5_newPlug_4 9 rfl rfl)
theorem dX5_newPlug_102 : decode cX5_newPlug 102 = .ok (.iconst 0, 1) := dk_3 (dk_at dksX5_newPlug_4 10 rfl rfl)
theorem dX5_newPlug_103 : decode cX5_newPlug 103 = .ok (.iastore, 1) := dk_79 (dk_at dksX5_newPlug_4 11 rfl rfl)
theorem dX5_newPlug_104 : decode cX5_newPlug 104 = .ok (.aload_n 0, 1) := dk_42 (dk_at dksX5_newPlug_4 12 rfl rfl)
theorem dX5_newPlug_105 : decode cX5_newPlug 105 = .ok (.getfield 7, 3) := dk_180 0 7 (dk_at dksX5_newPlug_4 13 rfl rfl)
theorem dX5_newPlug_108 : decode cX5_newPlug 108 = .ok (.bipush 96, 2) := dk_16 96 (dk_at dksX5_newPlug_4 16 rfl rfl)
theorem dX5_newPlug_110 : decode cX5_newPlug 110 = .ok (.aload_n 0, 1) := dk_42 (dk_at dksX5_newPlug_4 18 rfl rfl)
theorem dX5_newPlug_111 : decode cX5_newPlug 111 = .ok (.getfield 73, 3) := dk_180 0 73 (dk_at dksX5_newPlug_4 19 rfl rfl)
theorem dX5_newPlug_114 : decode cX5_newPlug 114 = .ok (.iadd, 1) := dk_96 (dk_at dksX5_newPlug_4 22 rfl rfl)
theorem dX5_newPlug_115 : decode cX5_newPlug 115 = .ok (.iconst 0, 1) := dk_3 (dk_at dksX5_newPlug_4 23 rfl rfl)
theorem dX5_newPlug_116 : decode cX5_newPlug 116 = .ok (.iastore, 1) := dk_79 (dk_at dksX5_newPlug_5 0 rfl rfl)
theorem dX5_newPlug_117 : decode cX5_newPlug 117 = .ok (.aload_n 0, 1) := dk_42 (dk_at dksX5_newPlug_5 1 rfl rfl)
theorem dX5_newPlug_118 : decode cX5_newPlug 118 = .ok (.dup, 1) := dk_89 (dk_at dksX5_newPlug_5 2 rfl rfl)
theorem dX5_newPlug_119 : decode cX5_newPlug 119 = .ok (.getfield 73, 3) := dk_180 0 73 (dk_at dksX5_newPlug_5 3 rfl rfl)
theorem dX5_newPlug_122 : decode cX5_newPlug 122 = .ok (.dup_x1, 1) := dk_90 (dk_at dksX5_newPlug_5 6 rfl rfl)
theorem dX5_newPlug_123 : decode cX5_newPlug 123 = .ok (.iconst 1, 1) := dk_4 (dk_at dksX5_newPlug_5 7 rfl rfl)
theorem dX5_newPlug_124 : decode cX5_newPlug 124 = .ok (.iadd, 1) := dk_96 (dk_at dksX5_newPlug_5 8 rfl rfl)
theorem dX5_newPlug_125 : decode cX5_newPlug 125 = .ok (.putfield 73, 3) := dk_181 0 73 (dk_at dksX5_newPlug_5 9 rfl rfl)
theorem dX5_newPlug_128 : decode cX5_newPlug 128 = .ok (.ireturn, 1) := dk_172 (dk_at dksX5_newPlug_5 12 rfl rfl)
abbrev cX5_read : ByteArray := prog_40_method_35_code
def yX5_read : MethodName := ⟨RX5, "read", "(I)I"⟩
def dkwX5_read_5 : List UInt8 := [181, 0, 73, 42, 16, 250, 182, 0, 69, 172]
abbrev dktX5_read_5 : List UInt8 := dkwX5_read_5 ++ []
def dkwX5_read_4 : List UInt8 := [167, 0, 7, 42, 180, 0, 128, 181, 0, 66, 21, 4, 153, 0, 10, 42, 180, 0, 73, 29, 100, 172, 42, 29]
abbrev dktX5_read_4 : List UInt8 := dkwX5_read_4 ++ dktX5_read_5
def dkwX5_read_3 : List UInt8 := [42, 180, 0, 19, 27, 46, 160, 0, 7, 4, 167, 0, 4, 3, 54, 4, 42, 21, 4, 153, 0, 7, 2]
abbrev dktX5_read_3 : List UInt8 := dkwX5_read_3 ++ dktX5_read_4
def dkwX5_read_2 : List UInt8 := [182, 0, 138, 153, 0, 12, 42, 182, 0, 150, 54, 4, 167, 255, 236, 21, 4, 153, 0, 20, 42, 180, 0, 128]
abbrev dktX5_read_2 : List UInt8 := dkwX5_read_2 ++ dktX5_read_3
def dkwX5_read_1 : List UInt8 := [181, 0, 131, 42, 3, 181, 0, 128, 42, 182, 0, 150, 54, 4, 21, 4, 153, 0, 21, 42, 16, 59]
abbrev dktX5_read_1 : List UInt8 := dkwX5_read_1 ++ dktX5_read_2
def dkwX5_read_0 : List UInt8 := [42, 27, 182, 0, 88, 61, 28, 156, 0, 9, 42, 28, 182, 0, 69, 172, 42, 180, 0, 73, 62, 42, 27]
abbrev dktX5_read_0 : List UInt8 := dkwX5_read_0 ++ dktX5_read_1
theorem dksX5_read_0 : cX5_read.data.toList.drop 0 = dktX5_read_0 := by decide +kernel
theorem dksX5_read_1 : cX5_read.data.toList.drop 23 = dktX5_read_1 := dk_seg dksX5_read_0 23 rfl rfl
theorem dksX5_read_2 : cX5_read.data.toList.drop 45 = dktX5_read_2 := dk_seg dksX5_read_1 22 rfl rfl
theorem dksX5_read_3 : cX5_read.data.toList.drop 69 = dktX5_read_3 := dk_seg dksX5_read_2 24 rfl rfl
theorem dksX5_read_4 : cX5_read.data.toList.drop 92 = dktX5_read_4 := dk_seg dksX5_read_3 23 rfl rfl
theorem dksX5_read_5 : cX5_read.data.toList.drop 116 = dktX5_read_5 := dk_seg dksX5_read_4 24 rfl rfl
theorem dX5_read_0 : decode cX5_read 0 = .ok (.aload_n 0, 1) := dk_42 (dk_at dksX5_read_0 0 rfl rfl)
theorem dX5_read_1 : decode cX5_read 1 = .ok (.iload_n 1, 1) := dk_27 (dk_at dksX5_read_0 1 rfl rfl)
theorem dX5_read_2 : decode cX5_read 2 = .ok (.invokevirtual 88, 3) := dk_182 0 88 (dk_at dksX5_read_0 2 rfl rfl)
theorem dX5_read_5 : decode cX5_read 5 = .ok (.istore_n 2, 1) := dk_61 (dk_at dksX5_read_0 5 rfl rfl)
theorem dX5_read_6 : decode cX5_read 6 = .ok (.iload_n 2, 1) := dk_28 (dk_at dksX5_read_0 6 rfl rfl)
theorem dX5_read_7 : decode cX5_read 7 = .ok (.ifCond .ge 9, 3) := dk_156 0 9 (dk_at dksX5_read_0 7 rfl rfl)
theorem dX5_read_10 : decode cX5_read 10 = .ok (.aload_n 0, 1) := dk_42 (dk_at dksX5_read_0 10 rfl rfl)
theorem dX5_read_11 : decode cX5_read 11 = .ok (.iload_n 2, 1) := dk_28 (dk_at dksX5_read_0 11 rfl rfl)
theorem dX5_read_12 : decode cX5_read 12 = .ok (.invokevirtual 69, 3) := dk_182 0 69 (dk_at dksX5_read_0 12 rfl rfl)
theorem dX5_read_15 : decode cX5_read 15 = .ok (.ireturn, 1) := dk_172 (dk_at dksX5_read_0 15 rfl rfl)
theorem dX5_read_16 : decode cX5_read 16 = .ok (.aload_n 0, 1) := dk_42 (dk_at dksX5_read_0 16 rfl rfl)
theorem dX5_read_17 : decode cX5_read 17 = .ok (.getfield 73, 3) := dk_180 0 73 (dk_at dksX5_read_0 17 rfl rfl)
theorem dX5_read_20 : decode cX5_read 20 = .ok (.istore_n 3, 1) := dk_62 (dk_at dksX5_read_0 20 rfl rfl)
theorem dX5_read_21 : decode cX5_read 21 = .ok (.aload_n 0, 1) := dk_42 (dk_at dksX5_read_0 21 rfl rfl)
theorem dX5_read_22 : decode cX5_read 22 = .ok (.iload_n 1, 1) := dk_27 (dk_at dksX5_read_0 22 rfl rfl)
theorem dX5_read_23 : decode cX5_read 23 = .ok (.putfield 131, 3) := dk_181 0 131 (dk_at dksX5_read_1 0 rfl rfl)
theorem dX5_read_26 : decode cX5_read 26 = .ok (.aload_n 0, 1) := dk_42 (dk_at dksX5_read_1 3 rfl rfl)
theorem dX5_read_27 : decode cX5_read 27 = .ok (.iconst 0, 1) := dk_3 (dk_at dksX5_read_1 4 rfl rfl)
theorem dX5_read_28 : decode cX5_read 28 = .ok (.putfield 128, 3) := dk_181 0 128 (dk_at dksX5_read_1 5 rfl rfl)
theorem dX5_read_31 : decode cX5_read 31 = .ok (.aload_n 0, 1) := dk_42 (dk_at dksX5_read_1 8 rfl rfl)
theorem dX5_read_32 : decode cX5_read 32 = .ok (.invokevirtual 150, 3) := dk_182 0 150 (dk_at dksX5_read_1 9 rfl rfl)
theorem dX5_read_35 : decode cX5_read 35 = .ok (.istore 4, 2) := dk_54 4 (dk_at dksX5_read_1 12 rfl rfl)
theorem dX5_read_37 : decode cX5_read 37 = .ok (.iload 4, 2) := dk_21 4 (dk_at dksX5_read_1 14 rfl rfl)
theorem dX5_read_39 : decode cX5_read 39 = .ok (.ifCond .eq 21, 3) := dk_153 0 21 (dk_at dksX5_read_1 16 rfl rfl)
theorem dX5_read_42 : decode cX5_read 42 = .ok (.aload_n 0, 1) := dk_42 (dk_at dksX5_read_1 19 rfl rfl)
theorem dX5_read_43 : decode cX5_read 43 = .ok (.bipush 59, 2) := dk_16 59 (dk_at dksX5_read_1 20 rfl rfl)
theorem dX5_read_45 : decode cX5_read 45 = .ok (.invokevirtual 138, 3) := dk_182 0 138 (dk_at dksX5_read_2 0 rfl rfl)
theorem dX5_read_48 : decode cX5_read 48 = .ok (.ifCond .eq 12, 3) := dk_153 0 12 (dk_at dksX5_read_2 3 rfl rfl)
theorem dX5_read_51 : decode cX5_read 51 = .ok (.aload_n 0, 1) := dk_42 (dk_at dksX5_read_2 6 rfl rfl)
theorem dX5_read_52 : decode cX5_read 52 = .ok (.invokevirtual 150, 3) := dk_182 0 150 (dk_at dksX5_read_2 7 rfl rfl)
theorem dX5_read_55 : decode cX5_read 55 = .ok (.istore 4, 2) := dk_54 4 (dk_at dksX5_read_2 10 rfl rfl)
theorem dX5_read_57 : decode cX5_read 57 = .ok (.goto (-20), 3) := dk_167 255 236 (dk_at dksX5_read_2 12 rfl rfl)
theorem dX5_read_60 : decode cX5_read 60 = .ok (.iload 4, 2) := dk_21 4 (dk_at dksX5_read_2 15 rfl rfl)
theorem dX5_read_62 : decode cX5_read 62 = .ok (.ifCond .eq 20, 3) := dk_153 0 20 (dk_at dksX5_read_2 17 rfl rfl)
theorem dX5_read_65 : decode cX5_read 65 = .ok (.aload_n 0, 1) := dk_42 (dk_at dksX5_read_2 20 rfl rfl)
theorem dX5_read_66 : decode cX5_read 66 = .ok (.getfield 128, 3) := dk_180 0 128 (dk_at dksX5_read_2 21 rfl rfl)
theorem dX5_read_69 : decode cX5_read 69 = .ok (.aload_n 0, 1) := dk_42 (dk_at dksX5_read_3 0 rfl rfl)
theorem dX5_read_70 : decode cX5_read 70 = .ok (.getfield 19, 3) := dk_180 0 19 (dk_at dksX5_read_3 1 rfl rfl)
theorem dX5_read_73 : decode cX5_read 73 = .ok (.iload_n 1, 1) := dk_27 (dk_at dksX5_read_3 4 rfl rfl)
theorem dX5_read_74 : decode cX5_read 74 = .ok (.iaload, 1) := dk_46 (dk_at dksX5_read_3 5 rfl rfl)
theorem dX5_read_75 : decode cX5_read 75 = .ok (.if_icmp .ne 7, 3) := dk_160 0 7 (dk_at dksX5_read_3 6 rfl rfl)
theorem dX5_read_78 : decode cX5_read 78 = .ok (.iconst 1, 1) := dk_4 (dk_at dksX5_read_3 9 rfl rfl)
theorem dX5_read_79 : decode cX5_read 79 = .ok (.goto 4, 3) := dk_167 0 4 (dk_at dksX5_read_3 10 rfl rfl)
theorem dX5_read_82 : decode cX5_read 82 = .ok (.iconst 0, 1) := dk_3 (dk_at dksX5_read_3 13 rfl rfl)
theorem dX5_read_83 : decode cX5_read 83 = .ok (.istore 4, 2) := dk_54 4 (dk_at dksX5_read_3 14 rfl rfl)
theorem dX5_read_85 : decode cX5_read 85 = .ok (.aload_n 0, 1) := dk_42 (dk_at dksX5_read_3 16 rfl rfl)
theorem dX5_read_86 : decode cX5_read 86 = .ok (.iload 4, 2) := dk_21 4 (dk_at dksX5_read_3 17 rfl rfl)
theorem dX5_read_88 : decode cX5_read 88 = .ok (.ifCond .eq 7, 3) := dk_153 0 7 (dk_at dksX5_read_3 19 rfl rfl)
theorem dX5_read_91 : decode cX5_read 91 = .ok (.iconst (-1), 1) := dk_2 (dk_at dksX5_read_3 22 rfl rfl)
theorem dX5_read_92 : decode cX5_read 92 = .ok (.goto 7, 3) := dk_167 0 7 (dk_at dksX5_read_4 0 rfl rfl)
theorem dX5_read_95 : decode cX5_read 95 = .ok (.aload_n 0, 1) := dk_42 (dk_at dksX5_read_4 3 rfl rfl)
theorem dX5_read_96 : decode cX5_read 96 = .ok (.getfield 128, 3) := dk_180 0 128 (dk_at dksX5_read_4 4 rfl rfl)
theorem dX5_read_99 : decode cX5_read 99 = .ok (.putfield 66, 3) := dk_181 0 66 (dk_at dksX5_read_4 7 rfl rfl)
theorem dX5_read_102 : decode cX5_read 102 = .ok (.iload 4, 2) := dk_21 4 (dk_at dksX5_read_4 10 rfl rfl)
theorem dX5_read_104 : decode cX5_read 104 = .ok (.ifCond .eq 10, 3) := dk_153 0 10 (dk_at dksX5_read_4 12 rfl rfl)
theorem dX5_read_107 : decode cX5_read 107 = .ok (.aload_n 0, 1) := dk_42 (dk_at dksX5_read_4 15 rfl rfl)
theorem dX5_read_108 : decode cX5_read 108 = .ok (.getfield 73, 3) := dk_180 0 73 (dk_at dksX5_read_4 16 rfl rfl)
theorem dX5_read_111 : decode cX5_read 111 = .ok (.iload_n 3, 1) := dk_29 (dk_at dksX5_read_4 19 rfl rfl)
theorem dX5_read_112 : decode cX5_read 112 = .ok (.isub, 1) := dk_100 (dk_at dksX5_read_4 20 rfl rfl)
theorem dX5_read_113 : decode cX5_read 113 = .ok (.ireturn, 1) := dk_172 (dk_at dksX5_read_4 21 rfl rfl)
theorem dX5_read_114 : decode cX5_read 114 = .ok (.aload_n 0, 1) := dk_42 (dk_at dksX5_read_4 22 rfl rfl)
theorem dX5_read_115 : decode cX5_read 115 = .ok (.iload_n 3, 1) := dk_29 (dk_at dksX5_read_4 23 rfl rfl)
theorem dX5_read_116 : decode cX5_read 116 = .ok (.putfield 73, 3) := dk_181 0 73 (dk_at dksX5_read_5 0 rfl rfl)
theorem dX5_read_119 : decode cX5_read 119 = .ok (.aload_n 0, 1) := dk_42 (dk_at dksX5_read_5 3 rfl rfl)
theorem dX5_read_120 : decode cX5_read 120 = .ok (.bipush (-6), 2) := dk_16 250 (dk_at dksX5_read_5 4 rfl rfl)
theorem dX5_read_122 : decode cX5_read 122 = .ok (.invokevirtual 69, 3) := dk_182 0 69 (dk_at dksX5_read_5 6 rfl rfl)
theorem dX5_read_125 : decode cX5_read 125 = .ok (.ireturn, 1) := dk_172 (dk_at dksX5_read_5 9 rfl rfl)
abbrev cX5_item : ByteArray := prog_40_method_34_code
def yX5_item : MethodName := ⟨RX5, "item", "()Z"⟩
def dkwX5_item_5 : List UInt8 := [29, 21, 4, 3, 3, 3, 28, 182, 0, 124, 182, 0, 147, 153, 0, 7, 4, 167, 0, 4, 3, 172]
abbrev dktX5_item_5 : List UInt8 := dkwX5_item_5 ++ []
def dkwX5_item_4 : List UInt8 := [182, 0, 138, 154, 0, 5, 3, 172, 42, 16, 9, 182, 0, 141, 54, 4, 21, 4, 2, 159, 0, 25, 42, 42]
abbrev dktX5_item_4 : List UInt8 := dkwX5_item_4 ++ dktX5_item_5
def dkwX5_item_3 : List UInt8 := [182, 0, 144, 61, 28, 154, 0, 5, 3, 172, 42, 7, 182, 0, 141, 62, 29, 2, 159, 0, 12, 42, 16, 32]
abbrev dktX5_item_3 : List UInt8 := dkwX5_item_3 ++ dktX5_item_4
def dkwX5_item_2 : List UInt8 := [16, 12, 160, 0, 10, 42, 27, 181, 0, 128, 3, 172, 42, 16, 32, 182, 0, 138, 154, 0, 5, 3, 172, 42]
abbrev dktX5_item_2 : List UInt8 := dkwX5_item_2 ++ dktX5_item_3
def dkwX5_item_1 : List UInt8 := [16, 117, 182, 0, 138, 153, 0, 12, 42, 16, 103, 182, 0, 138, 154, 0, 5, 3, 172, 42, 180, 0, 73]
abbrev dktX5_item_1 : List UInt8 := dkwX5_item_1 ++ dktX5_item_2
def dkwX5_item_0 : List UInt8 := [42, 180, 0, 128, 60, 42, 16, 112, 182, 0, 138, 153, 0, 30, 42, 16, 108, 182, 0, 138, 153, 0, 21, 42]
abbrev dktX5_item_0 : List UInt8 := dkwX5_item_0 ++ dktX5_item_1
theorem dksX5_item_0 : cX5_item.data.toList.drop 0 = dktX5_item_0 := by decide +kernel
theorem dksX5_item_1 : cX5_item.data.toList.drop 24 = dktX5_item_1 := dk_seg dksX5_item_0 24 rfl rfl
theorem dksX5_item_2 : cX5_item.data.toList.drop 47 = dktX5_item_2 := dk_seg dksX5_item_1 23 rfl rfl
theorem dksX5_item_3 : cX5_item.data.toList.drop 71 = dktX5_item_3 := dk_seg dksX5_item_2 24 rfl rfl
theorem dksX5_item_4 : cX5_item.data.toList.drop 95 = dktX5_item_4 := dk_seg dksX5_item_3 24 rfl rfl
theorem dksX5_item_5 : cX5_item.data.toList.drop 119 = dktX5_item_5 := dk_seg dksX5_item_4 24 rfl rfl
theorem dX5_item_0 : decode cX5_item 0 = .ok (.aload_n 0, 1) := dk_42 (dk_at dksX5_item_0 0 rfl rfl)
theorem dX5_item_1 : decode cX5_item 1 = .ok (.getfield 128, 3) := dk_180 0 128 (dk_at dksX5_item_0 1 rfl rfl)
theorem dX5_item_4 : decode cX5_item 4 = .ok (.istore_n 1, 1) := dk_60 (dk_at dksX5_item_0 4 rfl rfl)
theorem dX5_item_5 : decode cX5_item 5 = .ok (.aload_n 0, 1) := dk_42 (dk_at dksX5_item_0 5 rfl rfl)
theorem dX5_item_6 : decode cX5_item 6 = .ok (.bipush 112, 2) := dk_16 112 (dk_at dksX5_item_0 6 rfl rfl)
theorem dX5_item_8 : decode cX5_item 8 = .ok (.invokevirtual 138, 3) := dk_182 0 138 (dk_at dksX5_item_0 8 rfl rfl)
theorem dX5_item_11 : decode cX5_item 11 = .ok (.ifCond .eq 30, 3) := dk_153 0 30 (dk_at dksX5_item_0 11 rfl rfl)
theorem dX5_item_14 : decode cX5_item 14 = .ok (.aload_n 0, 1) := dk_42 (dk_at dksX5_item_0 14 rfl rfl)
theorem dX5_item_15 : decode cX5_item 15 = .ok (.bipush 108, 2) := dk_16 108 (dk_at dksX5_item_0 15 rfl rfl)
theorem dX5_item_17 : decode cX5_item 17 = .ok (.invokevirtual 138, 3) := dk_182 0 138 (dk_at dksX5_item_0 17 rfl rfl)
theorem dX5_item_20 : decode cX5_item 20 = .ok (.ifCond .eq 21, 3) := dk_153 0 21 (dk_at dksX5_item_0 20 rfl rfl)
theorem dX5_item_23 : decode cX5_item 23 = .ok (.aload_n 0, 1) := dk_42 (dk_at dksX5_item_0 23 rfl rfl)
theorem dX5_item_24 : decode cX5_item 24 = .ok (.bipush 117, 2) := dk_16 117 (dk_at dksX5_item_1 0 rfl rfl)
theorem dX5_item_26 : decode cX5_item 26 = .ok (.invokevirtual 138, 3) := dk_182 0 138 (dk_at dksX5_item_1 2 rfl rfl)
theorem dX5_item_29 : decode cX5_item 29 = .ok (.ifCond .eq 12, 3) := dk_153 0 12 (dk_at dksX5_item_1 5 rfl rfl)
theorem dX5_item_32 : decode cX5_item 32 = .ok (.aload_n 0, 1) := dk_42 (dk_at dksX5_item_1 8 rfl rfl)
theorem dX5_item_33 : decode cX5_item 33 = .ok (.bipush 103, 2) := dk_16 103 (dk_at dksX5_item_1 9 rfl rfl)
theorem dX5_item_35 : decode cX5_item 35 = .ok (.invokevirtual 138, 3) := dk_182 0 138 (dk_at dksX5_item_1 11 rfl rfl)
theorem dX5_item_38 : decode cX5_item 38 = .ok (.ifCond .ne 5, 3) := dk_154 0 5 (dk_at dksX5_item_1 14 rfl rfl)
theorem dX5_item_41 : decode cX5_item 41 = .ok (.iconst 0, 1) := dk_3 (dk_at dksX5_item_1 17 rfl rfl)
theorem dX5_item_42 : decode cX5_item 42 = .ok (.ireturn, 1) := dk_172 (dk_at dksX5_item_1 18 rfl rfl)
theorem dX5_item_43 : decode cX5_item 43 = .ok (.aload_n 0, 1) := dk_42 (dk_at dksX5_item_1 19 rfl rfl)
theorem dX5_item_44 : decode cX5_item 44 = .ok (.getfield 73, 3) := dk_180 0 73 (dk_at dksX5_item_1 20 rfl rfl)
theorem dX5_item_47 : decode cX5_item 47 = .ok (.bipush 12, 2) := dk_16 12 (dk_at dksX5_item_2 0 rfl rfl)
theorem dX5_item_49 : decode cX5_item 49 = .ok (.if_icmp .ne 10, 3) := dk_160 0 10 (dk_at dksX5_item_2 2 rfl rfl)
theorem dX5_item_52 : decode cX5_item 52 = .ok (.aload_n 0, 1) := dk_42 (dk_at dksX5_item_2 5 rfl rfl)
theorem dX5_item_53 : decode cX5_item 53 = .ok (.iload_n 1, 1) := dk_27 (dk_at dksX5_item_2 6 rfl rfl)
theorem dX5_item_54 : decode cX5_item 54 = .ok (.putfield 128, 3) := dk_181 0 128 (dk_at dksX5_item_2 7 rfl rfl)
theorem dX5_item_57 : decode cX5_item 57 = .ok (.iconst 0, 1) := dk_3 (dk_at dksX5_item_2 10 rfl rfl)
theorem dX5_item_58 : decode cX5_item 58 = .ok (.ireturn, 1) := dk_172 (dk_at dksX5_item_2 11 rfl rfl)
theorem dX5_item_59 : decode cX5_item 59 = .ok (.aload_n 0, 1) := dk_42 (dk_at dksX5_item_2 12 rfl rfl)
theorem dX5_item_60 : decode cX5_item 60 = .ok (.bipush 32, 2) := dk_16 32 (dk_at dksX5_item_2 13 rfl rfl)
theorem dX5_item_62 : decode cX5_item 62 = .ok (.invokevirtual 138, 3) := dk_182 0 138 (dk_at dksX5_item_2 15 rfl rfl)
theorem dX5_item_65 : decode cX5_item 65 = .ok (.ifCond .ne 5, 3) := dk_154 0 5 (dk_at dksX5_item_2 18 rfl rfl)
theorem dX5_item_68 : decode cX5_item 68 = .ok (.iconst 0, 1) := dk_3 (dk_at dksX5_item_2 21 rfl rfl)
theorem dX5_item_69 : decode cX5_item 69 = .ok (.ireturn, 1) := dk_172 (dk_at dksX5_item_2 22 rfl rfl)
theorem dX5_item_70 : decode cX5_item 70 = .ok (.aload_n 0, 1) := dk_42 (dk_at dksX5_item_2 23 rfl rfl)
theorem dX5_item_71 : decode cX5_item 71 = .ok (.invokevirtual 144, 3) := dk_182 0 144 (dk_at dksX5_item_3 0 rfl rfl)
theorem dX5_item_74 : decode cX5_item 74 = .ok (.istore_n 2, 1) := dk_61 (dk_at dksX5_item_3 3 rfl rfl)
theorem dX5_item_75 : decode cX5_item 75 = .ok (.iload_n 2, 1) := dk_28 (dk_at dksX5_item_3 4 rfl rfl)
theorem dX5_item_76 : decode cX5_item 76 = .ok (.ifCond .ne 5, 3) := dk_154 0 5 (dk_at dksX5_item_3 5 rfl rfl)
theorem dX5_item_79 : decode cX5_item 79 = .ok (.iconst 0, 1) := dk_3 (dk_at dksX5_item_3 8 rfl rfl)
theorem dX5_item_80 : decode cX5_item 80 = .ok (.ireturn, 1) := dk_172 (dk_at dksX5_item_3 9 rfl rfl)
theorem dX5_item_81 : decode cX5_item 81 = .ok (.aload_n 0, 1) := dk_42 (dk_at dksX5_item_3 10 rfl rfl)
theorem dX5_item_82 : decode cX5_item 82 = .ok (.iconst 4, 1) := dk_7 (dk_at dksX5_item_3 11 rfl rfl)
theorem dX5_item_83 : decode cX5_item 83 = .ok (.invokevirtual 141, 3) := dk_182 0 141 (dk_at dksX5_item_3 12 rfl rfl)
theorem dX5_item_86 : decode cX5_item 86 = .ok (.istore_n 3, 1) := dk_62 (dk_at dksX5_item_3 15 rfl rfl)
theorem dX5_item_87 : decode cX5_item 87 = .ok (.iload_n 3, 1) := dk_29 (dk_at dksX5_item_3 16 rfl rfl)
theorem dX5_item_88 : decode cX5_item 88 = .ok (.iconst (-1), 1) := dk_2 (dk_at dksX5_item_3 17 rfl rfl)
theorem dX5_item_89 : decode cX5_item 89 = .ok (.if_icmp .eq 12, 3) := dk_159 0 12 (dk_at dksX5_item_3 18 rfl rfl)
theorem dX5_item_92 : decode cX5_item 92 = .ok (.aload_n 0, 1) := dk_42 (dk_at dksX5_item_3 21 rfl rfl)
theorem dX5_item_93 : decode cX5_item 93 = .ok (.bipush 32, 2) := dk_16 32 (dk_at dksX5_item_3 22 rfl rfl)
theorem dX5_item_95 : decode cX5_item 95 = .ok (.invokevirtual 138, 3) := dk_182 0 138 (dk_at dksX5_item_4 0 rfl rfl)
theorem dX5_item_98 : decode cX5_item 98 = .ok (.ifCond .ne 5, 3) := dk_154 0 5 (dk_at dksX5_item_4 3 rfl rfl)
theorem dX5_item_101 : decode cX5_item 101 = .ok (.iconst 0, 1) := dk_3 (dk_at dksX5_item_4 6 rfl rfl)
theorem dX5_item_102 : decode cX5_item 102 = .ok (.ireturn, 1) := dk_172 (dk_at dksX5_item_4 7 rfl rfl)
theorem dX5_item_103 : decode cX5_item 103 = .ok (.aload_n 0, 1) := dk_42 (dk_at dksX5_item_4 8 rfl rfl)
theorem dX5_item_104 : decode cX5_item 104 = .ok (.bipush 9, 2) := dk_16 9 (dk_at dksX5_item_4 9 rfl rfl)
theorem dX5_item_106 : decode cX5_item 106 = .ok (.invokevirtual 141, 3) := dk_182 0 141 (dk_at dksX5_item_4 11 rfl rfl)
theorem dX5_item_109 : decode cX5_item 109 = .ok (.istore 4, 2) := dk_54 4 (dk_at dksX5_item_4 14 rfl rfl)
theorem dX5_item_111 : decode cX5_item 111 = .ok (.iload 4, 2) := dk_21 4 (dk_at dksX5_item_4 16 rfl rfl)
theorem dX5_item_113 : decode cX5_item 113 = .ok (.iconst (-1), 1) := dk_2 (dk_at dksX5_item_4 18 rfl rfl)
theorem dX5_item_114 : decode cX5_item 114 = .ok (.if_icmp .eq 25, 3) := dk_159 0 25 (dk_at dksX5_item_4 19 rfl rfl)
theorem dX5_item_117 : decode cX5_item 117 = .ok (.aload_n 0, 1) := dk_42 (dk_at dksX5_item_4 22 rfl rfl)
theorem dX5_item_118 : decode cX5_item 118 = .ok (.aload_n 0, 1) := dk_42 (dk_at dksX5_item_4 23 rfl rfl)
theorem dX5_item_119 : decode cX5_item 119 = .ok (.iload_n 3, 1) := dk_29 (dk_at dksX5_item_5 0 rfl rfl)
theorem dX5_item_120 : decode cX5_item 120 = .ok (.iload 4, 2) := dk_21 4 (dk_at dksX5_item_5 1 rfl rfl)
theorem dX5_item_122 : decode cX5_item 122 = .ok (.iconst 0, 1) := dk_3 (dk_at dksX5_item_5 3 rfl rfl)
theorem dX5_item_123 : decode cX5_item 123 = .ok (.iconst 0, 1) := dk_3 (dk_at dksX5_item_5 4 rfl rfl)
theorem dX5_item_124 : decode cX5_item 124 = .ok (.iconst 0, 1) := dk_3 (dk_at dksX5_item_5 5 rfl rfl)
theorem dX5_item_125 : decode cX5_item 125 = .ok (.iload_n 2, 1) := dk_28 (dk_at dksX5_item_5 6 rfl rfl)
theorem dX5_item_126 : decode cX5_item 126 = .ok (.invokevirtual 124, 3) := dk_182 0 124 (dk_at dksX5_item_5 7 rfl rfl)
theorem dX5_item_129 : decode cX5_item 129 = .ok (.invokevirtual 147, 3) := dk_182 0 147 (dk_at dksX5_item_5 10 rfl rfl)
theorem dX5_item_132 : decode cX5_item 132 = .ok (.ifCond .eq 7, 3) := dk_153 0 7 (dk_at dksX5_item_5 13 rfl rfl)
theorem dX5_item_135 : decode cX5_item 135 = .ok (.iconst 1, 1) := dk_4 (dk_at dksX5_item_5 16 rfl rfl)
theorem dX5_item_136 : decode cX5_item 136 = .ok (.goto 4, 3) := dk_167 0 4 (dk_at dksX5_item_5 17 rfl rfl)
theorem dX5_item_139 : decode cX5_item 139 = .ok (.iconst 0, 1) := dk_3 (dk_at dksX5_item_5 20 rfl rfl)
theorem dX5_item_140 : decode cX5_item 140 = .ok (.ireturn, 1) := dk_172 (dk_at dksX5_item_5 21 rfl rfl)
abbrev cX5_is : ByteArray := prog_40_method_30_code
def yX5_is : MethodName := ⟨RX5, "is", "(I)Z"⟩
def dkwX5_is_0 : List UInt8 := [42, 182, 0, 134, 27, 159, 0, 5, 3, 172, 42, 89, 180, 0, 128, 4, 96, 181, 0, 128, 4, 172]
abbrev dktX5_is_0 : List UInt8 := dkwX5_is_0 ++ []
theorem dksX5_is_0 : cX5_is.data.toList.drop 0 = dktX5_is_0 := by decide +kernel
theorem dX5_is_0 : decode cX5_is 0 = .ok (.aload_n 0, 1) := dk_42 (dk_at dksX5_is_0 0 rfl rfl)
theorem dX5_is_1 : decode cX5_is 1 = .ok (.invokevirtual 134, 3) := dk_182 0 134 (dk_at dksX5_is_0 1 rfl rfl)
theorem dX5_is_4 : decode cX5_is 4 = .ok (.iload_n 1, 1) := dk_27 (dk_at dksX5_is_0 4 rfl rfl)
theorem dX5_is_5 : decode cX5_is 5 = .ok (.if_icmp .eq 5, 3) := dk_159 0 5 (dk_at dksX5_is_0 5 rfl rfl)
theorem dX5_is_8 : decode cX5_is 8 = .ok (.iconst 0, 1) := dk_3 (dk_at dksX5_is_0 8 rfl rfl)
theorem dX5_is_9 : decode cX5_is 9 = .ok (.ireturn, 1) := dk_172 (dk_at dksX5_is_0 9 rfl rfl)
theorem dX5_is_10 : decode cX5_is 10 = .ok (.aload_n 0, 1) := dk_42 (dk_at dksX5_is_0 10 rfl rfl)
theorem dX5_is_11 : decode cX5_is 11 = .ok (.dup, 1) := dk_89 (dk_at dksX5_is_0 11 rfl rfl)
theorem dX5_is_12 : decode cX5_is 12 = .ok (.getfield 128, 3) := dk_180 0 128 (dk_at dksX5_is_0 12 rfl rfl)
theorem dX5_is_15 : decode cX5_is 15 = .ok (.iconst 1, 1) := dk_4 (dk_at dksX5_is_0 15 rfl rfl)
theorem dX5_is_16 : decode cX5_is 16 = .ok (.iadd, 1) := dk_96 (dk_at dksX5_is_0 16 rfl rfl)
theorem dX5_is_17 : decode cX5_is 17 = .ok (.putfield 128, 3) := dk_181 0 128 (dk_at dksX5_is_0 17 rfl rfl)
theorem dX5_is_20 : decode cX5_is 20 = .ok (.iconst 1, 1) := dk_4 (dk_at dksX5_is_0 20 rfl rfl)
theorem dX5_is_21 : decode cX5_is 21 = .ok (.ireturn, 1) := dk_172 (dk_at dksX5_is_0 21 rfl rfl)
abbrev cX5_sign : ByteArray := prog_40_method_29_code
def yX5_sign : MethodName := ⟨RX5, "sign", "()I"⟩
def dkwX5_sign_1 : List UInt8 := [180, 0, 131, 104, 42, 180, 0, 128, 96, 47, 136, 167, 0, 4, 2, 172]
abbrev dktX5_sign_1 : List UInt8 := dkwX5_sign_1 ++ []
def dkwX5_sign_0 : List UInt8 := [42, 180, 0, 128, 42, 180, 0, 19, 42, 180, 0, 131, 46, 162, 0, 25, 42, 180, 0, 22, 17, 0, 160, 42]
abbrev dktX5_sign_0 : List UInt8 := dkwX5_sign_0 ++ dktX5_sign_1
theorem dksX5_sign_0 : cX5_sign.data.toList.drop 0 = dktX5_sign_0 := by decide +kernel
theorem dksX5_sign_1 : cX5_sign.data.toList.drop 24 = dktX5_sign_1 := dk_seg dksX5_sign_0 24 rfl rfl
theorem dX5_sign_0 : decode cX5_sign 0 = .ok (.aload_n 0, 1) := dk_42 (dk_at dksX5_sign_0 0 rfl rfl)
theorem dX5_sign_1 : decode cX5_sign 1 = .ok (.getfield 128, 3) := dk_180 0 128 (dk_at dksX5_sign_0 1 rfl rfl)
theorem dX5_sign_4 : decode cX5_sign 4 = .ok (.aload_n 0, 1) := dk_42 (dk_at dksX5_sign_0 4 rfl rfl)
theorem dX5_sign_5 : decode cX5_sign 5 = .ok (.getfield 19, 3) := dk_180 0 19 (dk_at dksX5_sign_0 5 rfl rfl)
theorem dX5_sign_8 : decode cX5_sign 8 = .ok (.aload_n 0, 1) := dk_42 (dk_at dksX5_sign_0 8 rfl rfl)
theorem dX5_sign_9 : decode cX5_sign 9 = .ok (.getfield 131, 3) := dk_180 0 131 (dk_at dksX5_sign_0 9 rfl rfl)
theorem dX5_sign_12 : decode cX5_sign 12 = .ok (.iaload, 1) := dk_46 (dk_at dksX5_sign_0 12 rfl rfl)
theorem dX5_sign_13 : decode cX5_sign 13 = .ok (.if_icmp .ge 25, 3) := dk_162 0 25 (dk_at dksX5_sign_0 13 rfl rfl)
theorem dX5_sign_16 : decode cX5_sign 16 = .ok (.aload_n 0, 1) := dk_42 (dk_at dksX5_sign_0 16 rfl rfl)
theorem dX5_sign_17 : decode cX5_sign 17 = .ok (.getfield 22, 3) := dk_180 0 22 (dk_at dksX5_sign_0 17 rfl rfl)
theorem dX5_sign_20 : decode cX5_sign 20 = .ok (.sipush 160, 3) := dk_17 0 160 (dk_at dksX5_sign_0 20 rfl rfl)
theorem dX5_sign_23 : decode cX5_sign 23 = .ok (.aload_n 0, 1) := dk_42 (dk_at dksX5_sign_0 23 rfl rfl)
theorem dX5_sign_24 : decode cX5_sign 24 = .ok (.getfield 131, 3) := dk_180 0 131 (dk_at dksX5_sign_1 0 rfl rfl)
theorem dX5_sign_27 : decode cX5_sign 27 = .ok (.imul, 1) := dk_104 (dk_at dksX5_sign_1 3 rfl rfl)
theorem dX5_sign_28 : decode cX5_sign 28 = .ok (.aload_n 0, 1) := dk_42 (dk_at dksX5_sign_1 4 rfl rfl)
theorem dX5_sign_29 : decode cX5_sign 29 = .ok (.getfield 128, 3) := dk_180 0 128 (dk_at dksX5_sign_1 5 rfl rfl)
theorem dX5_sign_32 : decode cX5_sign 32 = .ok (.iadd, 1) := dk_96 (dk_at dksX5_sign_1 8 rfl rfl)
theorem dX5_sign_33 : decode cX5_sign 33 = .ok (.laload, 1) := dk_47 (dk_at dksX5_sign_1 9 rfl rfl)
theorem dX5_sign_34 : decode cX5_sign 34 = .ok (.l2i, 1) := dk_136 (dk_at dksX5_sign_1 10 rfl rfl)
theorem dX5_sign_35 : decode cX5_sign 35 = .ok (.goto 4, 3) := dk_167 0 4 (dk_at dksX5_sign_1 11 rfl rfl)
theorem dX5_sign_38 : decode cX5_sign 38 = .ok (.iconst (-1), 1) := dk_2 (dk_at dksX5_sign_1 14 rfl rfl)
theorem dX5_sign_39 : decode cX5_sign 39 = .ok (.ireturn, 1) := dk_172 (dk_at dksX5_sign_1 15 rfl rfl)
abbrev cX5_name : ByteArray := prog_40_method_32_code
def yX5_name : MethodName := ⟨RX5, "name", "()I"⟩
def dkwX5_name_4 : List UInt8 := [172]
abbrev dktX5_name_4 : List UInt8 := dkwX5_name_4 ++ []
def dkwX5_name_3 : List UInt8 := [182, 0, 138, 154, 0, 5, 3, 172, 42, 28, 182, 0, 121, 154, 0, 5, 28, 172, 42, 27, 181, 0, 128, 3]
abbrev dktX5_name_3 : List UInt8 := dkwX5_name_3 ++ dktX5_name_4
def dkwX5_name_2 : List UInt8 := [89, 180, 0, 128, 4, 96, 181, 0, 128, 167, 255, 207, 42, 180, 0, 128, 27, 159, 0, 12, 42, 16, 32]
abbrev dktX5_name_2 : List UInt8 := dkwX5_name_2 ++ dktX5_name_3
def dkwX5_name_1 : List UInt8 := [16, 122, 184, 0, 76, 153, 0, 31, 16, 27, 28, 104, 42, 182, 0, 134, 96, 16, 97, 100, 4, 96, 61, 42]
abbrev dktX5_name_1 : List UInt8 := dkwX5_name_1 ++ dktX5_name_2
def dkwX5_name_0 : List UInt8 := [42, 180, 0, 128, 60, 3, 61, 42, 180, 0, 128, 27, 100, 7, 162, 0, 45, 42, 182, 0, 134, 16, 97]
abbrev dktX5_name_0 : List UInt8 := dkwX5_name_0 ++ dktX5_name_1
theorem dksX5_name_0 : cX5_name.data.toList.drop 0 = dktX5_name_0 := by decide +kernel
theorem dksX5_name_1 : cX5_name.data.toList.drop 23 = dktX5_name_1 := dk_seg dksX5_name_0 23 rfl rfl
theorem dksX5_name_2 : cX5_name.data.toList.drop 47 = dktX5_name_2 := dk_seg dksX5_name_1 24 rfl rfl
theorem dksX5_name_3 : cX5_name.data.toList.drop 70 = dktX5_name_3 := dk_seg dksX5_name_2 23 rfl rfl
theorem dksX5_name_4 : cX5_name.data.toList.drop 94 = dktX5_name_4 := dk_seg dksX5_name_3 24 rfl rfl
theorem dX5_name_0 : decode cX5_name 0 = .ok (.aload_n 0, 1) := dk_42 (dk_at dksX5_name_0 0 rfl rfl)
theorem dX5_name_1 : decode cX5_name 1 = .ok (.getfield 128, 3) := dk_180 0 128 (dk_at dksX5_name_0 1 rfl rfl)
theorem dX5_name_4 : decode cX5_name 4 = .ok (.istore_n 1, 1) := dk_60 (dk_at dksX5_name_0 4 rfl rfl)
theorem dX5_name_5 : decode cX5_name 5 = .ok (.iconst 0, 1) := dk_3 (dk_at dksX5_name_0 5 rfl rfl)
theorem dX5_name_6 : decode cX5_name 6 = .ok (.istore_n 2, 1) := dk_61 (dk_at dksX5_name_0 6 rfl rfl)
theorem dX5_name_7 : decode cX5_name 7 = .ok (.aload_n 0, 1) := dk_42 (dk_at dksX5_name_0 7 rfl rfl)
theorem dX5_name_8 : decode cX5_name 8 = .ok (.getfield 128, 3) := dk_180 0 128 (dk_at dksX5_name_0 8 rfl rfl)
theorem dX5_name_11 : decode cX5_name 11 = .ok (.iload_n 1, 1) := dk_27 (dk_at dksX5_name_0 11 rfl rfl)
theorem dX5_name_12 : decode cX5_name 12 = .ok (.isub, 1) := dk_100 (dk_at dksX5_name_0 12 rfl rfl)
theorem dX5_name_13 : decode cX5_name 13 = .ok (.iconst 4, 1) := dk_7 (dk_at dksX5_name_0 13 rfl rfl)
theorem dX5_name_14 : decode cX5_name 14 = .ok (.if_icmp .ge 45, 3) := dk_162 0 45 (dk_at dksX5_name_0 14 rfl rfl)
theorem dX5_name_17 : decode cX5_name 17 = .ok (.aload_n 0, 1) := dk_42 (dk_at dksX5_name_0 17 rfl rfl)
theorem dX5_name_18 : decode cX5_name 18 = .ok (.invokevirtual 134, 3) := dk_182 0 134 (dk_at dksX5_name_0 18 rfl rfl)
theorem dX5_name_21 : decode cX5_name 21 = .ok (.bipush 97, 2) := dk_16 97 (dk_at dksX5_name_0 21 rfl rfl)
theorem dX5_name_23 : decode cX5_name 23 = .ok (.bipush 122, 2) := dk_16 122 (dk_at dksX5_name_1 0 rfl rfl)
theorem dX5_name_25 : decode cX5_name 25 = .ok (.invokestatic 76, 3) := dk_184 0 76 (dk_at dksX5_name_1 2 rfl rfl)
theorem dX5_name_28 : decode cX5_name 28 = .ok (.ifCond .eq 31, 3) := dk_153 0 31 (dk_at dksX5_name_1 5 rfl rfl)
theorem dX5_name_31 : decode cX5_name 31 = .ok (.bipush 27, 2) := dk_16 27 (dk_at dksX5_name_1 8 rfl rfl)
theorem dX5_name_33 : decode cX5_name 33 = .ok (.iload_n 2, 1) := dk_28 (dk_at dksX5_name_1 10 rfl rfl)
theorem dX5_name_34 : decode cX5_name 34 = .ok (.imul, 1) := dk_104 (dk_at dksX5_name_1 11 rfl rfl)
theorem dX5_name_35 : decode cX5_name 35 = .ok (.aload_n 0, 1) := dk_42 (dk_at dksX5_name_1 12 rfl rfl)
theorem dX5_name_36 : decode cX5_name 36 = .ok (.invokevirtual 134, 3) := dk_182 0 134 (dk_at dksX5_name_1 13 rfl rfl)
theorem dX5_name_39 : decode cX5_name 39 = .ok (.iadd, 1) := dk_96 (dk_at dksX5_name_1 16 rfl rfl)
theorem dX5_name_40 : decode cX5_name 40 = .ok (.bipush 97, 2) := dk_16 97 (dk_at dksX5_name_1 17 rfl rfl)
theorem dX5_name_42 : decode cX5_name 42 = .ok (.isub, 1) := dk_100 (dk_at dksX5_name_1 19 rfl rfl)
theorem dX5_name_43 : decode cX5_name 43 = .ok (.iconst 1, 1) := dk_4 (dk_at dksX5_name_1 20 rfl rfl)
theorem dX5_name_44 : decode cX5_name 44 = .ok (.iadd, 1) := dk_96 (dk_at dksX5_name_1 21 rfl rfl)
theorem dX5_name_45 : decode cX5_name 45 = .ok (.istore_n 2, 1) := dk_61 (dk_at dksX5_name_1 22 rfl rfl)
theorem dX5_name_46 : decode cX5_name 46 = .ok (.aload_n 0, 1) := dk_42 (dk_at dksX5_name_1 23 rfl rfl)
theorem dX5_name_47 : decode cX5_name 47 = .ok (.dup, 1) := dk_89 (dk_at dksX5_name_2 0 rfl rfl)
theorem dX5_name_48 : decode cX5_name 48 = .ok (.getfield 128, 3) := dk_180 0 128 (dk_at dksX5_name_2 1 rfl rfl)
theorem dX5_name_51 : decode cX5_name 51 = .ok (.iconst 1, 1) := dk_4 (dk_at dksX5_name_2 4 rfl rfl)
theorem dX5_name_52 : decode cX5_name 52 = .ok (.iadd, 1) := dk_96 (dk_at dksX5_name_2 5 rfl rfl)
theorem dX5_name_53 : decode cX5_name 53 = .ok (.putfield 128, 3) := dk_181 0 128 (dk_at dksX5_name_2 6 rfl rfl)
theorem dX5_name_56 : decode cX5_name 56 = .ok (.goto (-49), 3) := dk_167 255 207 (dk_at dksX5_name_2 9 rfl rfl)
theorem dX5_name_59 : decode cX5_name 59 = .ok (.aload_n 0, 1) := dk_42 (dk_at dksX5_name_2 12 rfl rfl)
theorem dX5_name_60 : decode cX5_name 60 = .ok (.getfield 128, 3) := dk_180 0 128 (dk_at dksX5_name_2 13 rfl rfl)
theorem dX5_name_63 : decode cX5_name 63 = .ok (.iload_n 1, 1) := dk_27 (dk_at dksX5_name_2 16 rfl rfl)
theorem dX5_name_64 : decode cX5_name 64 = .ok (.if_icmp .eq 12, 3) := dk_159 0 12 (dk_at dksX5_name_2 17 rfl rfl)
theorem dX5_name_67 : decode cX5_name 67 = .ok (.aload_n 0, 1) := dk_42 (dk_at dksX5_name_2 20 rfl rfl)
theorem dX5_name_68 : decode cX5_name 68 = .ok (.bipush 32, 2) := dk_16 32 (dk_at dksX5_name_2 21 rfl rfl)
theorem dX5_name_70 : decode cX5_name 70 = .ok (.invokevirtual 138, 3) := dk_182 0 138 (dk_at dksX5_name_3 0 rfl rfl)
theorem dX5_name_73 : decode cX5_name 73 = .ok (.ifCond .ne 5, 3) := dk_154 0 5 (dk_at dksX5_name_3 3 rfl rfl)
theorem dX5_name_76 : decode cX5_name 76 = .ok (.iconst 0, 1) := dk_3 (dk_at dksX5_name_3 6 rfl rfl)
theorem dX5_name_77 : decode cX5_name 77 = .ok (.ireturn, 1) := dk_172 (dk_at dksX5_name_3 7 rfl rfl)
theorem dX5_name_78 : decode cX5_name 78 = .ok (.aload_n 0, 1) := dk_42 (dk_at dksX5_name_3 8 rfl rfl)
theorem dX5_name_79 : decode cX5_name 79 = .ok (.iload_n 2, 1) := dk_28 (dk_at dksX5_name_3 9 rfl rfl)
theorem dX5_name_80 : decode cX5_name 80 = .ok (.invokevirtual 121, 3) := dk_182 0 121 (dk_at dksX5_name_3 10 rfl rfl)
theorem dX5_name_83 : decode cX5_name 83 = .ok (.ifCond .ne 5, 3) := dk_154 0 5 (dk_at dksX5_name_3 13 rfl rfl)
theorem dX5_name_86 : decode cX5_name 86 = .ok (.iload_n 2, 1) := dk_28 (dk_at dksX5_name_3 16 rfl rfl)
theorem dX5_name_87 : decode cX5_name 87 = .ok (.ireturn, 1) := dk_172 (dk_at dksX5_name_3 17 rfl rfl)
theorem dX5_name_88 : decode cX5_name 88 = .ok (.aload_n 0, 1) := dk_42 (dk_at dksX5_name_3 18 rfl rfl)
theorem dX5_name_89 : decode cX5_name 89 = .ok (.iload_n 1, 1) := dk_27 (dk_at dksX5_name_3 19 rfl rfl)
theorem dX5_name_90 : decode cX5_name 90 = .ok (.putfield 128, 3) := dk_181 0 128 (dk_at dksX5_name_3 20 rfl rfl)
theorem dX5_name_93 : decode cX5_name 93 = .ok (.iconst 0, 1) := dk_3 (dk_at dksX5_name_3 23 rfl rfl)
theorem dX5_name_94 : decode cX5_name 94 = .ok (.ireturn, 1) := dk_172 (dk_at dksX5_name_4 0 rfl rfl)
abbrev cX5_digit : ByteArray := prog_40_method_31_code
def yX5_digit : MethodName := ⟨RX5, "digit", "(I)I"⟩
def dkwX5_digit_2 : List UInt8 := [28, 172]
abbrev dktX5_digit_2 : List UInt8 := dkwX5_digit_2 ++ []
def dkwX5_digit_1 : List UInt8 := [2, 61, 28, 2, 159, 0, 8, 28, 27, 164, 0, 5, 2, 172, 42, 89, 180, 0, 128, 4, 96, 181, 0, 128]
abbrev dktX5_digit_1 : List UInt8 := dkwX5_digit_1 ++ dktX5_digit_2
def dkwX5_digit_0 : List UInt8 := [42, 182, 0, 134, 16, 48, 16, 57, 184, 0, 76, 153, 0, 13, 42, 182, 0, 134, 16, 48, 100, 167, 0, 4]
abbrev dktX5_digit_0 : List UInt8 := dkwX5_digit_0 ++ dktX5_digit_1
theorem dksX5_digit_0 : cX5_digit.data.toList.drop 0 = dktX5_digit_0 := by decide +kernel
theorem dksX5_digit_1 : cX5_digit.data.toList.drop 24 = dktX5_digit_1 := dk_seg dksX5_digit_0 24 rfl rfl
theorem dksX5_digit_2 : cX5_digit.data.toList.drop 48 = dktX5_digit_2 := dk_seg dksX5_digit_1 24 rfl rfl
theorem dX5_digit_0 : decode cX5_digit 0 = .ok (.aload_n 0, 1) := dk_42 (dk_at dksX5_digit_0 0 rfl rfl)
theorem dX5_digit_1 : decode cX5_digit 1 = .ok (.invokevirtual 134, 3) := dk_182 0 134 (dk_at dksX5_digit_0 1 rfl rfl)
theorem dX5_digit_4 : decode cX5_digit 4 = .ok (.bipush 48, 2) := dk_16 48 (dk_at dksX5_digit_0 4 rfl rfl)
theorem dX5_digit_6 : decode cX5_digit 6 = .ok (.bipush 57, 2) := dk_16 57 (dk_at dksX5_digit_0 6 rfl rfl)
theorem dX5_digit_8 : decode cX5_digit 8 = .ok (.invokestatic 76, 3) := dk_184 0 76 (dk_at dksX5_digit_0 8 rfl rfl)
theorem dX5_digit_11 : decode cX5_digit 11 = .ok (.ifCond .eq 13, 3) := dk_153 0 13 (dk_at dksX5_digit_0 11 rfl rfl)
theorem dX5_digit_14 : decode cX5_digit 14 = .ok (.aload_n 0, 1) := dk_42 (dk_at dksX5_digit_0 14 rfl rfl)
theorem dX5_digit_15 : decode cX5_digit 15 = .ok (.invokevirtual 134, 3) := dk_182 0 134 (dk_at dksX5_digit_0 15 rfl rfl)
theorem dX5_digit_18 : decode cX5_digit 18 = .ok (.bipush 48, 2) := dk_16 48 (dk_at dksX5_digit_0 18 rfl rfl)
theorem dX5_digit_20 : decode cX5_digit 20 = .ok (.isub, 1) := dk_100 (dk_at dksX5_digit_0 20 rfl rfl)
theorem dX5_digit_21 : decode cX5_digit 21 = .ok (.goto 4, 3) := dk_167 0 4 (dk_at dksX5_digit_0 21 rfl rfl)
theorem dX5_digit_24 : decode cX5_digit 24 = .ok (.iconst (-1), 1) := dk_2 (dk_at dksX5_digit_1 0 rfl rfl)
theorem dX5_digit_25 : decode cX5_digit 25 = .ok (.istore_n 2, 1) := dk_61 (dk_at dksX5_digit_1 1 rfl rfl)
theorem dX5_digit_26 : decode cX5_digit 26 = .ok (.iload_n 2, 1) := dk_28 (dk_at dksX5_digit_1 2 rfl rfl)
theorem dX5_digit_27 : decode cX5_digit 27 = .ok (.iconst (-1), 1) := dk_2 (dk_at dksX5_digit_1 3 rfl rfl)
theorem dX5_digit_28 : decode cX5_digit 28 = .ok (.if_icmp .eq 8, 3) := dk_159 0 8 (dk_at dksX5_digit_1 4 rfl rfl)
theorem dX5_digit_31 : decode cX5_digit 31 = .ok (.iload_n 2, 1) := dk_28 (dk_at dksX5_digit_1 7 rfl rfl)
theorem dX5_digit_32 : decode cX5_digit 32 = .ok (.iload_n 1, 1) := dk_27 (dk_at dksX5_digit_1 8 rfl rfl)
theorem dX5_digit_33 : decode cX5_digit 33 = .ok (.if_icmp .le 5, 3) := dk_164 0 5 (dk_at dksX5_digit_1 9 rfl rfl)
theorem dX5_digit_36 : decode cX5_digit 36 = .ok (.iconst (-1), 1) := dk_2 (dk_at dksX5_digit_1 12 rfl rfl)
theorem dX5_digit_37 : decode cX5_digit 37 = .ok (.ireturn, 1) := dk_172 (dk_at dksX5_digit_1 13 rfl rfl)
theorem dX5_digit_38 : decode cX5_digit 38 = .ok (.aload_n 0, 1) := dk_42 (dk_at dksX5_digit_1 14 rfl rfl)
theorem dX5_digit_39 : decode cX5_digit 39 = .ok (.dup, 1) := dk_89 (dk_at dksX5_digit_1 15 rfl rfl)
theorem dX5_digit_40 : decode cX5_digit 40 = .ok (.getfield 128, 3) := dk_180 0 128 (dk_at dksX5_digit_1 16 rfl rfl)
theorem dX5_digit_43 : decode cX5_digit 43 = .ok (.iconst 1, 1) := dk_4 (dk_at dksX5_digit_1 19 rfl rfl)
theorem dX5_digit_44 : decode cX5_digit 44 = .ok (.iadd, 1) := dk_96 (dk_at dksX5_digit_1 20 rfl rfl)
theorem dX5_digit_45 : decode cX5_digit 45 = .ok (.putfield 128, 3) := dk_181 0 128 (dk_at dksX5_digit_1 21 rfl rfl)
theorem dX5_digit_48 : decode cX5_digit 48 = .ok (.iload_n 2, 1) := dk_28 (dk_at dksX5_digit_2 0 rfl rfl)
theorem dX5_digit_49 : decode cX5_digit 49 = .ok (.ireturn, 1) := dk_172 (dk_at dksX5_digit_2 1 rfl rfl)
abbrev cX5_marks : ByteArray := prog_40_method_33_code
def yX5_marks : MethodName := ⟨RX5, "marks", "(I)Z"⟩
def dkwX5_marks_5 : List UInt8 := [167, 255, 139]
abbrev dktX5_marks_5 : List UInt8 := dkwX5_marks_5 ++ []
def dkwX5_marks_4 : List UInt8 := [160, 0, 8, 16, 36, 167, 0, 5, 16, 48, 27, 96, 92, 46, 4, 29, 120, 128, 79, 167, 0, 5, 4, 172]
abbrev dktX5_marks_4 : List UInt8 := dkwX5_marks_4 ++ dktX5_marks_5
def dkwX5_marks_3 : List UInt8 := [181, 0, 128, 42, 16, 7, 182, 0, 141, 62, 29, 2, 160, 0, 5, 3, 172, 42, 180, 0, 7, 28, 16, 45]
abbrev dktX5_marks_3 : List UInt8 := dkwX5_marks_3 ++ dktX5_marks_4
def dkwX5_marks_2 : List UInt8 := [167, 0, 70, 28, 16, 45, 159, 0, 9, 28, 16, 43, 160, 0, 56, 42, 89, 180, 0, 128, 4, 96]
abbrev dktX5_marks_2 : List UInt8 := dkwX5_marks_2 ++ dktX5_marks_3
def dkwX5_marks_1 : List UInt8 := [42, 89, 180, 0, 128, 4, 96, 181, 0, 128, 42, 180, 0, 7, 16, 60, 27, 96, 92, 46, 4, 96, 79]
abbrev dktX5_marks_1 : List UInt8 := dkwX5_marks_1 ++ dktX5_marks_2
def dkwX5_marks_0 : List UInt8 := [42, 182, 0, 134, 61, 28, 16, 33, 160, 0, 42, 42, 8, 27, 182, 0, 80, 16, 9, 160, 0, 5, 3, 172]
abbrev dktX5_marks_0 : List UInt8 := dkwX5_marks_0 ++ dktX5_marks_1
theorem dksX5_marks_0 : cX5_marks.data.toList.drop 0 = dktX5_marks_0 := by decide +kernel
theorem dksX5_marks_1 : cX5_marks.data.toList.drop 24 = dktX5_marks_1 := dk_seg dksX5_marks_0 24 rfl rfl
theorem dksX5_marks_2 : cX5_marks.data.toList.drop 47 = dktX5_marks_2 := dk_seg dksX5_marks_1 23 rfl rfl
theorem dksX5_marks_3 : cX5_marks.data.toList.drop 69 = dktX5_marks_3 := dk_seg dksX5_marks_2 22 rfl rfl
theorem dksX5_marks_4 : cX5_marks.data.toList.drop 93 = dktX5_marks_4 := dk_seg dksX5_marks_3 24 rfl rfl
theorem dksX5_marks_5 : cX5_marks.data.toList.drop 117 = dktX5_marks_5 := dk_seg dksX5_marks_4 24 rfl rfl
theorem dX5_marks_0 : decode cX5_marks 0 = .ok (.aload_n 0, 1) := dk_42 (dk_at dksX5_marks_0 0 rfl rfl)
theorem dX5_marks_1 : decode cX5_marks 1 = .ok (.invokevirtual 134, 3) := dk_182 0 134 (dk_at dksX5_marks_0 1 rfl rfl)
theorem dX5_marks_4 : decode cX5_marks 4 = .ok (.istore_n 2, 1) := dk_61 (dk_at dksX5_marks_0 4 rfl rfl)
theorem dX5_marks_5 : decode cX5_marks 5 = .ok (.iload_n 2, 1) := dk_28 (dk_at dksX5_marks_0 5 rfl rfl)
theorem dX5_marks_6 : decode cX5_marks 6 = .ok (.bipush 33, 2) := dk_16 33 (dk_at dksX5_marks_0 6 rfl rfl)
theorem dX5_marks_8 : decode cX5_marks 8 = .ok (.if_icmp .ne 42, 3) := dk_160 0 42 (dk_at dksX5_marks_0 8 rfl rfl)
theorem dX5_marks_11 : decode cX5_marks 11 = .ok (.aload_n 0, 1) := dk_42 (dk_at dksX5_marks_0 11 rfl rfl)
theorem dX5_marks_12 : decode cX5_marks 12 = .ok (.iconst 5, 1) := dk_8 (dk_at dksX5_marks_0 12 rfl rfl)
theorem dX5_marks_13 : decode cX5_marks 13 = .ok (.iload_n 1, 1) := dk_27 (dk_at dksX5_marks_0 13 rfl rfl)
theorem dX5_marks_14 : decode cX5_marks 14 = .ok (.invokevirtual 80, 3) := dk_182 0 80 (dk_at dksX5_marks_0 14 rfl rfl)
theorem dX5_marks_17 : decode cX5_marks 17 = .ok (.bipush 9, 2) := dk_16 9 (dk_at dksX5_marks_0 17 rfl rfl)
theorem dX5_marks_19 : decode cX5_marks 19 = .ok (.if_icmp .ne 5, 3) := dk_160 0 5 (dk_at dksX5_marks_0 19 rfl rfl)
theorem dX5_marks_22 : decode cX5_marks 22 = .ok (.iconst 0, 1) := dk_3 (dk_at dksX5_marks_0 22 rfl rfl)
theorem dX5_marks_23 : decode cX5_marks 23 = .ok (.ireturn, 1) := dk_172 (dk_at dksX5_marks_0 23 rfl rfl)
theorem dX5_marks_24 : decode cX5_marks 24 = .ok (.aload_n 0, 1) := dk_42 (dk_at dksX5_marks_1 0 rfl rfl)
theorem dX5_marks_25 : decode cX5_marks 25 = .ok (.dup, 1) := dk_89 (dk_at dksX5_marks_1 1 rfl rfl)
theorem dX5_marks_26 : decode cX5_marks 26 = .ok (.getfield 128, 3) := dk_180 0 128 (dk_at dksX5_marks_1 2 rfl rfl)
theorem dX5_marks_29 : decode cX5_marks 29 = .ok (.iconst 1, 1) := dk_4 (dk_at dksX5_marks_1 5 rfl rfl)
theorem dX5_marks_30 : decode cX5_marks 30 = .ok (.iadd, 1) := dk_96 (dk_at dksX5_marks_1 6 rfl rfl)
theorem dX5_marks_31 : decode cX5_marks 31 = .ok (.putfield 128, 3) := dk_181 0 128 (dk_at dksX5_marks_1 7 rfl rfl)
theorem dX5_marks_34 : decode cX5_marks 34 = .ok (.aload_n 0, 1) := dk_42 (dk_at dksX5_marks_1 10 rfl rfl)
theorem dX5_marks_35 : decode cX5_marks 35 = .ok (.getfield 7, 3) := dk_180 0 7 (dk_at dksX5_marks_1 11 rfl rfl)
theorem dX5_marks_38 : decode cX5_marks 38 = .ok (.bipush 60, 2) := dk_16 60 (dk_at dksX5_marks_1 14 rfl rfl)
theorem dX5_marks_40 : decode cX5_marks 40 = .ok (.iload_n 1, 1) := dk_27 (dk_at dksX5_marks_1 16 rfl rfl)
theorem dX5_marks_41 : decode cX5_marks 41 = .ok (.iadd, 1) := dk_96 (dk_at dksX5_marks_1 17 rfl rfl)
theorem dX5_marks_42 : decode cX5_marks 42 = .ok (.dup2, 1) := dk_92 (dk_at dksX5_marks_1 18 rfl rfl)
theorem dX5_marks_43 : decode cX5_marks 43 = .ok (.iaload, 1) := dk_46 (dk_at dksX5_marks_1 19 rfl rfl)
theorem dX5_marks_44 : decode cX5_marks 44 = .ok (.iconst 1, 1) := dk_4 (dk_at dksX5_marks_1 20 rfl rfl)
theorem dX5_marks_45 : decode cX5_marks 45 = .ok (.iadd, 1) := dk_96 (dk_at dksX5_marks_1 21 rfl rfl)
theorem dX5_marks_46 : decode cX5_marks 46 = .ok (.iastore, 1) := dk_79 (dk_at dksX5_marks_1 22 rfl rfl)
theorem dX5_marks_47 : decode cX5_marks 47 = .ok (.goto 70, 3) := dk_167 0 70 (dk_at dksX5_marks_2 0 rfl rfl)
theorem dX5_marks_50 : decode cX5_marks 50 = .ok (.iload_n 2, 1) := dk_28 (dk_at dksX5_marks_2 3 rfl rfl)
theorem dX5_marks_51 : decode cX5_marks 51 = .ok (.bipush 45, 2) := dk_16 45 (dk_at dksX5_marks_2 4 rfl rfl)
theorem dX5_marks_53 : decode cX5_marks 53 = .ok (.if_icmp .eq 9, 3) := dk_159 0 9 (dk_at dksX5_marks_2 6 rfl rfl)
theorem dX5_marks_56 : decode cX5_marks 56 = .ok (.iload_n 2, 1) := dk_28 (dk_at dksX5_marks_2 9 rfl rfl)
theorem dX5_marks_57 : decode cX5_marks 57 = .ok (.bipush 43, 2) := dk_16 43 (dk_at dksX5_marks_2 10 rfl rfl)
theorem dX5_marks_59 : decode cX5_marks 59 = .ok (.if_icmp .ne 56, 3) := dk_160 0 56 (dk_at dksX5_marks_2 12 rfl rfl)
theorem dX5_marks_62 : decode cX5_marks 62 = .ok (.aload_n 0, 1) := dk_42 (dk_at dksX5_marks_2 15 rfl rfl)
theorem dX5_marks_63 : decode cX5_marks 63 = .ok (.dup, 1) := dk_89 (dk_at dksX5_marks_2 16 rfl rfl)
theorem dX5_marks_64 : decode cX5_marks 64 = .ok (.getfield 128, 3) := dk_180 0 128 (dk_at dksX5_marks_2 17 rfl rfl)
theorem dX5_marks_67 : decode cX5_marks 67 = .ok (.iconst 1, 1) := dk_4 (dk_at dksX5_marks_2 20 rfl rfl)
theorem dX5_marks_68 : decode cX5_marks 68 = .ok (.iadd, 1) := dk_96 (dk_at dksX5_marks_2 21 rfl rfl)
theorem dX5_marks_69 : decode cX5_marks 69 = .ok (.putfield 128, 3) := dk_181 0 128 (dk_at dksX5_marks_3 0 rfl rfl)
theorem dX5_marks_72 : decode cX5_marks 72 = .ok (.aload_n 0, 1) := dk_42 (dk_at dksX5_marks_3 3 rfl rfl)
theorem dX5_marks_73 : decode cX5_marks 73 = .ok (.bipush 7, 2) := dk_16 7 (dk_at dksX5_marks_3 4 rfl rfl)
theorem dX5_marks_75 : decode cX5_marks 75 = .ok (.invokevirtual 141, 3) := dk_182 0 141 (dk_at dksX5_marks_3 6 rfl rfl)
theorem dX5_marks_78 : decode cX5_marks 78 = .ok (.istore_n 3, 1) := dk_62 (dk_at dksX5_marks_3 9 rfl rfl)
theorem dX5_marks_79 : decode cX5_marks 79 = .ok (.iload_n 3, 1) := dk_29 (dk_at dksX5_marks_3 10 rfl rfl)
theorem dX5_marks_80 : decode cX5_marks 80 = .ok (.iconst (-1), 1) := dk_2 (dk_at dksX5_marks_3 11 rfl rfl)
theorem dX5_marks_81 : decode cX5_marks 81 = .ok (.if_icmp .ne 5, 3) := dk_160 0 5 (dk_at dksX5_marks_3 12 rfl rfl)
theorem dX5_marks_84 : decode cX5_marks 84 = .ok (.iconst 0, 1) := dk_3 (dk_at dksX5_marks_3 15 rfl rfl)
theorem dX5_marks_85 : decode cX5_marks 85 = .ok (.ireturn, 1) := dk_172 (dk_at dksX5_marks_3 16 rfl rfl)
theorem dX5_marks_86 : decode cX5_marks 86 = .ok (.aload_n 0, 1) := dk_42 (dk_at dksX5_marks_3 17 rfl rfl)
theorem dX5_marks_87 : decode cX5_marks 87 = .ok (.getfield 7, 3) := dk_180 0 7 (dk_at dksX5_marks_3 18 rfl rfl)
theorem dX5_marks_90 : decode cX5_marks 90 = .ok (.iload_n 2, 1) := dk_28 (dk_at dksX5_marks_3 21 rfl rfl)
theorem dX5_marks_91 : decode cX5_marks 91 = .ok (.bipush 45, 2) := dk_16 45 (dk_at dksX5_marks_3 22 rfl rfl)
theorem dX5_marks_93 : decode cX5_marks 93 = .ok (.if_icmp .ne 8, 3) := dk_160 0 8 (dk_at dksX5_marks_4 0 rfl rfl)
theorem dX5_marks_96 : decode cX5_marks 96 = .ok (.bipush 36, 2) := dk_16 36 (dk_at dksX5_marks_4 3 rfl rfl)
theorem dX5_marks_98 : decode cX5_marks 98 = .ok (.goto 5, 3) := dk_167 0 5 (dk_at dksX5_marks_4 5 rfl rfl)
theorem dX5_marks_101 : decode cX5_marks 101 = .ok (.bipush 48, 2) := dk_16 48 (dk_at dksX5_marks_4 8 rfl rfl)
theorem dX5_marks_103 : decode cX5_marks 103 = .ok (.iload_n 1, 1) := dk_27 (dk_at dksX5_marks_4 10 rfl rfl)
theorem dX5_marks_104 : decode cX5_marks 104 = .ok (.iadd, 1) := dk_96 (dk_at dksX5_marks_4 11 rfl rfl)
theorem dX5_marks_105 : decode cX5_marks 105 = .ok (.dup2, 1) := dk_92 (dk_at dksX5_marks_4 12 rfl rfl)
theorem dX5_marks_106 : decode cX5_marks 106 = .ok (.iaload, 1) := dk_46 (dk_at dksX5_marks_4 13 rfl rfl)
theorem dX5_marks_107 : decode cX5_marks 107 = .ok (.iconst 1, 1) := dk_4 (dk_at dksX5_marks_4 14 rfl rfl)
theorem dX5_marks_108 : decode cX5_marks 108 = .ok (.iload_n 3, 1) := dk_29 (dk_at dksX5_marks_4 15 rfl rfl)
theorem dX5_marks_109 : decode cX5_marks 109 = .ok (.ishl, 1) := dk_120 (dk_at dksX5_marks_4 16 rfl rfl)
theorem dX5_marks_110 : decode cX5_marks 110 = .ok (.ior, 1) := dk_128 (dk_at dksX5_marks_4 17 rfl rfl)
theorem dX5_marks_111 : decode cX5_marks 111 = .ok (.iastore, 1) := dk_79 (dk_at dksX5_marks_4 18 rfl rfl)
theorem dX5_marks_112 : decode cX5_marks 112 = .ok (.goto 5, 3) := dk_167 0 5 (dk_at dksX5_marks_4 19 rfl rfl)
theorem dX5_marks_115 : decode cX5_marks 115 = .ok (.iconst 1, 1) := dk_4 (dk_at dksX5_marks_4 22 rfl rfl)
theorem dX5_marks_116 : decode cX5_marks 116 = .ok (.ireturn, 1) := dk_172 (dk_at dksX5_marks_4 23 rfl rfl)
theorem dX5_marks_117 : decode cX5_marks 117 = .ok (.goto (-117), 3) := dk_167 255 139 (dk_at dksX5_marks_5 0 rfl rfl)
abbrev cX5_fault : ByteArray := prog_40_method_36_code
def yX5_fault : MethodName := ⟨RX5, "fault", "()I"⟩
theorem dX5_fault_0 : decode cX5_fault 0 = .ok (.aload_n 0, 1) := by decide +kernel
theorem dX5_fault_1 : decode cX5_fault 1 = .ok (.getfield 66, 3) := by decide +kernel
theorem dX5_fault_4 : decode cX5_fault 4 = .ok (.ireturn, 1) := by decide +kernel
abbrev cX5_plugOf : ByteArray := prog_40_method_37_code
def yX5_plugOf : MethodName := ⟨RX5, "plugOf", "(II)I"⟩
def dkwX5_plugOf_2 : List UInt8 := [182, 0, 111, 167, 0, 10, 42, 16, 6, 27, 182, 0, 80, 172]
abbrev dktX5_plugOf_2 : List UInt8 := dkwX5_plugOf_2 ++ []
def dkwX5_plugOf_1 : List UInt8 := [172, 28, 16, 6, 162, 0, 12, 42, 28, 27, 182, 0, 80, 167, 0, 24, 28, 16, 6, 160, 0, 11, 42, 27]
abbrev dktX5_plugOf_1 : List UInt8 := dkwX5_plugOf_1 ++ dktX5_plugOf_2
def dkwX5_plugOf_0 : List UInt8 := [42, 27, 182, 0, 91, 153, 0, 13, 28, 3, 16, 7, 184, 0, 76, 154, 0, 10, 42, 16, 251, 182, 0, 69]
abbrev dktX5_plugOf_0 : List UInt8 := dkwX5_plugOf_0 ++ dktX5_plugOf_1
theorem dksX5_plugOf_0 : cX5_plugOf.data.toList.drop 0 = dktX5_plugOf_0 := by decide +kernel
theorem dksX5_plugOf_1 : cX5_plugOf.data.toList.drop 24 = dktX5_plugOf_1 := dk_seg dksX5_plugOf_0 24 rfl rfl
theorem dksX5_plugOf_2 : cX5_plugOf.data.toList.drop 48 = dktX5_plugOf_2 := dk_seg dksX5_plugOf_1 24 rfl rfl
theorem dX5_plugOf_0 : decode cX5_plugOf 0 = .ok (.aload_n 0, 1) := dk_42 (dk_at dksX5_plugOf_0 0 rfl rfl)
theorem dX5_plugOf_1 : decode cX5_plugOf 1 = .ok (.iload_n 1, 1) := dk_27 (dk_at dksX5_plugOf_0 1 rfl rfl)
theorem dX5_plugOf_2 : decode cX5_plugOf 2 = .ok (.invokevirtual 91, 3) := dk_182 0 91 (dk_at dksX5_plugOf_0 2 rfl rfl)
theorem dX5_plugOf_5 : decode cX5_plugOf 5 = .ok (.ifCond .eq 13, 3) := dk_153 0 13 (dk_at dksX5_plugOf_0 5 rfl rfl)
theorem dX5_plugOf_8 : decode cX5_plugOf 8 = .ok (.iload_n 2, 1) := dk_28 (dk_at dksX5_plugOf_0 8 rfl rfl)
theorem dX5_plugOf_9 : decode cX5_plugOf 9 = .ok (.iconst 0, 1) := dk_3 (dk_at dksX5_plugOf_0 9 rfl rfl)
theorem dX5_plugOf_10 : decode cX5_plugOf 10 = .ok (.bipush 7, 2) := dk_16 7 (dk_at dksX5_plugOf_0 10 rfl rfl)
theorem dX5_plugOf_12 : decode cX5_plugOf 12 = .ok (.invokestatic 76, 3) := dk_184 0 76 (dk_at dksX5_plugOf_0 12 rfl rfl)
theorem dX5_plugOf_15 : decode cX5_plugOf 15 = .ok (.ifCond .ne 10, 3) := dk_154 0 10 (dk_at dksX5_plugOf_0 15 rfl rfl)
theorem dX5_plugOf_18 : decode cX5_plugOf 18 = .ok (.aload_n 0, 1) := dk_42 (dk_at dksX5_plugOf_0 18 rfl rfl)
theorem dX5_plugOf_19 : decode cX5_plugOf 19 = .ok (.bipush (-5), 2) := dk_16 251 (dk_at dksX5_plugOf_0 19 rfl rfl)
theorem dX5_plugOf_21 : decode cX5_plugOf 21 = .ok (.invokevirtual 69, 3) := dk_182 0 69 (dk_at dksX5_plugOf_0 21 rfl rfl)
theorem dX5_plugOf_24 : decode cX5_plugOf 24 = .ok (.ireturn, 1) := dk_172 (dk_at dksX5_plugOf_1 0 rfl rfl)
theorem dX5_plugOf_25 : decode cX5_plugOf 25 = .ok (.iload_n 2, 1) := dk_28 (dk_at dksX5_plugOf_1 1 rfl rfl)
theorem dX5_plugOf_26 : decode cX5_plugOf 26 = .ok (.bipush 6, 2) := dk_16 6 (dk_at dksX5_plugOf_1 2 rfl rfl)
theorem dX5_plugOf_28 : decode cX5_plugOf 28 = .ok (.if_icmp .ge 12, 3) := dk_162 0 12 (dk_at dksX5_plugOf_1 4 rfl rfl)
theorem dX5_plugOf_31 : decode cX5_plugOf 31 = .ok (.aload_n 0, 1) := dk_42 (dk_at dksX5_plugOf_1 7 rfl rfl)
theorem dX5_plugOf_32 : decode cX5_plugOf 32 = .ok (.iload_n 2, 1) := dk_28 (dk_at dksX5_plugOf_1 8 rfl rfl)
theorem dX5_plugOf_33 : decode cX5_plugOf 33 = .ok (.iload_n 1, 1) := dk_27 (dk_at dksX5_plugOf_1 9 rfl rfl)
theorem dX5_plugOf_34 : decode cX5_plugOf 34 = .ok (.invokevirtual 80, 3) := dk_182 0 80 (dk_at dksX5_plugOf_1 10 rfl rfl)
theorem dX5_plugOf_37 : decode cX5_plugOf 37 = .ok (.goto 24, 3) := dk_167 0 24 (dk_at dksX5_plugOf_1 13 rfl rfl)
theorem dX5_plugOf_40 : decode cX5_plugOf 40 = .ok (.iload_n 2, 1) := dk_28 (dk_at dksX5_plugOf_1 16 rfl rfl)
theorem dX5_plugOf_41 : decode cX5_plugOf 41 = .ok (.bipush 6, 2) := dk_16 6 (dk_at dksX5_plugOf_1 17 rfl rfl)
theorem dX5_plugOf_43 : decode cX5_plugOf 43 = .ok (.if_icmp .ne 11, 3) := dk_160 0 11 (dk_at dksX5_plugOf_1 19 rfl rfl)
theorem dX5_plugOf_46 : decode cX5_plugOf 46 = .ok (.aload_n 0, 1) := dk_42 (dk_at dksX5_plugOf_1 22 rfl rfl)
theorem dX5_plugOf_47 : decode cX5_plugOf 47 = .ok (.iload_n 1, 1) := dk_27 (dk_at dksX5_plugOf_1 23 rfl rfl)
theorem dX5_plugOf_48 : decode cX5_plugOf 48 = .ok (.invokevirtual 111, 3) := dk_182 0 111 (dk_at dksX5_plugOf_2 0 rfl rfl)
theorem dX5_plugOf_51 : decode cX5_plugOf 51 = .ok (.goto 10, 3) := dk_167 0 10 (dk_at dksX5_plugOf_2 3 rfl rfl)
theorem dX5_plugOf_54 : decode cX5_plugOf 54 = .ok (.aload_n 0, 1) := dk_42 (dk_at dksX5_plugOf_2 6 rfl rfl)
theorem dX5_plugOf_55 : decode cX5_plugOf 55 = .ok (.bipush 6, 2) := dk_16 6 (dk_at dksX5_plugOf_2 7 rfl rfl)
theorem dX5_plugOf_57 : decode cX5_plugOf 57 = .ok (.iload_n 1, 1) := dk_27 (dk_at dksX5_plugOf_2 9 rfl rfl)
theorem dX5_plugOf_58 : decode cX5_plugOf 58 = .ok (.invokevirtual 80, 3) := dk_182 0 80 (dk_at dksX5_plugOf_2 10 rfl rfl)
theorem dX5_plugOf_61 : decode cX5_plugOf 61 = .ok (.ireturn, 1) := dk_172 (dk_at dksX5_plugOf_2 13 rfl rfl)
abbrev cX5_age : ByteArray := prog_40_method_38_code
def yX5_age : MethodName := ⟨RX5, "age", "(I)I"⟩
def dkwX5_age_1 : List UInt8 := [16, 7, 27, 182, 0, 80, 167, 0, 4, 2, 172]
abbrev dktX5_age_1 : List UInt8 := dkwX5_age_1 ++ []
def dkwX5_age_0 : List UInt8 := [42, 27, 182, 0, 91, 154, 0, 9, 42, 2, 182, 0, 154, 172, 42, 27, 182, 0, 115, 4, 160, 0, 13, 42]
abbrev dktX5_age_0 : List UInt8 := dkwX5_age_0 ++ dktX5_age_1
theorem dksX5_age_0 : cX5_age.data.toList.drop 0 = dktX5_age_0 := by decide +kernel
theorem dksX5_age_1 : cX5_age.data.toList.drop 24 = dktX5_age_1 := dk_seg dksX5_age_0 24 rfl rfl
theorem dX5_age_0 : decode cX5_age 0 = .ok (.aload_n 0, 1) := dk_42 (dk_at dksX5_age_0 0 rfl rfl)
theorem dX5_age_1 : decode cX5_age 1 = .ok (.iload_n 1, 1) := dk_27 (dk_at dksX5_age_0 1 rfl rfl)
theorem dX5_age_2 : decode cX5_age 2 = .ok (.invokevirtual 91, 3) := dk_182 0 91 (dk_at dksX5_age_0 2 rfl rfl)
theorem dX5_age_5 : decode cX5_age 5 = .ok (.ifCond .ne 9, 3) := dk_154 0 9 (dk_at dksX5_age_0 5 rfl rfl)
theorem dX5_age_8 : decode cX5_age 8 = .ok (.aload_n 0, 1) := dk_42 (dk_at dksX5_age_0 8 rfl rfl)
theorem dX5_age_9 : decode cX5_age 9 = .ok (.iconst (-1), 1) := dk_2 (dk_at dksX5_age_0 9 rfl rfl)
theorem dX5_age_10 : decode cX5_age 10 = .ok (.invokevirtual 154, 3) := dk_182 0 154 (dk_at dksX5_age_0 10 rfl rfl)
theorem dX5_age_13 : decode cX5_age 13 = .ok (.ireturn, 1) := dk_172 (dk_at dksX5_age_0 13 rfl rfl)
theorem dX5_age_14 : decode cX5_age 14 = .ok (.aload_n 0, 1) := dk_42 (dk_at dksX5_age_0 14 rfl rfl)
theorem dX5_age_15 : decode cX5_age 15 = .ok (.iload_n 1, 1) := dk_27 (dk_at dksX5_age_0 15 rfl rfl)
theorem dX5_age_16 : decode cX5_age 16 = .ok (.invokevirtual 115, 3) := dk_182 0 115 (dk_at dksX5_age_0 16 rfl rfl)
theorem dX5_age_19 : decode cX5_age 19 = .ok (.iconst 1, 1) := dk_4 (dk_at dksX5_age_0 19 rfl rfl)
theorem dX5_age_20 : decode cX5_age 20 = .ok (.if_icmp .ne 13, 3) := dk_160 0 13 (dk_at dksX5_age_0 20 rfl rfl)
theorem dX5_age_23 : decode cX5_age 23 = .ok (.aload_n 0, 1) := dk_42 (dk_at dksX5_age_0 23 rfl rfl)
theorem dX5_age_24 : decode cX5_age 24 = .ok (.bipush 7, 2) := dk_16 7 (dk_at dksX5_age_1 0 rfl rfl)
theorem dX5_age_26 : decode cX5_age 26 = .ok (.iload_n 1, 1) := dk_27 (dk_at dksX5_age_1 2 rfl rfl)
theorem dX5_age_27 : decode cX5_age 27 = .ok (.invokevirtual 80, 3) := dk_182 0 80 (dk_at dksX5_age_1 3 rfl rfl)
theorem dX5_age_30 : decode cX5_age 30 = .ok (.goto 4, 3) := dk_167 0 4 (dk_at dksX5_age_1 6 rfl rfl)
theorem dX5_age_33 : decode cX5_age 33 = .ok (.iconst (-1), 1) := dk_2 (dk_at dksX5_age_1 9 rfl rfl)
theorem dX5_age_34 : decode cX5_age 34 = .ok (.ireturn, 1) := dk_172 (dk_at dksX5_age_1 10 rfl rfl)
abbrev cX5_no10 : ByteArray := prog_40_method_3_code
def yX5_no10 : MethodName := ⟨RX5, "no10", "(I)I"⟩
def dkwX5_no10_0 : List UInt8 := [42, 27, 182, 0, 69, 16, 10, 100, 172]
abbrev dktX5_no10_0 : List UInt8 := dkwX5_no10_0 ++ []
theorem dksX5_no10_0 : cX5_no10.data.toList.drop 0 = dktX5_no10_0 := by decide +kernel
theorem dX5_no10_0 : decode cX5_no10 0 = .ok (.aload_n 0, 1) := dk_42 (dk_at dksX5_no10_0 0 rfl rfl)
theorem dX5_no10_1 : decode cX5_no10 1 = .ok (.iload_n 1, 1) := dk_27 (dk_at dksX5_no10_0 1 rfl rfl)
theorem dX5_no10_2 : decode cX5_no10 2 = .ok (.invokevirtual 69, 3) := dk_182 0 69 (dk_at dksX5_no10_0 2 rfl rfl)
theorem dX5_no10_5 : decode cX5_no10 5 = .ok (.bipush 10, 2) := dk_16 10 (dk_at dksX5_no10_0 5 rfl rfl)
theorem dX5_no10_7 : decode cX5_no10 7 = .ok (.isub, 1) := dk_100 (dk_at dksX5_no10_0 7 rfl rfl)
theorem dX5_no10_8 : decode cX5_no10 8 = .ok (.ireturn, 1) := dk_172 (dk_at dksX5_no10_0 8 rfl rfl)
abbrev cX5_tally : ByteArray := prog_40_method_39_code
def yX5_tally : MethodName := ⟨RX5, "tally", "(I)I"⟩
def dkwX5_tally_0 : List UInt8 := [42, 27, 182, 0, 91, 153, 0, 13, 42, 16, 8, 27, 182, 0, 80, 167, 0, 4, 3, 172]
abbrev dktX5_tally_0 : List UInt8 := dkwX5_tally_0 ++ []
theorem dksX5_tally_0 : cX5_tally.data.toList.drop 0 = dktX5_tally_0 := by decide +kernel
theorem dX5_tally_0 : decode cX5_tally 0 = .ok (.aload_n 0, 1) := dk_42 (dk_at dksX5_tally_0 0 rfl rfl)
theorem dX5_tally_1 : decode cX5_tally 1 = .ok (.iload_n 1, 1) := dk_27 (dk_at dksX5_tally_0 1 rfl rfl)
theorem dX5_tally_2 : decode cX5_tally 2 = .ok (.invokevirtual 91, 3) := dk_182 0 91 (dk_at dksX5_tally_0 2 rfl rfl)
theorem dX5_tally_5 : decode cX5_tally 5 = .ok (.ifCond .eq 13, 3) := dk_153 0 13 (dk_at dksX5_tally_0 5 rfl rfl)
theorem dX5_tally_8 : decode cX5_tally 8 = .ok (.aload_n 0, 1) := dk_42 (dk_at dksX5_tally_0 8 rfl rfl)
theorem dX5_tally_9 : decode cX5_tally 9 = .ok (.bipush 8, 2) := dk_16 8 (dk_at dksX5_tally_0 9 rfl rfl)
theorem dX5_tally_11 : decode cX5_tally 11 = .ok (.iload_n 1, 1) := dk_27 (dk_at dksX5_tally_0 11 rfl rfl)
theorem dX5_tally_12 : decode cX5_tally 12 = .ok (.invokevirtual 80, 3) := dk_182 0 80 (dk_at dksX5_tally_0 12 rfl rfl)
theorem dX5_tally_15 : decode cX5_tally 15 = .ok (.goto 4, 3) := dk_167 0 4 (dk_at dksX5_tally_0 15 rfl rfl)
theorem dX5_tally_18 : decode cX5_tally 18 = .ok (.iconst 0, 1) := dk_3 (dk_at dksX5_tally_0 18 rfl rfl)
theorem dX5_tally_19 : decode cX5_tally 19 = .ok (.ireturn, 1) := dk_172 (dk_at dksX5_tally_0 19 rfl rfl)
abbrev cX5_provider : ByteArray := prog_40_method_41_code
def yX5_provider : MethodName := ⟨RX5, "provider", "(II)I"⟩
def dkwX5_provider_2 : List UInt8 := [167, 0, 4, 2, 172]
abbrev dktX5_provider_2 : List UInt8 := dkwX5_provider_2 ++ []
def dkwX5_provider_1 : List UInt8 := [182, 0, 115, 4, 160, 0, 21, 42, 27, 28, 182, 0, 166, 153, 0, 12, 42, 27, 28, 182, 0, 169]
abbrev dktX5_provider_1 : List UInt8 := dkwX5_provider_1 ++ dktX5_provider_2
def dkwX5_provider_0 : List UInt8 := [42, 27, 182, 0, 91, 153, 0, 10, 28, 184, 0, 163, 154, 0, 9, 42, 2, 182, 0, 154, 172, 42, 27]
abbrev dktX5_provider_0 : List UInt8 := dkwX5_provider_0 ++ dktX5_provider_1
theorem dksX5_provider_0 : cX5_provider.data.toList.drop 0 = dktX5_provider_0 := by decide +kernel
theorem dksX5_provider_1 : cX5_provider.data.toList.drop 23 = dktX5_provider_1 := dk_seg dksX5_provider_0 23 rfl rfl
theorem dksX5_provider_2 : cX5_provider.data.toList.drop 45 = dktX5_provider_2 := dk_seg dksX5_provider_1 22 rfl rfl
theorem dX5_provider_0 : decode cX5_provider 0 = .ok (.aload_n 0, 1) := dk_42 (dk_at dksX5_provider_0 0 rfl rfl)
theorem dX5_provider_1 : decode cX5_provider 1 = .ok (.iload_n 1, 1) := dk_27 (dk_at dksX5_provider_0 1 rfl rfl)
theorem dX5_provider_2 : decode cX5_provider 2 = .ok (.invokevirtual 91, 3) := dk_182 0 91 (dk_at dksX5_provider_0 2 rfl rfl)
theorem dX5_provider_5 : decode cX5_provider 5 = .ok (.ifCond .eq 10, 3) := dk_153 0 10 (dk_at dksX5_provider_0 5 rfl rfl)
theorem dX5_provider_8 : decode cX5_provider 8 = .ok (.iload_n 2, 1) := dk_28 (dk_at dksX5_provider_0 8 rfl rfl)
theorem dX5_provider_9 : decode cX5_provider 9 = .ok (.invokestatic 163, 3) := dk_184 0 163 (dk_at dksX5_provider_0 9 rfl rfl)
theorem dX5_provider_12 : decode cX5_provider 12 = .ok (.ifCond .ne 9, 3) := dk_154 0 9 (dk_at dksX5_provider_0 12 rfl rfl)
theorem dX5_provider_15 : decode cX5_provider 15 = .ok (.aload_n 0, 1) := dk_42 (dk_at dksX5_provider_0 15 rfl rfl)
theorem dX5_provider_16 : decode cX5_provider 16 = .ok (.iconst (-1), 1) := dk_2 (dk_at dksX5_provider_0 16 rfl rfl)
theorem dX5_provider_17 : decode cX5_provider 17 = .ok (.invokevirtual 154, 3) := dk_182 0 154 (dk_at dksX5_provider_0 17 rfl rfl)
theorem dX5_provider_20 : decode cX5_provider 20 = .ok (.ireturn, 1) := dk_172 (dk_at dksX5_provider_0 20 rfl rfl)
theorem dX5_provider_21 : decode cX5_provider 21 = .ok (.aload_n 0, 1) := dk_42 (dk_at dksX5_provider_0 21 rfl rfl)
theorem dX5_provider_22 : decode cX5_provider 22 = .ok (.iload_n 1, 1) := dk_27 (dk_at dksX5_provider_0 22 rfl rfl)
theorem dX5_provider_23 : decode cX5_provider 23 = .ok (.invokevirtual 115, 3) := dk_182 0 115 (dk_at dksX5_provider_1 0 rfl rfl)
theorem dX5_provider_26 : decode cX5_provider 26 = .ok (.iconst 1, 1) := dk_4 (dk_at dksX5_provider_1 3 rfl rfl)
theorem dX5_provider_27 : decode cX5_provider 27 = .ok (.if_icmp .ne 21, 3) := dk_160 0 21 (dk_at dksX5_provider_1 4 rfl rfl)
theorem dX5_provider_30 : decode cX5_provider 30 = .ok (.aload_n 0, 1) := dk_42 (dk_at dksX5_provider_1 7 rfl rfl)
theorem dX5_provider_31 : decode cX5_provider 31 = .ok (.iload_n 1, 1) := dk_27 (dk_at dksX5_provider_1 8 rfl rfl)
theorem dX5_provider_32 : decode cX5_provider 32 = .ok (.iload_n 2, 1) := dk_28 (dk_at dksX5_provider_1 9 rfl rfl)
theorem dX5_provider_33 : decode cX5_provider 33 = .ok (.invokevirtual 166, 3) := dk_182 0 166 (dk_at dksX5_provider_1 10 rfl rfl)
theorem dX5_provider_36 : decode cX5_provider 36 = .ok (.ifCond .eq 12, 3) := dk_153 0 12 (dk_at dksX5_provider_1 13 rfl rfl)
theorem dX5_provider_39 : decode cX5_provider 39 = .ok (.aload_n 0, 1) := dk_42 (dk_at dksX5_provider_1 16 rfl rfl)
theorem dX5_provider_40 : decode cX5_provider 40 = .ok (.iload_n 1, 1) := dk_27 (dk_at dksX5_provider_1 17 rfl rfl)
theorem dX5_provider_41 : decode cX5_provider 41 = .ok (.iload_n 2, 1) := dk_28 (dk_at dksX5_provider_1 18 rfl rfl)
theorem dX5_provider_42 : decode cX5_provider 42 = .ok (.invokevirtual 169, 3) := dk_182 0 169 (dk_at dksX5_provider_1 19 rfl rfl)
theorem dX5_provider_45 : decode cX5_provider 45 = .ok (.goto 4, 3) := dk_167 0 4 (dk_at dksX5_provider_2 0 rfl rfl)
theorem dX5_provider_48 : decode cX5_provider 48 = .ok (.iconst (-1), 1) := dk_2 (dk_at dksX5_provider_2 3 rfl rfl)
theorem dX5_provider_49 : decode cX5_provider 49 = .ok (.ireturn, 1) := dk_172 (dk_at dksX5_provider_2 4 rfl rfl)
abbrev cX5_isService : ByteArray := prog_40_method_7_code
def yX5_isService : MethodName := ⟨RX5, "isService", "(I)Z"⟩
def dkwX5_isService_0 : List UInt8 := [26, 3, 16, 7, 184, 0, 76, 172]
abbrev dktX5_isService_0 : List UInt8 := dkwX5_isService_0 ++ []
theorem dksX5_isService_0 : cX5_isService.data.toList.drop 0 = dktX5_isService_0 := by decide +kernel
theorem dX5_isService_0 : decode cX5_isService 0 = .ok (.iload_n 0, 1) := dk_26 (dk_at dksX5_isService_0 0 rfl rfl)
theorem dX5_isService_1 : decode cX5_isService 1 = .ok (.iconst 0, 1) := dk_3 (dk_at dksX5_isService_0 1 rfl rfl)
theorem dX5_isService_2 : decode cX5_isService 2 = .ok (.bipush 7, 2) := dk_16 7 (dk_at dksX5_isService_0 2 rfl rfl)
theorem dX5_isService_4 : decode cX5_isService 4 = .ok (.invokestatic 76, 3) := dk_184 0 76 (dk_at dksX5_isService_0 4 rfl rfl)
theorem dX5_isService_7 : decode cX5_isService 7 = .ok (.ireturn, 1) := dk_172 (dk_at dksX5_isService_0 7 rfl rfl)
abbrev cX5_isNeeded : ByteArray := prog_40_method_11_code
def yX5_isNeeded : MethodName := ⟨RX5, "isNeeded", "(II)Z"⟩
def dkwX5_isNeeded_0 : List UInt8 := [42, 6, 27, 182, 0, 80, 28, 122, 4, 126, 4, 160, 0, 7, 4, 167, 0, 4, 3, 172]
abbrev dktX5_isNeeded_0 : List UInt8 := dkwX5_isNeeded_0 ++ []
theorem dksX5_isNeeded_0 : cX5_isNeeded.data.toList.drop 0 = dktX5_isNeeded_0 := by decide +kernel
theorem dX5_isNeeded_0 : decode cX5_isNeeded 0 = .ok (.aload_n 0, 1) := dk_42 (dk_at dksX5_isNeeded_0 0 rfl rfl)
theorem dX5_isNeeded_1 : decode cX5_isNeeded 1 = .ok (.iconst 3, 1) := dk_6 (dk_at dksX5_isNeeded_0 1 rfl rfl)
theorem dX5_isNeeded_2 : decode cX5_isNeeded 2 = .ok (.iload_n 1, 1) := dk_27 (dk_at dksX5_isNeeded_0 2 rfl rfl)
theorem dX5_isNeeded_3 : decode cX5_isNeeded 3 = .ok (.invokevirtual 80, 3) := dk_182 0 80 (dk_at dksX5_isNeeded_0 3 rfl rfl)
theorem dX5_isNeeded_6 : decode cX5_isNeeded 6 = .ok (.iload_n 2, 1) := dk_28 (dk_at dksX5_isNeeded_0 6 rfl rfl)
theorem dX5_isNeeded_7 : decode cX5_isNeeded 7 = .ok (.ishr, 1) := dk_122 (dk_at dksX5_isNeeded_0 7 rfl rfl)
theorem dX5_isNeeded_8 : decode cX5_isNeeded 8 = .ok (.iconst 1, 1) := dk_4 (dk_at dksX5_isNeeded_0 8 rfl rfl)
theorem dX5_isNeeded_9 : decode cX5_isNeeded 9 = .ok (.iand, 1) := dk_126 (dk_at dksX5_isNeeded_0 9 rfl rfl)
theorem dX5_isNeeded_10 : decode cX5_isNeeded 10 = .ok (.iconst 1, 1) := dk_4 (dk_at dksX5_isNeeded_0 10 rfl rfl)
theorem dX5_isNeeded_11 : decode cX5_isNeeded 11 = .ok (.if_icmp .ne 7, 3) := dk_160 0 7 (dk_at dksX5_isNeeded_0 11 rfl rfl)
theorem dX5_isNeeded_14 : decode cX5_isNeeded 14 = .ok (.iconst 1, 1) := dk_4 (dk_at dksX5_isNeeded_0 14 rfl rfl)
theorem dX5_isNeeded_15 : decode cX5_isNeeded 15 = .ok (.goto 4, 3) := dk_167 0 4 (dk_at dksX5_isNeeded_0 15 rfl rfl)
theorem dX5_isNeeded_18 : decode cX5_isNeeded 18 = .ok (.iconst 0, 1) := dk_3 (dk_at dksX5_isNeeded_0 18 rfl rfl)
theorem dX5_isNeeded_19 : decode cX5_isNeeded 19 = .ok (.ireturn, 1) := dk_172 (dk_at dksX5_isNeeded_0 19 rfl rfl)
abbrev cX5_provides : ByteArray := prog_40_method_40_code
def yX5_provides : MethodName := ⟨RX5, "provides", "(II)I"⟩
def dkwX5_provides_4 : List UInt8 := [153, 0, 6, 21, 4, 62, 132, 4, 1, 167, 255, 159, 29, 172]
abbrev dktX5_provides_4 : List UInt8 := dkwX5_provides_4 ++ []
def dkwX5_provides_3 : List UInt8 := [163, 0, 27, 42, 21, 4, 182, 0, 111, 42, 29, 182, 0, 111, 160, 0, 16, 42, 21, 4, 29, 182, 0, 160]
abbrev dktX5_provides_3 : List UInt8 := dkwX5_provides_3 ++ dktX5_provides_4
def dkwX5_provides_2 : List UInt8 := [154, 0, 6, 167, 0, 49, 29, 2, 159, 0, 41, 42, 21, 4, 182, 0, 111, 42, 29, 182, 0, 111]
abbrev dktX5_provides_2 : List UInt8 := dkwX5_provides_2 ++ dktX5_provides_3
def dkwX5_provides_1 : List UInt8 := [182, 0, 115, 4, 160, 0, 72, 42, 21, 4, 28, 182, 0, 157, 153, 0, 62, 42, 21, 4, 27, 182, 0, 160]
abbrev dktX5_provides_1 : List UInt8 := dkwX5_provides_1 ++ dktX5_provides_2
def dkwX5_provides_0 : List UInt8 := [2, 62, 3, 54, 4, 21, 4, 42, 180, 0, 73, 162, 0, 94, 21, 4, 27, 159, 0, 82, 42, 21, 4]
abbrev dktX5_provides_0 : List UInt8 := dkwX5_provides_0 ++ dktX5_provides_1
theorem dksX5_provides_0 : cX5_provides.data.toList.drop 0 = dktX5_provides_0 := by decide +kernel
theorem dksX5_provides_1 : cX5_provides.data.toList.drop 23 = dktX5_provides_1 := dk_seg dksX5_provides_0 23 rfl rfl
theorem dksX5_provides_2 : cX5_provides.data.toList.drop 47 = dktX5_provides_2 := dk_seg dksX5_provides_1 24 rfl rfl
theorem dksX5_provides_3 : cX5_provides.data.toList.drop 69 = dktX5_provides_3 := dk_seg dksX5_provides_2 22 rfl rfl
theorem dksX5_provides_4 : cX5_provides.data.toList.drop 93 = dktX5_provides_4 := dk_seg dksX5_provides_3 24 rfl rfl
theorem dX5_provides_0 : decode cX5_provides 0 = .ok (.iconst (-1), 1) := dk_2 (dk_at dksX5_provides_0 0 rfl rfl)
theorem dX5_provides_1 : decode cX5_provides 1 = .ok (.istore_n 3, 1) := dk_62 (dk_at dksX5_provides_0 1 rfl rfl)
theorem dX5_provides_2 : decode cX5_provides 2 = .ok (.iconst 0, 1) := dk_3 (dk_at dksX5_provides_0 2 rfl rfl)
theorem dX5_provides_3 : decode cX5_provides 3 = .ok (.istore 4, 2) := dk_54 4 (dk_at dksX5_provides_0 3 rfl rfl)
theorem dX5_provides_5 : decode cX5_provides 5 = .ok (.iload 4, 2) := dk_21 4 (dk_at dksX5_provides_0 5 rfl rfl)
theorem dX5_provides_7 : decode cX5_provides 7 = .ok (.aload_n 0, 1) := dk_42 (dk_at dksX5_provides_0 7 rfl rfl)
theorem dX5_provides_8 : decode cX5_provides 8 = .ok (.getfield 73, 3) := dk_180 0 73 (dk_at dksX5_provides_0 8 rfl rfl)
theorem dX5_provides_11 : decode cX5_provides 11 = .ok (.if_icmp .ge 94, 3) := dk_162 0 94 (dk_at dksX5_provides_0 11 rfl rfl)
theorem dX5_provides_14 : decode cX5_provides 14 = .ok (.iload 4, 2) := dk_21 4 (dk_at dksX5_provides_0 14 rfl rfl)
theorem dX5_provides_16 : decode cX5_provides 16 = .ok (.iload_n 1, 1) := dk_27 (dk_at dksX5_provides_0 16 rfl rfl)
theorem dX5_provides_17 : decode cX5_provides 17 = .ok (.if_icmp .eq 82, 3) := dk_159 0 82 (dk_at dksX5_provides_0 17 rfl rfl)
theorem dX5_provides_20 : decode cX5_provides 20 = .ok (.aload_n 0, 1) := dk_42 (dk_at dksX5_provides_0 20 rfl rfl)
theorem dX5_provides_21 : decode cX5_provides 21 = .ok (.iload 4, 2) := dk_21 4 (dk_at dksX5_provides_0 21 rfl rfl)
theorem dX5_provides_23 : decode cX5_provides 23 = .ok (.invokevirtual 115, 3) := dk_182 0 115 (dk_at dksX5_provides_1 0 rfl rfl)
theorem dX5_provides_26 : decode cX5_provides 26 = .ok (.iconst 1, 1) := dk_4 (dk_at dksX5_provides_1 3 rfl rfl)
theorem dX5_provides_27 : decode cX5_provides 27 = .ok (.if_icmp .ne 72, 3) := dk_160 0 72 (dk_at dksX5_provides_1 4 rfl rfl)
theorem dX5_provides_30 : decode cX5_provides 30 = .ok (.aload_n 0, 1) := dk_42 (dk_at dksX5_provides_1 7 rfl rfl)
theorem dX5_provides_31 : decode cX5_provides 31 = .ok (.iload 4, 2) := dk_21 4 (dk_at dksX5_provides_1 8 rfl rfl)
theorem dX5_provides_33 : decode cX5_provides 33 = .ok (.iload_n 2, 1) := dk_28 (dk_at dksX5_provides_1 10 rfl rfl)
theorem dX5_provides_34 : decode cX5_provides 34 = .ok (.invokevirtual 157, 3) := dk_182 0 157 (dk_at dksX5_provides_1 11 rfl rfl)
theorem dX5_provides_37 : decode cX5_provides 37 = .ok (.ifCond .eq 62, 3) := dk_153 0 62 (dk_at dksX5_provides_1 14 rfl rfl)
theorem dX5_provides_40 : decode cX5_provides 40 = .ok (.aload_n 0, 1) := dk_42 (dk_at dksX5_provides_1 17 rfl rfl)
theorem dX5_provides_41 : decode cX5_provides 41 = .ok (.iload 4, 2) := dk_21 4 (dk_at dksX5_provides_1 18 rfl rfl)
theorem dX5_provides_43 : decode cX5_provides 43 = .ok (.iload_n 1, 1) := dk_27 (dk_at dksX5_provides_1 20 rfl rfl)
theorem dX5_provides_44 : decode cX5_provides 44 = .ok (.invokevirtual 160, 3) := dk_182 0 160 (dk_at dksX5_provides_1 21 rfl rfl)
theorem dX5_provides_47 : decode cX5_provides 47 = .ok (.ifCond .ne 6, 3) := dk_154 0 6 (dk_at dksX5_provides_2 0 rfl rfl)
theorem dX5_provides_50 : decode cX5_provides 50 = .ok (.goto 49, 3) := dk_167 0 49 (dk_at dksX5_provides_2 3 rfl rfl)
theorem dX5_provides_53 : decode cX5_provides 53 = .ok (.iload_n 3, 1) := dk_29 (dk_at dksX5_provides_2 6 rfl rfl)
theorem dX5_provides_54 : decode cX5_provides 54 = .ok (.iconst (-1), 1) := dk_2 (dk_at dksX5_provides_2 7 rfl rfl)
theorem dX5_provides_55 : decode cX5_provides 55 = .ok (.if_icmp .eq 41, 3) := dk_159 0 41 (dk_at dksX5_provides_2 8 rfl rfl)
theorem dX5_provides_58 : decode cX5_provides 58 = .ok (.aload_n 0, 1) := dk_42 (dk_at dksX5_provides_2 11 rfl rfl)
theorem dX5_provides_59 : decode cX5_provides 59 = .ok (.iload 4, 2) := dk_21 4 (dk_at dksX5_provides_2 12 rfl rfl)
theorem dX5_provides_61 : decode cX5_provides 61 = .ok (.invokevirtual 111, 3) := dk_182 0 111 (dk_at dksX5_provides_2 14 rfl rfl)
theorem dX5_provides_64 : decode cX5_provides 64 = .ok (.aload_n 0, 1) := dk_42 (dk_at dksX5_provides_2 17 rfl rfl)
theorem dX5_provides_65 : decode cX5_provides 65 = .ok (.iload_n 3, 1) := dk_29 (dk_at dksX5_provides_2 18 rfl rfl)
theorem dX5_provides_66 : decode cX5_provides 66 = .ok (.invokevirtual 111, 3) := dk_182 0 111 (dk_at dksX5_provides_2 19 rfl rfl)
theorem dX5_provides_69 : decode cX5_provides 69 = .ok (.if_icmp .gt 27, 3) := dk_163 0 27 (dk_at dksX5_provides_3 0 rfl rfl)
theorem dX5_provides_72 : decode cX5_provides 72 = .ok (.aload_n 0, 1) := dk_42 (dk_at dksX5_provides_3 3 rfl rfl)
theorem dX5_provides_73 : decode cX5_provides 73 = .ok (.iload 4, 2) := dk_21 4 (dk_at dksX5_provides_3 4 rfl rfl)
theorem dX5_provides_75 : decode cX5_provides 75 = .ok (.invokevirtual 111, 3) := dk_182 0 111 (dk_at dksX5_provides_3 6 rfl rfl)
theorem dX5_provides_78 : decode cX5_provides 78 = .ok (.aload_n 0, 1) := dk_42 (dk_at dksX5_provides_3 9 rfl rfl)
theorem dX5_provides_79 : decode cX5_provides 79 = .ok (.iload_n 3, 1) := dk_29 (dk_at dksX5_provides_3 10 rfl rfl)
theorem dX5_provides_80 : decode cX5_provides 80 = .ok (.invokevirtual 111, 3) := dk_182 0 111 (dk_at dksX5_provides_3 11 rfl rfl)
theorem dX5_provides_83 : decode cX5_provides 83 = .ok (.if_icmp .ne 16, 3) := dk_160 0 16 (dk_at dksX5_provides_3 14 rfl rfl)
theorem dX5_provides_86 : decode cX5_provides 86 = .ok (.aload_n 0, 1) := dk_42 (dk_at dksX5_provides_3 17 rfl rfl)
theorem dX5_provides_87 : decode cX5_provides 87 = .ok (.iload 4, 2) := dk_21 4 (dk_at dksX5_provides_3 18 rfl rfl)
theorem dX5_provides_89 : decode cX5_provides 89 = .ok (.iload_n 3, 1) := dk_29 (dk_at dksX5_provides_3 20 rfl rfl)
theorem dX5_provides_90 : decode cX5_provides 90 = .ok (.invokevirtual 160, 3) := dk_182 0 160 (dk_at dksX5_provides_3 21 rfl rfl)
theorem dX5_provides_93 : decode cX5_provides 93 = .ok (.ifCond .eq 6, 3) := dk_153 0 6 (dk_at dksX5_provides_4 0 rfl rfl)
theorem dX5_provides_96 : decode cX5_provides 96 = .ok (.iload 4, 2) := dk_21 4 (dk_at dksX5_provides_4 3 rfl rfl)
theorem dX5_provides_98 : decode cX5_provides 98 = .ok (.istore_n 3, 1) := dk_62 (dk_at dksX5_provides_4 5 rfl rfl)
theorem dX5_provides_99 : decode cX5_provides 99 = .ok (.iinc 4 1, 3) := dk_132 4 1 (dk_at dksX5_provides_4 6 rfl rfl)
theorem dX5_provides_102 : decode cX5_provides 102 = .ok (.goto (-97), 3) := dk_167 255 159 (dk_at dksX5_provides_4 9 rfl rfl)
theorem dX5_provides_105 : decode cX5_provides 105 = .ok (.iload_n 3, 1) := dk_29 (dk_at dksX5_provides_4 12 rfl rfl)
theorem dX5_provides_106 : decode cX5_provides 106 = .ok (.ireturn, 1) := dk_172 (dk_at dksX5_provides_4 13 rfl rfl)
abbrev cX5_isOffered : ByteArray := prog_40_method_12_code
def yX5_isOffered : MethodName := ⟨RX5, "isOffered", "(II)Z"⟩
def dkwX5_isOffered_0 : List UInt8 := [42, 7, 27, 182, 0, 80, 28, 122, 4, 126, 4, 160, 0, 7, 4, 167, 0, 4, 3, 172]
abbrev dktX5_isOffered_0 : List UInt8 := dkwX5_isOffered_0 ++ []
theorem dksX5_isOffered_0 : cX5_isOffered.data.toList.drop 0 = dktX5_isOffered_0 := by decide +kernel
theorem dX5_isOffered_0 : decode cX5_isOffered 0 = .ok (.aload_n 0, 1) := dk_42 (dk_at dksX5_isOffered_0 0 rfl rfl)
theorem dX5_isOffered_1 : decode cX5_isOffered 1 = .ok (.iconst 4, 1) := dk_7 (dk_at dksX5_isOffered_0 1 rfl rfl)
theorem dX5_isOffered_2 : decode cX5_isOffered 2 = .ok (.iload_n 1, 1) := dk_27 (dk_at dksX5_isOffered_0 2 rfl rfl)
theorem dX5_isOffered_3 : decode cX5_isOffered 3 = .ok (.invokevirtual 80, 3) := dk_182 0 80 (dk_at dksX5_isOffered_0 3 rfl rfl)
theorem dX5_isOffered_6 : decode cX5_isOffered 6 = .ok (.iload_n 2, 1) := dk_28 (dk_at dksX5_isOffered_0 6 rfl rfl)
theorem dX5_isOffered_7 : decode cX5_isOffered 7 = .ok (.ishr, 1) := dk_122 (dk_at dksX5_isOffered_0 7 rfl rfl)
theorem dX5_isOffered_8 : decode cX5_isOffered 8 = .ok (.iconst 1, 1) := dk_4 (dk_at dksX5_isOffered_0 8 rfl rfl)
theorem dX5_isOffered_9 : decode cX5_isOffered 9 = .ok (.iand, 1) := dk_126 (dk_at dksX5_isOffered_0 9 rfl rfl)
theorem dX5_isOffered_10 : decode cX5_isOffered 10 = .ok (.iconst 1, 1) := dk_4 (dk_at dksX5_isOffered_0 10 rfl rfl)
theorem dX5_isOffered_11 : decode cX5_isOffered 11 = .ok (.if_icmp .ne 7, 3) := dk_160 0 7 (dk_at dksX5_isOffered_0 11 rfl rfl)
theorem dX5_isOffered_14 : decode cX5_isOffered 14 = .ok (.iconst 1, 1) := dk_4 (dk_at dksX5_isOffered_0 14 rfl rfl)
theorem dX5_isOffered_15 : decode cX5_isOffered 15 = .ok (.goto 4, 3) := dk_167 0 4 (dk_at dksX5_isOffered_0 15 rfl rfl)
theorem dX5_isOffered_18 : decode cX5_isOffered 18 = .ok (.iconst 0, 1) := dk_3 (dk_at dksX5_isOffered_0 18 rfl rfl)
theorem dX5_isOffered_19 : decode cX5_isOffered 19 = .ok (.ireturn, 1) := dk_172 (dk_at dksX5_isOffered_0 19 rfl rfl)
abbrev cX5_isOlder : ByteArray := prog_40_method_13_code
def yX5_isOlder : MethodName := ⟨RX5, "isOlder", "(II)Z"⟩
def dkwX5_isOlder_0 : List UInt8 := [42, 16, 7, 27, 182, 0, 80, 42, 16, 7, 28, 182, 0, 80, 162, 0, 7, 4, 167, 0, 4, 3, 172]
abbrev dktX5_isOlder_0 : List UInt8 := dkwX5_isOlder_0 ++ []
theorem dksX5_isOlder_0 : cX5_isOlder.data.toList.drop 0 = dktX5_isOlder_0 := by decide +kernel
theorem dX5_isOlder_0 : decode cX5_isOlder 0 = .ok (.aload_n 0, 1) := dk_42 (dk_at dksX5_isOlder_0 0 rfl rfl)
theorem dX5_isOlder_1 : decode cX5_isOlder 1 = .ok (.bipush 7, 2) := dk_16 7 (dk_at dksX5_isOlder_0 1 rfl rfl)
theorem dX5_isOlder_3 : decode cX5_isOlder 3 = .ok (.iload_n 1, 1) := dk_27 (dk_at dksX5_isOlder_0 3 rfl rfl)
theorem dX5_isOlder_4 : decode cX5_isOlder 4 = .ok (.invokevirtual 80, 3) := dk_182 0 80 (dk_at dksX5_isOlder_0 4 rfl rfl)
theorem dX5_isOlder_7 : decode cX5_isOlder 7 = .ok (.aload_n 0, 1) := dk_42 (dk_at dksX5_isOlder_0 7 rfl rfl)
theorem dX5_isOlder_8 : decode cX5_isOlder 8 = .ok (.bipush 7, 2) := dk_16 7 (dk_at dksX5_isOlder_0 8 rfl rfl)
theorem dX5_isOlder_10 : decode cX5_isOlder 10 = .ok (.iload_n 2, 1) := dk_28 (dk_at dksX5_isOlder_0 10 rfl rfl)
theorem dX5_isOlder_11 : decode cX5_isOlder 11 = .ok (.invokevirtual 80, 3) := dk_182 0 80 (dk_at dksX5_isOlder_0 11 rfl rfl)
theorem dX5_isOlder_14 : decode cX5_isOlder 14 = .ok (.if_icmp .ge 7, 3) := dk_162 0 7 (dk_at dksX5_isOlder_0 14 rfl rfl)
theorem dX5_isOlder_17 : decode cX5_isOlder 17 = .ok (.iconst 1, 1) := dk_4 (dk_at dksX5_isOlder_0 17 rfl rfl)
theorem dX5_isOlder_18 : decode cX5_isOlder 18 = .ok (.goto 4, 3) := dk_167 0 4 (dk_at dksX5_isOlder_0 18 rfl rfl)
theorem dX5_isOlder_21 : decode cX5_isOlder 21 = .ok (.iconst 0, 1) := dk_3 (dk_at dksX5_isOlder_0 21 rfl rfl)
theorem dX5_isOlder_22 : decode cX5_isOlder 22 = .ok (.ireturn, 1) := dk_172 (dk_at dksX5_isOlder_0 22 rfl rfl)
abbrev cX5_start : ByteArray := prog_40_method_51_code
def yX5_start : MethodName := ⟨RX5, "start", "(I)I"⟩
def dkwX5_start_3 : List UInt8 := [28, 46, 79, 132, 2, 1, 167, 255, 231, 42, 16, 250, 182, 0, 69, 172]
abbrev dktX5_start_3 : List UInt8 := dkwX5_start_3 ++ []
def dkwX5_start_2 : List UInt8 := [181, 0, 217, 3, 61, 28, 6, 42, 180, 0, 182, 104, 162, 0, 21, 42, 180, 0, 26, 28, 42, 180, 0, 29]
abbrev dktX5_start_2 : List UInt8 := dkwX5_start_2 ++ dktX5_start_3
def dkwX5_start_1 : List UInt8 := [16, 250, 182, 0, 69, 172, 42, 27, 182, 0, 214, 153, 0, 8, 42, 180, 0, 205, 172, 42, 42, 180, 0, 182]
abbrev dktX5_start_1 : List UInt8 := dkwX5_start_1 ++ dktX5_start_2
def dkwX5_start_0 : List UInt8 := [42, 27, 182, 0, 91, 154, 0, 9, 42, 2, 182, 0, 69, 172, 42, 27, 182, 0, 115, 4, 160, 0, 10, 42]
abbrev dktX5_start_0 : List UInt8 := dkwX5_start_0 ++ dktX5_start_1
theorem dksX5_start_0 : cX5_start.data.toList.drop 0 = dktX5_start_0 := by decide +kernel
theorem dksX5_start_1 : cX5_start.data.toList.drop 24 = dktX5_start_1 := dk_seg dksX5_start_0 24 rfl rfl
theorem dksX5_start_2 : cX5_start.data.toList.drop 48 = dktX5_start_2 := dk_seg dksX5_start_1 24 rfl rfl
theorem dksX5_start_3 : cX5_start.data.toList.drop 72 = dktX5_start_3 := dk_seg dksX5_start_2 24 rfl rfl
theorem dX5_start_0 : decode cX5_start 0 = .ok (.aload_n 0, 1) := dk_42 (dk_at dksX5_start_0 0 rfl rfl)
theorem dX5_start_1 : decode cX5_start 1 = .ok (.iload_n 1, 1) := dk_27 (dk_at dksX5_start_0 1 rfl rfl)
theorem dX5_start_2 : decode cX5_start 2 = .ok (.invokevirtual 91, 3) := dk_182 0 91 (dk_at dksX5_start_0 2 rfl rfl)
theorem dX5_start_5 : decode cX5_start 5 = .ok (.ifCond .ne 9, 3) := dk_154 0 9 (dk_at dksX5_start_0 5 rfl rfl)
theorem dX5_start_8 : decode cX5_start 8 = .ok (.aload_n 0, 1) := dk_42 (dk_at dksX5_start_0 8 rfl rfl)
theorem dX5_start_9 : decode cX5_start 9 = .ok (.iconst (-1), 1) := dk_2 (dk_at dksX5_start_0 9 rfl rfl)
theorem dX5_start_10 : decode cX5_start 10 = .ok (.invokevirtual 69, 3) := dk_182 0 69 (dk_at dksX5_start_0 10 rfl rfl)
theorem dX5_start_13 : decode cX5_start 13 = .ok (.ireturn, 1) := dk_172 (dk_at dksX5_start_0 13 rfl rfl)
theorem dX5_start_14 : decode cX5_start 14 = .ok (.aload_n 0, 1) := dk_42 (dk_at dksX5_start_0 14 rfl rfl)
theorem dX5_start_15 : decode cX5_start 15 = .ok (.iload_n 1, 1) := dk_27 (dk_at dksX5_start_0 15 rfl rfl)
theorem dX5_start_16 : decode cX5_start 16 = .ok (.invokevirtual 115, 3) := dk_182 0 115 (dk_at dksX5_start_0 16 rfl rfl)
theorem dX5_start_19 : decode cX5_start 19 = .ok (.iconst 1, 1) := dk_4 (dk_at dksX5_start_0 19 rfl rfl)
theorem dX5_start_20 : decode cX5_start 20 = .ok (.if_icmp .ne 10, 3) := dk_160 0 10 (dk_at dksX5_start_0 20 rfl rfl)
theorem dX5_start_23 : decode cX5_start 23 = .ok (.aload_n 0, 1) := dk_42 (dk_at dksX5_start_0 23 rfl rfl)
theorem dX5_start_24 : decode cX5_start 24 = .ok (.bipush (-6), 2) := dk_16 250 (dk_at dksX5_start_1 0 rfl rfl)
theorem dX5_start_26 : decode cX5_start 26 = .ok (.invokevirtual 69, 3) := dk_182 0 69 (dk_at dksX5_start_1 2 rfl rfl)
theorem dX5_start_29 : decode cX5_start 29 = .ok (.ireturn, 1) := dk_172 (dk_at dksX5_start_1 5 rfl rfl)
theorem dX5_start_30 : decode cX5_start 30 = .ok (.aload_n 0, 1) := dk_42 (dk_at dksX5_start_1 6 rfl rfl)
theorem dX5_start_31 : decode cX5_start 31 = .ok (.iload_n 1, 1) := dk_27 (dk_at dksX5_start_1 7 rfl rfl)
theorem dX5_start_32 : decode cX5_start 32 = .ok (.invokevirtual 214, 3) := dk_182 0 214 (dk_at dksX5_start_1 8 rfl rfl)
theorem dX5_start_35 : decode cX5_start 35 = .ok (.ifCond .eq 8, 3) := dk_153 0 8 (dk_at dksX5_start_1 11 rfl rfl)
theorem dX5_start_38 : decode cX5_start 38 = .ok (.aload_n 0, 1) := dk_42 (dk_at dksX5_start_1 14 rfl rfl)
theorem dX5_start_39 : decode cX5_start 39 = .ok (.getfield 205, 3) := dk_180 0 205 (dk_at dksX5_start_1 15 rfl rfl)
theorem dX5_start_42 : decode cX5_start 42 = .ok (.ireturn, 1) := dk_172 (dk_at dksX5_start_1 18 rfl rfl)
theorem dX5_start_43 : decode cX5_start 43 = .ok (.aload_n 0, 1) := dk_42 (dk_at dksX5_start_1 19 rfl rfl)
theorem dX5_start_44 : decode cX5_start 44 = .ok (.aload_n 0, 1) := dk_42 (dk_at dksX5_start_1 20 rfl rfl)
theorem dX5_start_45 : decode cX5_start 45 = .ok (.getfield 182, 3) := dk_180 0 182 (dk_at dksX5_start_1 21 rfl rfl)
theorem dX5_start_48 : decode cX5_start 48 = .ok (.putfield 217, 3) := dk_181 0 217 (dk_at dksX5_start_2 0 rfl rfl)
theorem dX5_start_51 : decode cX5_start 51 = .ok (.iconst 0, 1) := dk_3 (dk_at dksX5_start_2 3 rfl rfl)
theorem dX5_start_52 : decode cX5_start 52 = .ok (.istore_n 2, 1) := dk_61 (dk_at dksX5_start_2 4 rfl rfl)
theorem dX5_start_53 : decode cX5_start 53 = .ok (.iload_n 2, 1) := dk_28 (dk_at dksX5_start_2 5 rfl rfl)
theorem dX5_start_54 : decode cX5_start 54 = .ok (.iconst 3, 1) := dk_6 (dk_at dksX5_start_2 6 rfl rfl)
theorem dX5_start_55 : decode cX5_start 55 = .ok (.aload_n 0, 1) := dk_42 (dk_at dksX5_start_2 7 rfl rfl)
theorem dX5_start_56 : decode cX5_start 56 = .ok (.getfield 182, 3) := dk_180 0 182 (dk_at dksX5_start_2 8 rfl rfl)
theorem dX5_start_59 : decode cX5_start 59 = .ok (.imul, 1) := dk_104 (dk_at dksX5_start_2 11 rfl rfl)
theorem dX5_start_60 : decode cX5_start 60 = .ok (.if_icmp .ge 21, 3) := dk_162 0 21 (dk_at dksX5_start_2 12 rfl rfl)
theorem dX5_start_63 : decode cX5_start 63 = .ok (.aload_n 0, 1) := dk_42 (dk_at dksX5_start_2 15 rfl rfl)
theorem dX5_start_64 : decode cX5_start 64 = .ok (.getfield 26, 3) := dk_180 0 26 (dk_at dksX5_start_2 16 rfl rfl)
theorem dX5_start_67 : decode cX5_start 67 = .ok (.iload_n 2, 1) := dk_28 (dk_at dksX5_start_2 19 rfl rfl)
theorem dX5_start_68 : decode cX5_start 68 = .ok (.aload_n 0, 1) := dk_42 (dk_at dksX5_start_2 20 rfl rfl)
theorem dX5_start_69 : decode cX5_start 69 = .ok (.getfield 29, 3) := dk_180 0 29 (dk_at dksX5_start_2 21 rfl rfl)
theorem dX5_start_72 : decode cX5_start 72 = .ok (.iload_n 2, 1) := dk_28 (dk_at dksX5_start_3 0 rfl rfl)
theorem dX5_start_73 : decode cX5_start 73 = .ok (.iaload, 1) := dk_46 (dk_at dksX5_start_3 1 rfl rfl)
theorem dX5_start_74 : decode cX5_start 74 = .ok (.iastore, 1) := dk_79 (dk_at dksX5_start_3 2 rfl rfl)
theorem dX5_start_75 : decode cX5_start 75 = .ok (.iinc 2 1, 3) := dk_132 2 1 (dk_at dksX5_start_3 3 rfl rfl)
theorem dX5_start_78 : decode cX5_start 78 = .ok (.goto (-25), 3) := dk_167 255 231 (dk_at dksX5_start_3 6 rfl rfl)
theorem dX5_start_81 : decode cX5_start 81 = .ok (.aload_n 0, 1) := dk_42 (dk_at dksX5_start_3 9 rfl rfl)
theorem dX5_start_82 : decode cX5_start 82 = .ok (.bipush (-6), 2) := dk_16 250 (dk_at dksX5_start_3 10 rfl rfl)
theorem dX5_start_84 : decode cX5_start 84 = .ok (.invokevirtual 69, 3) := dk_182 0 69 (dk_at dksX5_start_3 12 rfl rfl)
theorem dX5_start_87 : decode cX5_start 87 = .ok (.ireturn, 1) := dk_172 (dk_at dksX5_start_3 15 rfl rfl)
abbrev cX5_begins : ByteArray := prog_40_method_50_code
def yX5_begins : MethodName := ⟨RX5, "begins", "(I)Z"⟩
def dkwX5_begins_0 : List UInt8 := [42, 3, 181, 0, 193, 42, 3, 181, 0, 205, 42, 3, 181, 0, 182, 42, 27, 182, 0, 196, 172]
abbrev dktX5_begins_0 : List UInt8 := dkwX5_begins_0 ++ []
theorem dksX5_begins_0 : cX5_begins.data.toList.drop 0 = dktX5_begins_0 := by decide +kernel
theorem dX5_begins_0 : decode cX5_begins 0 = .ok (.aload_n 0, 1) := dk_42 (dk_at dksX5_begins_0 0 rfl rfl)
theorem dX5_begins_1 : decode cX5_begins 1 = .ok (.iconst 0, 1) := dk_3 (dk_at dksX5_begins_0 1 rfl rfl)
theorem dX5_begins_2 : decode cX5_begins 2 = .ok (.putfield 193, 3) := dk_181 0 193 (dk_at dksX5_begins_0 2 rfl rfl)
theorem dX5_begins_5 : decode cX5_begins 5 = .ok (.aload_n 0, 1) := dk_42 (dk_at dksX5_begins_0 5 rfl rfl)
theorem dX5_begins_6 : decode cX5_begins 6 = .ok (.iconst 0, 1) := dk_3 (dk_at dksX5_begins_0 6 rfl rfl)
theorem dX5_begins_7 : decode cX5_begins 7 = .ok (.putfield 205, 3) := dk_181 0 205 (dk_at dksX5_begins_0 7 rfl rfl)
theorem dX5_begins_10 : decode cX5_begins 10 = .ok (.aload_n 0, 1) := dk_42 (dk_at dksX5_begins_0 10 rfl rfl)
theorem dX5_begins_11 : decode cX5_begins 11 = .ok (.iconst 0, 1) := dk_3 (dk_at dksX5_begins_0 11 rfl rfl)
theorem dX5_begins_12 : decode cX5_begins 12 = .ok (.putfield 182, 3) := dk_181 0 182 (dk_at dksX5_begins_0 12 rfl rfl)
theorem dX5_begins_15 : decode cX5_begins 15 = .ok (.aload_n 0, 1) := dk_42 (dk_at dksX5_begins_0 15 rfl rfl)
theorem dX5_begins_16 : decode cX5_begins 16 = .ok (.iload_n 1, 1) := dk_27 (dk_at dksX5_begins_0 16 rfl rfl)
theorem dX5_begins_17 : decode cX5_begins 17 = .ok (.invokevirtual 196, 3) := dk_182 0 196 (dk_at dksX5_begins_0 17 rfl rfl)
theorem dX5_begins_20 : decode cX5_begins 20 = .ok (.ireturn, 1) := dk_172 (dk_at dksX5_begins_0 20 rfl rfl)
abbrev cX5_starts : ByteArray := prog_40_method_49_code
def yX5_starts : MethodName := ⟨RX5, "starts", "(I)Z"⟩
def dkwX5_starts_5 : List UInt8 := [180, 0, 205, 46, 96, 182, 0, 198, 167, 255, 202, 29, 172]
abbrev dktX5_starts_5 : List UInt8 := dkwX5_starts_5 ++ []
def dkwX5_starts_4 : List UInt8 := [180, 0, 7, 42, 180, 0, 32, 42, 180, 0, 205, 46, 3, 79, 42, 17, 0, 200, 42, 180, 0, 32, 42]
abbrev dktX5_starts_4 : List UInt8 := dkwX5_starts_4 ++ dktX5_starts_5
def dkwX5_starts_3 : List UInt8 := [154, 0, 56, 42, 180, 0, 205, 28, 164, 0, 48, 42, 89, 180, 0, 205, 4, 100, 181, 0, 205, 42]
abbrev dktX5_starts_3 : List UInt8 := dkwX5_starts_3 ++ dktX5_starts_4
def dkwX5_starts_2 : List UInt8 := [153, 0, 7, 4, 167, 0, 4, 3, 62, 42, 89, 180, 0, 193, 4, 27, 120, 2, 130, 126, 181, 0, 193, 29]
abbrev dktX5_starts_2 : List UInt8 := dkwX5_starts_2 ++ dktX5_starts_3
def dkwX5_starts_1 : List UInt8 := [180, 0, 193, 4, 27, 120, 128, 181, 0, 193, 42, 27, 182, 0, 208, 153, 0, 15, 42, 27, 182, 0, 211]
abbrev dktX5_starts_1 : List UInt8 := dkwX5_starts_1 ++ dktX5_starts_2
def dkwX5_starts_0 : List UInt8 := [42, 27, 182, 0, 115, 153, 0, 11, 42, 27, 4, 2, 182, 0, 191, 172, 42, 180, 0, 205, 61, 42, 89]
abbrev dktX5_starts_0 : List UInt8 := dkwX5_starts_0 ++ dktX5_starts_1
theorem dksX5_starts_0 : cX5_starts.data.toList.drop 0 = dktX5_starts_0 := by decide +kernel
theorem dksX5_starts_1 : cX5_starts.data.toList.drop 23 = dktX5_starts_1 := dk_seg dksX5_starts_0 23 rfl rfl
theorem dksX5_starts_2 : cX5_starts.data.toList.drop 46 = dktX5_starts_2 := dk_seg dksX5_starts_1 23 rfl rfl
theorem dksX5_starts_3 : cX5_starts.data.toList.drop 70 = dktX5_starts_3 := dk_seg dksX5_starts_2 24 rfl rfl
theorem dksX5_starts_4 : cX5_starts.data.toList.drop 92 = dktX5_starts_4 := dk_seg dksX5_starts_3 22 rfl rfl
theorem dksX5_starts_5 : cX5_starts.data.toList.drop 115 = dktX5_starts_5 := dk_seg dksX5_starts_4 23 rfl rfl
theorem dX5_starts_0 : decode cX5_starts 0 = .ok (.aload_n 0, 1) := dk_42 (dk_at dksX5_starts_0 0 rfl rfl)
theorem dX5_starts_1 : decode cX5_starts 1 = .ok (.iload_n 1, 1) := dk_27 (dk_at dksX5_starts_0 1 rfl rfl)
theorem dX5_starts_2 : decode cX5_starts 2 = .ok (.invokevirtual 115, 3) := dk_182 0 115 (dk_at dksX5_starts_0 2 rfl rfl)
theorem dX5_starts_5 : decode cX5_starts 5 = .ok (.ifCond .eq 11, 3) := dk_153 0 11 (dk_at dksX5_starts_0 5 rfl rfl)
theorem dX5_starts_8 : decode cX5_starts 8 = .ok (.aload_n 0, 1) := dk_42 (dk_at dksX5_starts_0 8 rfl rfl)
theorem dX5_starts_9 : decode cX5_starts 9 = .ok (.iload_n 1, 1) := dk_27 (dk_at dksX5_starts_0 9 rfl rfl)
theorem dX5_starts_10 : decode cX5_starts 10 = .ok (.iconst 1, 1) := dk_4 (dk_at dksX5_starts_0 10 rfl rfl)
theorem dX5_starts_11 : decode cX5_starts 11 = .ok (.iconst (-1), 1) := dk_2 (dk_at dksX5_starts_0 11 rfl rfl)
theorem dX5_starts_12 : decode cX5_starts 12 = .ok (.invokevirtual 191, 3) := dk_182 0 191 (dk_at dksX5_starts_0 12 rfl rfl)
theorem dX5_starts_15 : decode cX5_starts 15 = .ok (.ireturn, 1) := dk_172 (dk_at dksX5_starts_0 15 rfl rfl)
theorem dX5_starts_16 : decode cX5_starts 16 = .ok (.aload_n 0, 1) := dk_42 (dk_at dksX5_starts_0 16 rfl rfl)
theorem dX5_starts_17 : decode cX5_starts 17 = .ok (.getfield 205, 3) := dk_180 0 205 (dk_at dksX5_starts_0 17 rfl rfl)
theorem dX5_starts_20 : decode cX5_starts 20 = .ok (.istore_n 2, 1) := dk_61 (dk_at dksX5_starts_0 20 rfl rfl)
theorem dX5_starts_21 : decode cX5_starts 21 = .ok (.aload_n 0, 1) := dk_42 (dk_at dksX5_starts_0 21 rfl rfl)
theorem dX5_starts_22 : decode cX5_starts 22 = .ok (.dup, 1) := dk_89 (dk_at dksX5_starts_0 22 rfl rfl)
theorem dX5_starts_23 : decode cX5_starts 23 = .ok (.getfield 193, 3) := dk_180 0 193 (dk_at dksX5_starts_1 0 rfl rfl)
theorem dX5_starts_26 : decode cX5_starts 26 = .ok (.iconst 1, 1) := dk_4 (dk_at dksX5_starts_1 3 rfl rfl)
theorem dX5_starts_27 : decode cX5_starts 27 = .ok (.iload_n 1, 1) := dk_27 (dk_at dksX5_starts_1 4 rfl rfl)
theorem dX5_starts_28 : decode cX5_starts 28 = .ok (.ishl, 1) := dk_120 (dk_at dksX5_starts_1 5 rfl rfl)
theorem dX5_starts_29 : decode cX5_starts 29 = .ok (.ior, 1) := dk_128 (dk_at dksX5_starts_1 6 rfl rfl)
theorem dX5_starts_30 : decode cX5_starts 30 = .ok (.putfield 193, 3) := dk_181 0 193 (dk_at dksX5_starts_1 7 rfl rfl)
theorem dX5_starts_33 : decode cX5_starts 33 = .ok (.aload_n 0, 1) := dk_42 (dk_at dksX5_starts_1 10 rfl rfl)
theorem dX5_starts_34 : decode cX5_starts 34 = .ok (.iload_n 1, 1) := dk_27 (dk_at dksX5_starts_1 11 rfl rfl)
theorem dX5_starts_35 : decode cX5_starts 35 = .ok (.invokevirtual 208, 3) := dk_182 0 208 (dk_at dksX5_starts_1 12 rfl rfl)
theorem dX5_starts_38 : decode cX5_starts 38 = .ok (.ifCond .eq 15, 3) := dk_153 0 15 (dk_at dksX5_starts_1 15 rfl rfl)
theorem dX5_starts_41 : decode cX5_starts 41 = .ok (.aload_n 0, 1) := dk_42 (dk_at dksX5_starts_1 18 rfl rfl)
theorem dX5_starts_42 : decode cX5_starts 42 = .ok (.iload_n 1, 1) := dk_27 (dk_at dksX5_starts_1 19 rfl rfl)
theorem dX5_starts_43 : decode cX5_starts 43 = .ok (.invokevirtual 211, 3) := dk_182 0 211 (dk_at dksX5_starts_1 20 rfl rfl)
theorem dX5_starts_46 : decode cX5_starts 46 = .ok (.ifCond .eq 7, 3) := dk_153 0 7 (dk_at dksX5_starts_2 0 rfl rfl)
theorem dX5_starts_49 : decode cX5_starts 49 = .ok (.iconst 1, 1) := dk_4 (dk_at dksX5_starts_2 3 rfl rfl)
theorem dX5_starts_50 : decode cX5_starts 50 = .ok (.goto 4, 3) := dk_167 0 4 (dk_at dksX5_starts_2 4 rfl rfl)
theorem dX5_starts_53 : decode cX5_starts 53 = .ok (.iconst 0, 1) := dk_3 (dk_at dksX5_starts_2 7 rfl rfl)
theorem dX5_starts_54 : decode cX5_starts 54 = .ok (.istore_n 3, 1) := dk_62 (dk_at dksX5_starts_2 8 rfl rfl)
theorem dX5_starts_55 : decode cX5_starts 55 = .ok (.aload_n 0, 1) := dk_42 (dk_at dksX5_starts_2 9 rfl rfl)
theorem dX5_starts_56 : decode cX5_starts 56 = .ok (.dup, 1) := dk_89 (dk_at dksX5_starts_2 10 rfl rfl)
theorem dX5_starts_57 : decode cX5_starts 57 = .ok (.getfield 193, 3) := dk_180 0 193 (dk_at dksX5_starts_2 11 rfl rfl)
theorem dX5_starts_60 : decode cX5_starts 60 = .ok (.iconst 1, 1) := dk_4 (dk_at dksX5_starts_2 14 rfl rfl)
theorem dX5_starts_61 : decode cX5_starts 61 = .ok (.iload_n 1, 1) := dk_27 (dk_at dksX5_starts_2 15 rfl rfl)
theorem dX5_starts_62 : decode cX5_starts 62 = .ok (.ishl, 1) := dk_120 (dk_at dksX5_starts_2 16 rfl rfl)
theorem dX5_starts_63 : decode cX5_starts 63 = .ok (.iconst (-1), 1) := dk_2 (dk_at dksX5_starts_2 17 rfl rfl)
theorem dX5_starts_64 : decode cX5_starts 64 = .ok (.ixor, 1) := dk_130 (dk_at dksX5_starts_2 18 rfl rfl)
theorem dX5_starts_65 : decode cX5_starts 65 = .ok (.iand, 1) := dk_126 (dk_at dksX5_starts_2 19 rfl rfl)
theorem dX5_starts_66 : decode cX5_starts 66 = .ok (.putfield 193, 3) := dk_181 0 193 (dk_at dksX5_starts_2 20 rfl rfl)
theorem dX5_starts_69 : decode cX5_starts 69 = .ok (.iload_n 3, 1) := dk_29 (dk_at dksX5_starts_2 23 rfl rfl)
theorem dX5_starts_70 : decode cX5_starts 70 = .ok (.ifCond .ne 56, 3) := dk_154 0 56 (dk_at dksX5_starts_3 0 rfl rfl)
theorem dX5_starts_73 : decode cX5_starts 73 = .ok (.aload_n 0, 1) := dk_42 (dk_at dksX5_starts_3 3 rfl rfl)
theorem dX5_starts_74 : decode cX5_starts 74 = .ok (.getfield 205, 3) := dk_180 0 205 (dk_at dksX5_starts_3 4 rfl rfl)
theorem dX5_starts_77 : decode cX5_starts 77 = .ok (.iload_n 2, 1) := dk_28 (dk_at dksX5_starts_3 7 rfl rfl)
theorem dX5_starts_78 : decode cX5_starts 78 = .ok (.if_icmp .le 48, 3) := dk_164 0 48 (dk_at dksX5_starts_3 8 rfl rfl)
theorem dX5_starts_81 : decode cX5_starts 81 = .ok (.aload_n 0, 1) := dk_42 (dk_at dksX5_starts_3 11 rfl rfl)
theorem dX5_starts_82 : decode cX5_starts 82 = .ok (.dup, 1) := dk_89 (dk_at dksX5_starts_3 12 rfl rfl)
theorem dX5_starts_83 : decode cX5_starts 83 = .ok (.getfield 205, 3) := dk_180 0 205 (dk_at dksX5_starts_3 13 rfl rfl)
theorem dX5_starts_86 : decode cX5_starts 86 = .ok (.iconst 1, 1) := dk_4 (dk_at dksX5_starts_3 16 rfl rfl)
theorem dX5_starts_87 : decode cX5_starts 87 = .ok (.isub, 1) := dk_100 (dk_at dksX5_starts_3 17 rfl rfl)
theorem dX5_starts_88 : decode cX5_starts 88 = .ok (.putfield 205, 3) := dk_181 0 205 (dk_at dksX5_starts_3 18 rfl rfl)
theorem dX5_starts_91 : decode cX5_starts 91 = .ok (.aload_n 0, 1) := dk_42 (dk_at dksX5_starts_3 21 rfl rfl)
theorem dX5_starts_92 : decode cX5_starts 92 = .ok (.getfield 7, 3) := dk_180 0 7 (dk_at dksX5_starts_4 0 rfl rfl)
theorem dX5_starts_95 : decode cX5_starts 95 = .ok (.aload_n 0, 1) := dk_42 (dk_at dksX5_starts_4 3 rfl rfl)
theorem dX5_starts_96 : decode cX5_starts 96 = .ok (.getfield 32, 3) := dk_180 0 32 (dk_at dksX5_starts_4 4 rfl rfl)
theorem dX5_starts_99 : decode cX5_starts 99 = .ok (.aload_n 0, 1) := dk_42 (dk_at dksX5_starts_4 7 rfl rfl)
theorem dX5_starts_100 : decode cX5_starts 100 = .ok (.getfield 205, 3) := dk_180 0 205 (dk_at dksX5_starts_4 8 rfl rfl)
theorem dX5_starts_103 : decode cX5_starts 103 = .ok (.iaload, 1) := dk_46 (dk_at dksX5_starts_4 11 rfl rfl)
theorem dX5_starts_104 : decode cX5_starts 104 = .ok (.iconst 0, 1) := dk_3 (dk_at dksX5_starts_4 12 rfl rfl)
theorem dX5_starts_105 : decode cX5_starts 105 = .ok (.iastore, 1) := dk_79 (dk_at dksX5_starts_4 13 rfl rfl)
theorem dX5_starts_106 : decode cX5_starts 106 = .ok (.aload_n 0, 1) := dk_42 (dk_at dksX5_starts_4 14 rfl rfl)
theorem dX5_starts_107 : decode cX5_starts 107 = .ok (.sipush 200, 3) := dk_17 0 200 (dk_at dksX5_starts_4 15 rfl rfl)
theorem dX5_starts_110 : decode cX5_starts 110 = .ok (.aload_n 0, 1) := dk_42 (dk_at dksX5_starts_4 18 rfl rfl)
theorem dX5_starts_111 : decode cX5_starts 111 = .ok (.getfield 32, 3) := dk_180 0 32 (dk_at dksX5_starts_4 19 rfl rfl)
theorem dX5_starts_114 : decode cX5_starts 114 = .ok (.aload_n 0, 1) := dk_42 (dk_at dksX5_starts_4 22 rfl rfl)
theorem dX5_starts_115 : decode cX5_starts 115 = .ok (.getfield 205, 3) := dk_180 0 205 (dk_at dksX5_starts_5 0 rfl rfl)
theorem dX5_starts_118 : decode cX5_starts 118 = .ok (.iaload, 1) := dk_46 (dk_at dksX5_starts_5 3 rfl rfl)
theorem dX5_starts_119 : decode cX5_starts 119 = .ok (.iadd, 1) := dk_96 (dk_at dksX5_starts_5 4 rfl rfl)
theorem dX5_starts_120 : decode cX5_starts 120 = .ok (.invokevirtual 198, 3) := dk_182 0 198 (dk_at dksX5_starts_5 5 rfl rfl)
theorem dX5_starts_123 : decode cX5_starts 123 = .ok (.goto (-54), 3) := dk_167 255 202 (dk_at dksX5_starts_5 8 rfl rfl)
theorem dX5_starts_126 : decode cX5_starts 126 = .ok (.iload_n 3, 1) := dk_29 (dk_at dksX5_starts_5 11 rfl rfl)
theorem dX5_starts_127 : decode cX5_starts 127 = .ok (.ireturn, 1) := dk_172 (dk_at dksX5_starts_5 12 rfl rfl)
abbrev cX5_fails : ByteArray := prog_40_method_46_code
def yX5_fails : MethodName := ⟨RX5, "fails", "(III)Z"⟩
def dkwX5_fails_2 : List UInt8 := [181, 0, 182, 3, 172]
abbrev dktX5_fails_2 : List UInt8 := dkwX5_fails_2 ++ []
def dkwX5_fails_1 : List UInt8 := [28, 79, 42, 180, 0, 29, 6, 42, 180, 0, 182, 104, 5, 96, 29, 79, 42, 89, 180, 0, 182, 4, 96]
abbrev dktX5_fails_1 : List UInt8 := dkwX5_fails_1 ++ dktX5_fails_2
def dkwX5_fails_0 : List UInt8 := [42, 180, 0, 29, 6, 42, 180, 0, 182, 104, 27, 79, 42, 180, 0, 29, 6, 42, 180, 0, 182, 104, 4, 96]
abbrev dktX5_fails_0 : List UInt8 := dkwX5_fails_0 ++ dktX5_fails_1
theorem dksX5_fails_0 : cX5_fails.data.toList.drop 0 = dktX5_fails_0 := by decide +kernel
theorem dksX5_fails_1 : cX5_fails.data.toList.drop 24 = dktX5_fails_1 := dk_seg dksX5_fails_0 24 rfl rfl
theorem dksX5_fails_2 : cX5_fails.data.toList.drop 47 = dktX5_fails_2 := dk_seg dksX5_fails_1 23 rfl rfl
theorem dX5_fails_0 : decode cX5_fails 0 = .ok (.aload_n 0, 1) := dk_42 (dk_at dksX5_fails_0 0 rfl rfl)
theorem dX5_fails_1 : decode cX5_fails 1 = .ok (.getfield 29, 3) := dk_180 0 29 (dk_at dksX5_fails_0 1 rfl rfl)
theorem dX5_fails_4 : decode cX5_fails 4 = .ok (.iconst 3, 1) := dk_6 (dk_at dksX5_fails_0 4 rfl rfl)
theorem dX5_fails_5 : decode cX5_fails 5 = .ok (.aload_n 0, 1) := dk_42 (dk_at dksX5_fails_0 5 rfl rfl)
theorem dX5_fails_6 : decode cX5_fails 6 = .ok (.getfield 182, 3) := dk_180 0 182 (dk_at dksX5_fails_0 6 rfl rfl)
theorem dX5_fails_9 : decode cX5_fails 9 = .ok (.imul, 1) := dk_104 (dk_at dksX5_fails_0 9 rfl rfl)
theorem dX5_fails_10 : decode cX5_fails 10 = .ok (.iload_n 1, 1) := dk_27 (dk_at dksX5_fails_0 10 rfl rfl)
theorem dX5_fails_11 : decode cX5_fails 11 = .ok (.iastore, 1) := dk_79 (dk_at dksX5_fails_0 11 rfl rfl)
theorem dX5_fails_12 : decode cX5_fails 12 = .ok (.aload_n 0, 1) := dk_42 (dk_at dksX5_fails_0 12 rfl rfl)
theorem dX5_fails_13 : decode cX5_fails 13 = .ok (.getfield 29, 3) := dk_180 0 29 (dk_at dksX5_fails_0 13 rfl rfl)
theorem dX5_fails_16 : decode cX5_fails 16 = .ok (.iconst 3, 1) := dk_6 (dk_at dksX5_fails_0 16 rfl rfl)
theorem dX5_fails_17 : decode cX5_fails 17 = .ok (.aload_n 0, 1) := dk_42 (dk_at dksX5_fails_0 17 rfl rfl)
theorem dX5_fails_18 : decode cX5_fails 18 = .ok (.getfield 182, 3) := dk_180 0 182 (dk_at dksX5_fails_0 18 rfl rfl)
theorem dX5_fails_21 : decode cX5_fails 21 = .ok (.imul, 1) := dk_104 (dk_at dksX5_fails_0 21 rfl rfl)
theorem dX5_fails_22 : decode cX5_fails 22 = .ok (.iconst 1, 1) := dk_4 (dk_at dksX5_fails_0 22 rfl rfl)
theorem dX5_fails_23 : decode cX5_fails 23 = .ok (.iadd, 1) := dk_96 (dk_at dksX5_fails_0 23 rfl rfl)
theorem dX5_fails_24 : decode cX5_fails 24 = .ok (.iload_n 2, 1) := dk_28 (dk_at dksX5_fails_1 0 rfl rfl)
theorem dX5_fails_25 : decode cX5_fails 25 = .ok (.iastore, 1) := dk_79 (dk_at dksX5_fails_1 1 rfl rfl)
theorem dX5_fails_26 : decode cX5_fails 26 = .ok (.aload_n 0, 1) := dk_42 (dk_at dksX5_fails_1 2 rfl rfl)
theorem dX5_fails_27 : decode cX5_fails 27 = .ok (.getfield 29, 3) := dk_180 0 29 (dk_at dksX5_fails_1 3 rfl rfl)
theorem dX5_fails_30 : decode cX5_fails 30 = .ok (.iconst 3, 1) := dk_6 (dk_at dksX5_fails_1 6 rfl rfl)
theorem dX5_fails_31 : decode cX5_fails 31 = .ok (.aload_n 0, 1) := dk_42 (dk_at dksX5_fails_1 7 rfl rfl)
theorem dX5_fails_32 : decode cX5_fails 32 = .ok (.getfield 182, 3) := dk_180 0 182 (dk_at dksX5_fails_1 8 rfl rfl)
theorem dX5_fails_35 : decode cX5_fails 35 = .ok (.imul, 1) := dk_104 (dk_at dksX5_fails_1 11 rfl rfl)
theorem dX5_fails_36 : decode cX5_fails 36 = .ok (.iconst 2, 1) := dk_5 (dk_at dksX5_fails_1 12 rfl rfl)
theorem dX5_fails_37 : decode cX5_fails 37 = .ok (.iadd, 1) := dk_96 (dk_at dksX5_fails_1 13 rfl rfl)
theorem dX5_fails_38 : decode cX5_fails 38 = .ok (.iload_n 3, 1) := dk_29 (dk_at dksX5_fails_1 14 rfl rfl)
theorem dX5_fails_39 : decode cX5_fails 39 = .ok (.iastore, 1) := dk_79 (dk_at dksX5_fails_1 15 rfl rfl)
theorem dX5_fails_40 : decode cX5_fails 40 = .ok (.aload_n 0, 1) := dk_42 (dk_at dksX5_fails_1 16 rfl rfl)
theorem dX5_fails_41 : decode cX5_fails 41 = .ok (.dup, 1) := dk_89 (dk_at dksX5_fails_1 17 rfl rfl)
theorem dX5_fails_42 : decode cX5_fails 42 = .ok (.getfield 182, 3) := dk_180 0 182 (dk_at dksX5_fails_1 18 rfl rfl)
theorem dX5_fails_45 : decode cX5_fails 45 = .ok (.iconst 1, 1) := dk_4 (dk_at dksX5_fails_1 21 rfl rfl)
theorem dX5_fails_46 : decode cX5_fails 46 = .ok (.iadd, 1) := dk_96 (dk_at dksX5_fails_1 22 rfl rfl)
theorem dX5_fails_47 : decode cX5_fails 47 = .ok (.putfield 182, 3) := dk_181 0 182 (dk_at dksX5_fails_2 0 rfl rfl)
theorem dX5_fails_50 : decode cX5_fails 50 = .ok (.iconst 0, 1) := dk_3 (dk_at dksX5_fails_2 3 rfl rfl)
theorem dX5_fails_51 : decode cX5_fails 51 = .ok (.ireturn, 1) := dk_172 (dk_at dksX5_fails_2 4 rfl rfl)
abbrev cX5_hasNeeds : ByteArray := prog_40_method_47_code
def yX5_hasNeeds : MethodName := ⟨RX5, "hasNeeds", "(I)Z"⟩
def dkwX5_hasNeeds_3 : List UInt8 := [42, 29, 182, 0, 196, 154, 0, 11, 42, 27, 7, 28, 182, 0, 191, 172, 132, 2, 1, 167, 255, 170, 4, 172]
abbrev dktX5_hasNeeds_3 : List UInt8 := dkwX5_hasNeeds_3 ++ []
def dkwX5_hasNeeds_2 : List UInt8 := [182, 0, 191, 172, 42, 180, 0, 193, 29, 122, 4, 126, 4, 160, 0, 11, 42, 27, 6, 28, 182, 0, 191, 172]
abbrev dktX5_hasNeeds_2 : List UInt8 := dkwX5_hasNeeds_2 ++ dktX5_hasNeeds_3
def dkwX5_hasNeeds_1 : List UInt8 := [153, 0, 6, 167, 0, 59, 42, 27, 28, 182, 0, 188, 62, 29, 2, 160, 0, 11, 42, 27, 5, 28]
abbrev dktX5_hasNeeds_1 : List UInt8 := dkwX5_hasNeeds_1 ++ dktX5_hasNeeds_2
def dkwX5_hasNeeds_0 : List UInt8 := [3, 61, 28, 16, 8, 162, 0, 86, 42, 27, 28, 182, 0, 166, 153, 0, 71, 42, 27, 28, 182, 0, 185]
abbrev dktX5_hasNeeds_0 : List UInt8 := dkwX5_hasNeeds_0 ++ dktX5_hasNeeds_1
theorem dksX5_hasNeeds_0 : cX5_hasNeeds.data.toList.drop 0 = dktX5_hasNeeds_0 := by decide +kernel
theorem dksX5_hasNeeds_1 : cX5_hasNeeds.data.toList.drop 23 = dktX5_hasNeeds_1 := dk_seg dksX5_hasNeeds_0 23 rfl rfl
theorem dksX5_hasNeeds_2 : cX5_hasNeeds.data.toList.drop 45 = dktX5_hasNeeds_2 := dk_seg dksX5_hasNeeds_1 22 rfl rfl
theorem dksX5_hasNeeds_3 : cX5_hasNeeds.data.toList.drop 69 = dktX5_hasNeeds_3 := dk_seg dksX5_hasNeeds_2 24 rfl rfl
theorem dX5_hasNeeds_0 : decode cX5_hasNeeds 0 = .ok (.iconst 0, 1) := dk_3 (dk_at dksX5_hasNeeds_0 0 rfl rfl)
theorem dX5_hasNeeds_1 : decode cX5_hasNeeds 1 = .ok (.istore_n 2, 1) := dk_61 (dk_at dksX5_hasNeeds_0 1 rfl rfl)
theorem dX5_hasNeeds_2 : decode cX5_hasNeeds 2 = .ok (.iload_n 2, 1) := dk_28 (dk_at dksX5_hasNeeds_0 2 rfl rfl)
theorem dX5_hasNeeds_3 : decode cX5_hasNeeds 3 = .ok (.bipush 8, 2) := dk_16 8 (dk_at dksX5_hasNeeds_0 3 rfl rfl)
theorem dX5_hasNeeds_5 : decode cX5_hasNeeds 5 = .ok (.if_icmp .ge 86, 3) := dk_162 0 86 (dk_at dksX5_hasNeeds_0 5 rfl rfl)
theorem dX5_hasNeeds_8 : decode cX5_hasNeeds 8 = .ok (.aload_n 0, 1) := dk_42 (dk_at dksX5_hasNeeds_0 8 rfl rfl)
theorem dX5_hasNeeds_9 : decode cX5_hasNeeds 9 = .ok (.iload_n 1, 1) := dk_27 (dk_at dksX5_hasNeeds_0 9 rfl rfl)
theorem dX5_hasNeeds_10 : decode cX5_hasNeeds 10 = .ok (.iload_n 2, 1) := dk_28 (dk_at dksX5_hasNeeds_0 10 rfl rfl)
theorem dX5_hasNeeds_11 : decode cX5_hasNeeds 11 = .ok (.invokevirtual 166, 3) := dk_182 0 166 (dk_at dksX5_hasNeeds_0 11 rfl rfl)
theorem dX5_hasNeeds_14 : decode cX5_hasNeeds 14 = .ok (.ifCond .eq 71, 3) := dk_153 0 71 (dk_at dksX5_hasNeeds_0 14 rfl rfl)
theorem dX5_hasNeeds_17 : decode cX5_hasNeeds 17 = .ok (.aload_n 0, 1) := dk_42 (dk_at dksX5_hasNeeds_0 17 rfl rfl)
theorem dX5_hasNeeds_18 : decode cX5_hasNeeds 18 = .ok (.iload_n 1, 1) := dk_27 (dk_at dksX5_hasNeeds_0 18 rfl rfl)
theorem dX5_hasNeeds_19 : decode cX5_hasNeeds 19 = .ok (.iload_n 2, 1) := dk_28 (dk_at dksX5_hasNeeds_0 19 rfl rfl)
theorem dX5_hasNeeds_20 : decode cX5_hasNeeds 20 = .ok (.invokevirtual 185, 3) := dk_182 0 185 (dk_at dksX5_hasNeeds_0 20 rfl rfl)
theorem dX5_hasNeeds_23 : decode cX5_hasNeeds 23 = .ok (.ifCond .eq 6, 3) := dk_153 0 6 (dk_at dksX5_hasNeeds_1 0 rfl rfl)
theorem dX5_hasNeeds_26 : decode cX5_hasNeeds 26 = .ok (.goto 59, 3) := dk_167 0 59 (dk_at dksX5_hasNeeds_1 3 rfl rfl)
theorem dX5_hasNeeds_29 : decode cX5_hasNeeds 29 = .ok (.aload_n 0, 1) := dk_42 (dk_at dksX5_hasNeeds_1 6 rfl rfl)
theorem dX5_hasNeeds_30 : decode cX5_hasNeeds 30 = .ok (.iload_n 1, 1) := dk_27 (dk_at dksX5_hasNeeds_1 7 rfl rfl)
theorem dX5_hasNeeds_31 : decode cX5_hasNeeds 31 = .ok (.iload_n 2, 1) := dk_28 (dk_at dksX5_hasNeeds_1 8 rfl rfl)
theorem dX5_hasNeeds_32 : decode cX5_hasNeeds 32 = .ok (.invokevirtual 188, 3) := dk_182 0 188 (dk_at dksX5_hasNeeds_1 9 rfl rfl)
theorem dX5_hasNeeds_35 : decode cX5_hasNeeds 35 = .ok (.istore_n 3, 1) := dk_62 (dk_at dksX5_hasNeeds_1 12 rfl rfl)
theorem dX5_hasNeeds_36 : decode cX5_hasNeeds 36 = .ok (.iload_n 3, 1) := dk_29 (dk_at dksX5_hasNeeds_1 13 rfl rfl)
theorem dX5_hasNeeds_37 : decode cX5_hasNeeds 37 = .ok (.iconst (-1), 1) := dk_2 (dk_at dksX5_hasNeeds_1 14 rfl rfl)
theorem dX5_hasNeeds_38 : decode cX5_hasNeeds 38 = .ok (.if_icmp .ne 11, 3) := dk_160 0 11 (dk_at dksX5_hasNeeds_1 15 rfl rfl)
theorem dX5_hasNeeds_41 : decode cX5_hasNeeds 41 = .ok (.aload_n 0, 1) := dk_42 (dk_at dksX5_hasNeeds_1 18 rfl rfl)
theorem dX5_hasNeeds_42 : decode cX5_hasNeeds 42 = .ok (.iload_n 1, 1) := dk_27 (dk_at dksX5_hasNeeds_1 19 rfl rfl)
theorem dX5_hasNeeds_43 : decode cX5_hasNeeds 43 = .ok (.iconst 2, 1) := dk_5 (dk_at dksX5_hasNeeds_1 20 rfl rfl)
theorem dX5_hasNeeds_44 : decode cX5_hasNeeds 44 = .ok (.iload_n 2, 1) := dk_28 (dk_at dksX5_hasNeeds_1 21 rfl rfl)
theorem dX5_hasNeeds_45 : decode cX5_hasNeeds 45 = .ok (.invokevirtual 191, 3) := dk_182 0 191 (dk_at dksX5_hasNeeds_2 0 rfl rfl)
theorem dX5_hasNeeds_48 : decode cX5_hasNeeds 48 = .ok (.ireturn, 1) := dk_172 (dk_at dksX5_hasNeeds_2 3 rfl rfl)
theorem dX5_hasNeeds_49 : decode cX5_hasNeeds 49 = .ok (.aload_n 0, 1) := dk_42 (dk_at dksX5_hasNeeds_2 4 rfl rfl)
theorem dX5_hasNeeds_50 : decode cX5_hasNeeds 50 = .ok (.getfield 193, 3) := dk_180 0 193 (dk_at dksX5_hasNeeds_2 5 rfl rfl)
theorem dX5_hasNeeds_53 : decode cX5_hasNeeds 53 = .ok (.iload_n 3, 1) := dk_29 (dk_at dksX5_hasNeeds_2 8 rfl rfl)
theorem dX5_hasNeeds_54 : decode cX5_hasNeeds 54 = .ok (.ishr, 1) := dk_122 (dk_at dksX5_hasNeeds_2 9 rfl rfl)
theorem dX5_hasNeeds_55 : decode cX5_hasNeeds 55 = .ok (.iconst 1, 1) := dk_4 (dk_at dksX5_hasNeeds_2 10 rfl rfl)
theorem dX5_hasNeeds_56 : decode cX5_hasNeeds 56 = .ok (.iand, 1) := dk_126 (dk_at dksX5_hasNeeds_2 11 rfl rfl)
theorem dX5_hasNeeds_57 : decode cX5_hasNeeds 57 = .ok (.iconst 1, 1) := dk_4 (dk_at dksX5_hasNeeds_2 12 rfl rfl)
theorem dX5_hasNeeds_58 : decode cX5_hasNeeds 58 = .ok (.if_icmp .ne 11, 3) := dk_160 0 11 (dk_at dksX5_hasNeeds_2 13 rfl rfl)
theorem dX5_hasNeeds_61 : decode cX5_hasNeeds 61 = .ok (.aload_n 0, 1) := dk_42 (dk_at dksX5_hasNeeds_2 16 rfl rfl)
theorem dX5_hasNeeds_62 : decode cX5_hasNeeds 62 = .ok (.iload_n 1, 1) := dk_27 (dk_at dksX5_hasNeeds_2 17 rfl rfl)
theorem dX5_hasNeeds_63 : decode cX5_hasNeeds 63 = .ok (.iconst 3, 1) := dk_6 (dk_at dksX5_hasNeeds_2 18 rfl rfl)
theorem dX5_hasNeeds_64 : decode cX5_hasNeeds 64 = .ok (.iload_n 2, 1) := dk_28 (dk_at dksX5_hasNeeds_2 19 rfl rfl)
theorem dX5_hasNeeds_65 : decode cX5_hasNeeds 65 = .ok (.invokevirtual 191, 3) := dk_182 0 191 (dk_at dksX5_hasNeeds_2 20 rfl rfl)
theorem dX5_hasNeeds_68 : decode cX5_hasNeeds 68 = .ok (.ireturn, 1) := dk_172 (dk_at dksX5_hasNeeds_2 23 rfl rfl)
theorem dX5_hasNeeds_69 : decode cX5_hasNeeds 69 = .ok (.aload_n 0, 1) := dk_42 (dk_at dksX5_hasNeeds_3 0 rfl rfl)
theorem dX5_hasNeeds_70 : decode cX5_hasNeeds 70 = .ok (.iload_n 3, 1) := dk_29 (dk_at dksX5_hasNeeds_3 1 rfl rfl)
theorem dX5_hasNeeds_71 : decode cX5_hasNeeds 71 = .ok (.invokevirtual 196, 3) := dk_182 0 196 (dk_at dksX5_hasNeeds_3 2 rfl rfl)
theorem dX5_hasNeeds_74 : decode cX5_hasNeeds 74 = .ok (.ifCond .ne 11, 3) := dk_154 0 11 (dk_at dksX5_hasNeeds_3 5 rfl rfl)
theorem dX5_hasNeeds_77 : decode cX5_hasNeeds 77 = .ok (.aload_n 0, 1) := dk_42 (dk_at dksX5_hasNeeds_3 8 rfl rfl)
theorem dX5_hasNeeds_78 : decode cX5_hasNeeds 78 = .ok (.iload_n 1, 1) := dk_27 (dk_at dksX5_hasNeeds_3 9 rfl rfl)
theorem dX5_hasNeeds_79 : decode cX5_hasNeeds 79 = .ok (.iconst 4, 1) := dk_7 (dk_at dksX5_hasNeeds_3 10 rfl rfl)
theorem dX5_hasNeeds_80 : decode cX5_hasNeeds 80 = .ok (.iload_n 2, 1) := dk_28 (dk_at dksX5_hasNeeds_3 11 rfl rfl)
theorem dX5_hasNeeds_81 : decode cX5_hasNeeds 81 = .ok (.invokevirtual 191, 3) := dk_182 0 191 (dk_at dksX5_hasNeeds_3 12 rfl rfl)
theorem dX5_hasNeeds_84 : decode cX5_hasNeeds 84 = .ok (.ireturn, 1) := dk_172 (dk_at dksX5_hasNeeds_3 15 rfl rfl)
theorem dX5_hasNeeds_85 : decode cX5_hasNeeds 85 = .ok (.iinc 2 1, 3) := dk_132 2 1 (dk_at dksX5_hasNeeds_3 16 rfl rfl)
theorem dX5_hasNeeds_88 : decode cX5_hasNeeds 88 = .ok (.goto (-86), 3) := dk_167 255 170 (dk_at dksX5_hasNeeds_3 19 rfl rfl)
theorem dX5_hasNeeds_91 : decode cX5_hasNeeds 91 = .ok (.iconst 1, 1) := dk_4 (dk_at dksX5_hasNeeds_3 22 rfl rfl)
theorem dX5_hasNeeds_92 : decode cX5_hasNeeds 92 = .ok (.ireturn, 1) := dk_172 (dk_at dksX5_hasNeeds_3 23 rfl rfl)
abbrev cX5_isRun : ByteArray := prog_40_method_43_code
def yX5_isRun : MethodName := ⟨RX5, "isRun", "(II)Z"⟩
def dkwX5_isRun_1 : List UInt8 := [42, 29, 28, 182, 0, 157, 153, 0, 5, 4, 172, 132, 3, 1, 167, 255, 220, 3, 172]
abbrev dktX5_isRun_1 : List UInt8 := dkwX5_isRun_1 ++ []
def dkwX5_isRun_0 : List UInt8 := [3, 62, 29, 42, 180, 0, 73, 162, 0, 34, 29, 27, 159, 0, 23, 42, 29, 182, 0, 115, 4, 160, 0, 14]
abbrev dktX5_isRun_0 : List UInt8 := dkwX5_isRun_0 ++ dktX5_isRun_1
theorem dksX5_isRun_0 : cX5_isRun.data.toList.drop 0 = dktX5_isRun_0 := by decide +kernel
theorem dksX5_isRun_1 : cX5_isRun.data.toList.drop 24 = dktX5_isRun_1 := dk_seg dksX5_isRun_0 24 rfl rfl
theorem dX5_isRun_0 : decode cX5_isRun 0 = .ok (.iconst 0, 1) := dk_3 (dk_at dksX5_isRun_0 0 rfl rfl)
theorem dX5_isRun_1 : decode cX5_isRun 1 = .ok (.istore_n 3, 1) := dk_62 (dk_at dksX5_isRun_0 1 rfl rfl)
theorem dX5_isRun_2 : decode cX5_isRun 2 = .ok (.iload_n 3, 1) := dk_29 (dk_at dksX5_isRun_0 2 rfl rfl)
theorem dX5_isRun_3 : decode cX5_isRun 3 = .ok (.aload_n 0, 1) := dk_42 (dk_at dksX5_isRun_0 3 rfl rfl)
theorem dX5_isRun_4 : decode cX5_isRun 4 = .ok (.getfield 73, 3) := dk_180 0 73 (dk_at dksX5_isRun_0 4 rfl rfl)
theorem dX5_isRun_7 : decode cX5_isRun 7 = .ok (.if_icmp .ge 34, 3) := dk_162 0 34 (dk_at dksX5_isRun_0 7 rfl rfl)
theorem dX5_isRun_10 : decode cX5_isRun 10 = .ok (.iload_n 3, 1) := dk_29 (dk_at dksX5_isRun_0 10 rfl rfl)
theorem dX5_isRun_11 : decode cX5_isRun 11 = .ok (.iload_n 1, 1) := dk_27 (dk_at dksX5_isRun_0 11 rfl rfl)
theorem dX5_isRun_12 : decode cX5_isRun 12 = .ok (.if_icmp .eq 23, 3) := dk_159 0 23 (dk_at dksX5_isRun_0 12 rfl rfl)
theorem dX5_isRun_15 : decode cX5_isRun 15 = .ok (.aload_n 0, 1) := dk_42 (dk_at dksX5_isRun_0 15 rfl rfl)
theorem dX5_isRun_16 : decode cX5_isRun 16 = .ok (.iload_n 3, 1) := dk_29 (dk_at dksX5_isRun_0 16 rfl rfl)
theorem dX5_isRun_17 : decode cX5_isRun 17 = .ok (.invokevirtual 115, 3) := dk_182 0 115 (dk_at dksX5_isRun_0 17 rfl rfl)
theorem dX5_isRun_20 : decode cX5_isRun 20 = .ok (.iconst 1, 1) := dk_4 (dk_at dksX5_isRun_0 20 rfl rfl)
theorem dX5_isRun_21 : decode cX5_isRun 21 = .ok (.if_icmp .ne 14, 3) := dk_160 0 14 (dk_at dksX5_isRun_0 21 rfl rfl)
theorem dX5_isRun_24 : decode cX5_isRun 24 = .ok (.aload_n 0, 1) := dk_42 (dk_at dksX5_isRun_1 0 rfl rfl)
theorem dX5_isRun_25 : decode cX5_isRun 25 = .ok (.iload_n 3, 1) := dk_29 (dk_at dksX5_isRun_1 1 rfl rfl)
theorem dX5_isRun_26 : decode cX5_isRun 26 = .ok (.iload_n 2, 1) := dk_28 (dk_at dksX5_isRun_1 2 rfl rfl)
theorem dX5_isRun_27 : decode cX5_isRun 27 = .ok (.invokevirtual 157, 3) := dk_182 0 157 (dk_at dksX5_isRun_1 3 rfl rfl)
theorem dX5_isRun_30 : decode cX5_isRun 30 = .ok (.ifCond .eq 5, 3) := dk_153 0 5 (dk_at dksX5_isRun_1 6 rfl rfl)
theorem dX5_isRun_33 : decode cX5_isRun 33 = .ok (.iconst 1, 1) := dk_4 (dk_at dksX5_isRun_1 9 rfl rfl)
theorem dX5_isRun_34 : decode cX5_isRun 34 = .ok (.ireturn, 1) := dk_172 (dk_at dksX5_isRun_1 10 rfl rfl)
theorem dX5_isRun_35 : decode cX5_isRun 35 = .ok (.iinc 3 1, 3) := dk_132 3 1 (dk_at dksX5_isRun_1 11 rfl rfl)
theorem dX5_isRun_38 : decode cX5_isRun 38 = .ok (.goto (-36), 3) := dk_167 255 220 (dk_at dksX5_isRun_1 14 rfl rfl)
theorem dX5_isRun_41 : decode cX5_isRun 41 = .ok (.iconst 0, 1) := dk_3 (dk_at dksX5_isRun_1 17 rfl rfl)
theorem dX5_isRun_42 : decode cX5_isRun 42 = .ok (.ireturn, 1) := dk_172 (dk_at dksX5_isRun_1 18 rfl rfl)
abbrev cX5_taken : ByteArray := prog_40_method_45_code
def yX5_taken : MethodName := ⟨RX5, "taken", "(II)I"⟩
def dkwX5_taken_4 : List UInt8 := [132, 4, 1, 167, 255, 166, 29, 172]
abbrev dktX5_taken_4 : List UInt8 := dkwX5_taken_4 ++ []
def dkwX5_taken_3 : List UInt8 := [182, 0, 111, 160, 0, 20, 42, 21, 4, 182, 0, 179, 42, 29, 182, 0, 179, 162, 0, 6, 21, 4, 62]
abbrev dktX5_taken_3 : List UInt8 := dkwX5_taken_3 ++ dktX5_taken_4
def dkwX5_taken_2 : List UInt8 := [42, 21, 4, 182, 0, 111, 42, 29, 182, 0, 111, 163, 0, 31, 42, 21, 4, 182, 0, 111, 42, 29]
abbrev dktX5_taken_2 : List UInt8 := dkwX5_taken_2 ++ dktX5_taken_3
def dkwX5_taken_1 : List UInt8 := [182, 0, 115, 154, 0, 66, 42, 21, 4, 28, 182, 0, 157, 154, 0, 6, 167, 0, 53, 29, 2, 159, 0, 45]
abbrev dktX5_taken_1 : List UInt8 := dkwX5_taken_1 ++ dktX5_taken_2
def dkwX5_taken_0 : List UInt8 := [2, 62, 3, 54, 4, 21, 4, 42, 180, 0, 73, 162, 0, 87, 21, 4, 27, 159, 0, 75, 42, 21, 4]
abbrev dktX5_taken_0 : List UInt8 := dkwX5_taken_0 ++ dktX5_taken_1
theorem dksX5_taken_0 : cX5_taken.data.toList.drop 0 = dktX5_taken_0 := by decide +kernel
theorem dksX5_taken_1 : cX5_taken.data.toList.drop 23 = dktX5_taken_1 := dk_seg dksX5_taken_0 23 rfl rfl
theorem dksX5_taken_2 : cX5_taken.data.toList.drop 47 = dktX5_taken_2 := dk_seg dksX5_taken_1 24 rfl rfl
theorem dksX5_taken_3 : cX5_taken.data.toList.drop 69 = dktX5_taken_3 := dk_seg dksX5_taken_2 22 rfl rfl
theorem dksX5_taken_4 : cX5_taken.data.toList.drop 92 = dktX5_taken_4 := dk_seg dksX5_taken_3 23 rfl rfl
theorem dX5_taken_0 : decode cX5_taken 0 = .ok (.iconst (-1), 1) := dk_2 (dk_at dksX5_taken_0 0 rfl rfl)
theorem dX5_taken_1 : decode cX5_taken 1 = .ok (.istore_n 3, 1) := dk_62 (dk_at dksX5_taken_0 1 rfl rfl)
theorem dX5_taken_2 : decode cX5_taken 2 = .ok (.iconst 0, 1) := dk_3 (dk_at dksX5_taken_0 2 rfl rfl)
theorem dX5_taken_3 : decode cX5_taken 3 = .ok (.istore 4, 2) := dk_54 4 (dk_at dksX5_taken_0 3 rfl rfl)
theorem dX5_taken_5 : decode cX5_taken 5 = .ok (.iload 4, 2) := dk_21 4 (dk_at dksX5_taken_0 5 rfl rfl)
theorem dX5_taken_7 : decode cX5_taken 7 = .ok (.aload_n 0, 1) := dk_42 (dk_at dksX5_taken_0 7 rfl rfl)
theorem dX5_taken_8 : decode cX5_taken 8 = .ok (.getfield 73, 3) := dk_180 0 73 (dk_at dksX5_taken_0 8 rfl rfl)
theorem dX5_taken_11 : decode cX5_taken 11 = .ok (.if_icmp .ge 87, 3) := dk_162 0 87 (dk_at dksX5_taken_0 11 rfl rfl)
theorem dX5_taken_14 : decode cX5_taken 14 = .ok (.iload 4, 2) := dk_21 4 (dk_at dksX5_taken_0 14 rfl rfl)
theorem dX5_taken_16 : decode cX5_taken 16 = .ok (.iload_n 1, 1) := dk_27 (dk_at dksX5_taken_0 16 rfl rfl)
theorem dX5_taken_17 : decode cX5_taken 17 = .ok (.if_icmp .eq 75, 3) := dk_159 0 75 (dk_at dksX5_taken_0 17 rfl rfl)
theorem dX5_taken_20 : decode cX5_taken 20 = .ok (.aload_n 0, 1) := dk_42 (dk_at dksX5_taken_0 20 rfl rfl)
theorem dX5_taken_21 : decode cX5_taken 21 = .ok (.iload 4, 2) := dk_21 4 (dk_at dksX5_taken_0 21 rfl rfl)
theorem dX5_taken_23 : decode cX5_taken 23 = .ok (.invokevirtual 115, 3) := dk_182 0 115 (dk_at dksX5_taken_1 0 rfl rfl)
theorem dX5_taken_26 : decode cX5_taken 26 = .ok (.ifCond .ne 66, 3) := dk_154 0 66 (dk_at dksX5_taken_1 3 rfl rfl)
theorem dX5_taken_29 : decode cX5_taken 29 = .ok (.aload_n 0, 1) := dk_42 (dk_at dksX5_taken_1 6 rfl rfl)
theorem dX5_taken_30 : decode cX5_taken 30 = .ok (.iload 4, 2) := dk_21 4 (dk_at dksX5_taken_1 7 rfl rfl)
theorem dX5_taken_32 : decode cX5_taken 32 = .ok (.iload_n 2, 1) := dk_28 (dk_at dksX5_taken_1 9 rfl rfl)
theorem dX5_taken_33 : decode cX5_taken 33 = .ok (.invokevirtual 157, 3) := dk_182 0 157 (dk_at dksX5_taken_1 10 rfl rfl)
theorem dX5_taken_36 : decode cX5_taken 36 = .ok (.ifCond .ne 6, 3) := dk_154 0 6 (dk_at dksX5_taken_1 13 rfl rfl)
theorem dX5_taken_39 : decode cX5_taken 39 = .ok (.goto 53, 3) := dk_167 0 53 (dk_at dksX5_taken_1 16 rfl rfl)
theorem dX5_taken_42 : decode cX5_taken 42 = .ok (.iload_n 3, 1) := dk_29 (dk_at dksX5_taken_1 19 rfl rfl)
theorem dX5_taken_43 : decode cX5_taken 43 = .ok (.iconst (-1), 1) := dk_2 (dk_at dksX5_taken_1 20 rfl rfl)
theorem dX5_taken_44 : decode cX5_taken 44 = .ok (.if_icmp .eq 45, 3) := dk_159 0 45 (dk_at dksX5_taken_1 21 rfl rfl)
theorem dX5_taken_47 : decode cX5_taken 47 = .ok (.aload_n 0, 1) := dk_42 (dk_at dksX5_taken_2 0 rfl rfl)
theorem dX5_taken_48 : decode cX5_taken 48 = .ok (.iload 4, 2) := dk_21 4 (dk_at dksX5_taken_2 1 rfl rfl)
theorem dX5_taken_50 : decode cX5_taken 50 = .ok (.invokevirtual 111, 3) := dk_182 0 111 (dk_at dksX5_taken_2 3 rfl rfl)
theorem dX5_taken_53 : decode cX5_taken 53 = .ok (.aload_n 0, 1) := dk_42 (dk_at dksX5_taken_2 6 rfl rfl)
theorem dX5_taken_54 : decode cX5_taken 54 = .ok (.iload_n 3, 1) := dk_29 (dk_at dksX5_taken_2 7 rfl rfl)
theorem dX5_taken_55 : decode cX5_taken 55 = .ok (.invokevirtual 111, 3) := dk_182 0 111 (dk_at dksX5_taken_2 8 rfl rfl)
theorem dX5_taken_58 : decode cX5_taken 58 = .ok (.if_icmp .gt 31, 3) := dk_163 0 31 (dk_at dksX5_taken_2 11 rfl rfl)
theorem dX5_taken_61 : decode cX5_taken 61 = .ok (.aload_n 0, 1) := dk_42 (dk_at dksX5_taken_2 14 rfl rfl)
theorem dX5_taken_62 : decode cX5_taken 62 = .ok (.iload 4, 2) := dk_21 4 (dk_at dksX5_taken_2 15 rfl rfl)
theorem dX5_taken_64 : decode cX5_taken 64 = .ok (.invokevirtual 111, 3) := dk_182 0 111 (dk_at dksX5_taken_2 17 rfl rfl)
theorem dX5_taken_67 : decode cX5_taken 67 = .ok (.aload_n 0, 1) := dk_42 (dk_at dksX5_taken_2 20 rfl rfl)
theorem dX5_taken_68 : decode cX5_taken 68 = .ok (.iload_n 3, 1) := dk_29 (dk_at dksX5_taken_2 21 rfl rfl)
theorem dX5_taken_69 : decode cX5_taken 69 = .ok (.invokevirtual 111, 3) := dk_182 0 111 (dk_at dksX5_taken_3 0 rfl rfl)
theorem dX5_taken_72 : decode cX5_taken 72 = .ok (.if_icmp .ne 20, 3) := dk_160 0 20 (dk_at dksX5_taken_3 3 rfl rfl)
theorem dX5_taken_75 : decode cX5_taken 75 = .ok (.aload_n 0, 1) := dk_42 (dk_at dksX5_taken_3 6 rfl rfl)
theorem dX5_taken_76 : decode cX5_taken 76 = .ok (.iload 4, 2) := dk_21 4 (dk_at dksX5_taken_3 7 rfl rfl)
theorem dX5_taken_78 : decode cX5_taken 78 = .ok (.invokevirtual 179, 3) := dk_182 0 179 (dk_at dksX5_taken_3 9 rfl rfl)
theorem dX5_taken_81 : decode cX5_taken 81 = .ok (.aload_n 0, 1) := dk_42 (dk_at dksX5_taken_3 12 rfl rfl)
theorem dX5_taken_82 : decode cX5_taken 82 = .ok (.iload_n 3, 1) := dk_29 (dk_at dksX5_taken_3 13 rfl rfl)
theorem dX5_taken_83 : decode cX5_taken 83 = .ok (.invokevirtual 179, 3) := dk_182 0 179 (dk_at dksX5_taken_3 14 rfl rfl)
theorem dX5_taken_86 : decode cX5_taken 86 = .ok (.if_icmp .ge 6, 3) := dk_162 0 6 (dk_at dksX5_taken_3 17 rfl rfl)
theorem dX5_taken_89 : decode cX5_taken 89 = .ok (.iload 4, 2) := dk_21 4 (dk_at dksX5_taken_3 20 rfl rfl)
theorem dX5_taken_91 : decode cX5_taken 91 = .ok (.istore_n 3, 1) := dk_62 (dk_at dksX5_taken_3 22 rfl rfl)
theorem dX5_taken_92 : decode cX5_taken 92 = .ok (.iinc 4 1, 3) := dk_132 4 1 (dk_at dksX5_taken_4 0 rfl rfl)
theorem dX5_taken_95 : decode cX5_taken 95 = .ok (.goto (-90), 3) := dk_167 255 166 (dk_at dksX5_taken_4 3 rfl rfl)
theorem dX5_taken_98 : decode cX5_taken 98 = .ok (.iload_n 3, 1) := dk_29 (dk_at dksX5_taken_4 6 rfl rfl)
theorem dX5_taken_99 : decode cX5_taken 99 = .ok (.ireturn, 1) := dk_172 (dk_at dksX5_taken_4 7 rfl rfl)
abbrev cX5_key : ByteArray := prog_40_method_44_code
def yX5_key : MethodName := ⟨RX5, "key", "(I)I"⟩
def dkwX5_key_1 : List UInt8 := [172]
abbrev dktX5_key_1 : List UInt8 := dkwX5_key_1 ++ []
def dkwX5_key_0 : List UInt8 := [42, 16, 6, 27, 182, 0, 80, 61, 28, 17, 76, 227, 162, 0, 11, 28, 16, 27, 104, 61, 167, 255, 244, 28]
abbrev dktX5_key_0 : List UInt8 := dkwX5_key_0 ++ dktX5_key_1
theorem dksX5_key_0 : cX5_key.data.toList.drop 0 = dktX5_key_0 := by decide +kernel
theorem dksX5_key_1 : cX5_key.data.toList.drop 24 = dktX5_key_1 := dk_seg dksX5_key_0 24 rfl rfl
theorem dX5_key_0 : decode cX5_key 0 = .ok (.aload_n 0, 1) := dk_42 (dk_at dksX5_key_0 0 rfl rfl)
theorem dX5_key_1 : decode cX5_key 1 = .ok (.bipush 6, 2) := dk_16 6 (dk_at dksX5_key_0 1 rfl rfl)
theorem dX5_key_3 : decode cX5_key 3 = .ok (.iload_n 1, 1) := dk_27 (dk_at dksX5_key_0 3 rfl rfl)
theorem dX5_key_4 : decode cX5_key 4 = .ok (.invokevirtual 80, 3) := dk_182 0 80 (dk_at dksX5_key_0 4 rfl rfl)
theorem dX5_key_7 : decode cX5_key 7 = .ok (.istore_n 2, 1) := dk_61 (dk_at dksX5_key_0 7 rfl rfl)
theorem dX5_key_8 : decode cX5_key 8 = .ok (.iload_n 2, 1) := dk_28 (dk_at dksX5_key_0 8 rfl rfl)
theorem dX5_key_9 : decode cX5_key 9 = .ok (.sipush 19683, 3) := dk_17 76 227 (dk_at dksX5_key_0 9 rfl rfl)
theorem dX5_key_12 : decode cX5_key 12 = .ok (.if_icmp .ge 11, 3) := dk_162 0 11 (dk_at dksX5_key_0 12 rfl rfl)
theorem dX5_key_15 : decode cX5_key 15 = .ok (.iload_n 2, 1) := dk_28 (dk_at dksX5_key_0 15 rfl rfl)
theorem dX5_key_16 : decode cX5_key 16 = .ok (.bipush 27, 2) := dk_16 27 (dk_at dksX5_key_0 16 rfl rfl)
theorem dX5_key_18 : decode cX5_key 18 = .ok (.imul, 1) := dk_104 (dk_at dksX5_key_0 18 rfl rfl)
theorem dX5_key_19 : decode cX5_key 19 = .ok (.istore_n 2, 1) := dk_61 (dk_at dksX5_key_0 19 rfl rfl)
theorem dX5_key_20 : decode cX5_key 20 = .ok (.goto (-12), 3) := dk_167 255 244 (dk_at dksX5_key_0 20 rfl rfl)
theorem dX5_key_23 : decode cX5_key 23 = .ok (.iload_n 2, 1) := dk_28 (dk_at dksX5_key_0 23 rfl rfl)
theorem dX5_key_24 : decode cX5_key 24 = .ok (.ireturn, 1) := dk_172 (dk_at dksX5_key_1 0 rfl rfl)
abbrev cX5_runs : ByteArray := prog_40_method_48_code
def yX5_runs : MethodName := ⟨RX5, "runs", "(I)Z"⟩
def dkwX5_runs_4 : List UInt8 := [181, 0, 205, 42, 16, 100, 27, 96, 182, 0, 198, 4, 172]
abbrev dktX5_runs_4 : List UInt8 := dkwX5_runs_4 ++ []
def dkwX5_runs_3 : List UInt8 := [4, 96, 181, 0, 202, 42, 180, 0, 32, 42, 180, 0, 205, 27, 79, 42, 89, 180, 0, 205, 4, 96]
abbrev dktX5_runs_3 : List UInt8 := dkwX5_runs_3 ++ dktX5_runs_4
def dkwX5_runs_2 : List UInt8 := [180, 0, 7, 27, 4, 79, 42, 180, 0, 7, 16, 84, 27, 96, 42, 180, 0, 202, 79, 42, 89, 180, 0, 202]
abbrev dktX5_runs_2 : List UInt8 := dkwX5_runs_2 ++ dktX5_runs_3
def dkwX5_runs_1 : List UInt8 := [180, 0, 7, 27, 5, 79, 42, 17, 1, 44, 27, 96, 182, 0, 198, 42, 27, 8, 2, 182, 0, 191, 172, 42]
abbrev dktX5_runs_1 : List UInt8 := dkwX5_runs_1 ++ dktX5_runs_2
def dkwX5_runs_0 : List UInt8 := [42, 8, 27, 182, 0, 80, 158, 0, 40, 42, 180, 0, 7, 16, 60, 27, 96, 92, 46, 4, 100, 79, 42]
abbrev dktX5_runs_0 : List UInt8 := dkwX5_runs_0 ++ dktX5_runs_1
theorem dksX5_runs_0 : cX5_runs.data.toList.drop 0 = dktX5_runs_0 := by decide +kernel
theorem dksX5_runs_1 : cX5_runs.data.toList.drop 23 = dktX5_runs_1 := dk_seg dksX5_runs_0 23 rfl rfl
theorem dksX5_runs_2 : cX5_runs.data.toList.drop 47 = dktX5_runs_2 := dk_seg dksX5_runs_1 24 rfl rfl
theorem dksX5_runs_3 : cX5_runs.data.toList.drop 71 = dktX5_runs_3 := dk_seg dksX5_runs_2 24 rfl rfl
theorem dksX5_runs_4 : cX5_runs.data.toList.drop 93 = dktX5_runs_4 := dk_seg dksX5_runs_3 22 rfl rfl
theorem dX5_runs_0 : decode cX5_runs 0 = .ok (.aload_n 0, 1) := dk_42 (dk_at dksX5_runs_0 0 rfl rfl)
theorem dX5_runs_1 : decode cX5_runs 1 = .ok (.iconst 5, 1) := dk_8 (dk_at dksX5_runs_0 1 rfl rfl)
theorem dX5_runs_2 : decode cX5_runs 2 = .ok (.iload_n 1, 1) := dk_27 (dk_at dksX5_runs_0 2 rfl rfl)
theorem dX5_runs_3 : decode cX5_runs 3 = .ok (.invokevirtual 80, 3) := dk_182 0 80 (dk_at dksX5_runs_0 3 rfl rfl)
theorem dX5_runs_6 : decode cX5_runs 6 = .ok (.ifCond .le 40, 3) := dk_158 0 40 (dk_at dksX5_runs_0 6 rfl rfl)
theorem dX5_runs_9 : decode cX5_runs 9 = .ok (.aload_n 0, 1) := dk_42 (dk_at dksX5_runs_0 9 rfl rfl)
theorem dX5_runs_10 : decode cX5_runs 10 = .ok (.getfield 7, 3) := dk_180 0 7 (dk_at dksX5_runs_0 10 rfl rfl)
theorem dX5_runs_13 : decode cX5_runs 13 = .ok (.bipush 60, 2) := dk_16 60 (dk_at dksX5_runs_0 13 rfl rfl)
theorem dX5_runs_15 : decode cX5_runs 15 = .ok (.iload_n 1, 1) := dk_27 (dk_at dksX5_runs_0 15 rfl rfl)
theorem dX5_runs_16 : decode cX5_runs 16 = .ok (.iadd, 1) := dk_96 (dk_at dksX5_runs_0 16 rfl rfl)
theorem dX5_runs_17 : decode cX5_runs 17 = .ok (.dup2, 1) := dk_92 (dk_at dksX5_runs_0 17 rfl rfl)
theorem dX5_runs_18 : decode cX5_runs 18 = .ok (.iaload, 1) := dk_46 (dk_at dksX5_runs_0 18 rfl rfl)
theorem dX5_runs_19 : decode cX5_runs 19 = .ok (.iconst 1, 1) := dk_4 (dk_at dksX5_runs_0 19 rfl rfl)
theorem dX5_runs_20 : decode cX5_runs 20 = .ok (.isub, 1) := dk_100 (dk_at dksX5_runs_0 20 rfl rfl)
theorem dX5_runs_21 : decode cX5_runs 21 = .ok (.iastore, 1) := dk_79 (dk_at dksX5_runs_0 21 rfl rfl)
theorem dX5_runs_22 : decode cX5_runs 22 = .ok (.aload_n 0, 1) := dk_42 (dk_at dksX5_runs_0 22 rfl rfl)
theorem dX5_runs_23 : decode cX5_runs 23 = .ok (.getfield 7, 3) := dk_180 0 7 (dk_at dksX5_runs_1 0 rfl rfl)
theorem dX5_runs_26 : decode cX5_runs 26 = .ok (.iload_n 1, 1) := dk_27 (dk_at dksX5_runs_1 3 rfl rfl)
theorem dX5_runs_27 : decode cX5_runs 27 = .ok (.iconst 2, 1) := dk_5 (dk_at dksX5_runs_1 4 rfl rfl)
theorem dX5_runs_28 : decode cX5_runs 28 = .ok (.iastore, 1) := dk_79 (dk_at dksX5_runs_1 5 rfl rfl)
theorem dX5_runs_29 : decode cX5_runs 29 = .ok (.aload_n 0, 1) := dk_42 (dk_at dksX5_runs_1 6 rfl rfl)
theorem dX5_runs_30 : decode cX5_runs 30 = .ok (.sipush 300, 3) := dk_17 1 44 (dk_at dksX5_runs_1 7 rfl rfl)
theorem dX5_runs_33 : decode cX5_runs 33 = .ok (.iload_n 1, 1) := dk_27 (dk_at dksX5_runs_1 10 rfl rfl)
theorem dX5_runs_34 : decode cX5_runs 34 = .ok (.iadd, 1) := dk_96 (dk_at dksX5_runs_1 11 rfl rfl)
theorem dX5_runs_35 : decode cX5_runs 35 = .ok (.invokevirtual 198, 3) := dk_182 0 198 (dk_at dksX5_runs_1 12 rfl rfl)
theorem dX5_runs_38 : decode cX5_runs 38 = .ok (.aload_n 0, 1) := dk_42 (dk_at dksX5_runs_1 15 rfl rfl)
theorem dX5_runs_39 : decode cX5_runs 39 = .ok (.iload_n 1, 1) := dk_27 (dk_at dksX5_runs_1 16 rfl rfl)
theorem dX5_runs_40 : decode cX5_runs 40 = .ok (.iconst 5, 1) := dk_8 (dk_at dksX5_runs_1 17 rfl rfl)
theorem dX5_runs_41 : decode cX5_runs 41 = .ok (.iconst (-1), 1) := dk_2 (dk_at dksX5_runs_1 18 rfl rfl)
theorem dX5_runs_42 : decode cX5_runs 42 = .ok (.invokevirtual 191, 3) := dk_182 0 191 (dk_at dksX5_runs_1 19 rfl rfl)
theorem dX5_runs_45 : decode cX5_runs 45 = .ok (.ireturn, 1) := dk_172 (dk_at dksX5_runs_1 22 rfl rfl)
theorem dX5_runs_46 : decode cX5_runs 46 = .ok (.aload_n 0, 1) := dk_42 (dk_at dksX5_runs_1 23 rfl rfl)
theorem dX5_runs_47 : decode cX5_runs 47 = .ok (.getfield 7, 3) := dk_180 0 7 (dk_at dksX5_runs_2 0 rfl rfl)
theorem dX5_runs_50 : decode cX5_runs 50 = .ok (.iload_n 1, 1) := dk_27 (dk_at dksX5_runs_2 3 rfl rfl)
theorem dX5_runs_51 : decode cX5_runs 51 = .ok (.iconst 1, 1) := dk_4 (dk_at dksX5_runs_2 4 rfl rfl)
theorem dX5_runs_52 : decode cX5_runs 52 = .ok (.iastore, 1) := dk_79 (dk_at dksX5_runs_2 5 rfl rfl)
theorem dX5_runs_53 : decode cX5_runs 53 = .ok (.aload_n 0, 1) := dk_42 (dk_at dksX5_runs_2 6 rfl rfl)
theorem dX5_runs_54 : decode cX5_runs 54 = .ok (.getfield 7, 3) := dk_180 0 7 (dk_at dksX5_runs_2 7 rfl rfl)
theorem dX5_runs_57 : decode cX5_runs 57 = .ok (.bipush 84, 2) := dk_16 84 (dk_at dksX5_runs_2 10 rfl rfl)
theorem dX5_runs_59 : decode cX5_runs 59 = .ok (.iload_n 1, 1) := dk_27 (dk_at dksX5_runs_2 12 rfl rfl)
theorem dX5_runs_60 : decode cX5_runs 60 = .ok (.iadd, 1) := dk_96 (dk_at dksX5_runs_2 13 rfl rfl)
theorem dX5_runs_61 : decode cX5_runs 61 = .ok (.aload_n 0, 1) := dk_42 (dk_at dksX5_runs_2 14 rfl rfl)
theorem dX5_runs_62 : decode cX5_runs 62 = .ok (.getfield 202, 3) := dk_180 0 202 (dk_at dksX5_runs_2 15 rfl rfl)
theorem dX5_runs_65 : decode cX5_runs 65 = .ok (.iastore, 1) := dk_79 (dk_at dksX5_runs_2 18 rfl rfl)
theorem dX5_runs_66 : decode cX5_runs 66 = .ok (.aload_n 0, 1) := dk_42 (dk_at dksX5_runs_2 19 rfl rfl)
theorem dX5_runs_67 : decode cX5_runs 67 = .ok (.dup, 1) := dk_89 (dk_at dksX5_runs_2 20 rfl rfl)
theorem dX5_runs_68 : decode cX5_runs 68 = .ok (.getfield 202, 3) := dk_180 0 202 (dk_at dksX5_runs_2 21 rfl rfl)
theorem dX5_runs_71 : decode cX5_runs 71 = .ok (.iconst 1, 1) := dk_4 (dk_at dksX5_runs_3 0 rfl rfl)
theorem dX5_runs_72 : decode cX5_runs 72 = .ok (.iadd, 1) := dk_96 (dk_at dksX5_runs_3 1 rfl rfl)
theorem dX5_runs_73 : decode cX5_runs 73 = .ok (.putfield 202, 3) := dk_181 0 202 (dk_at dksX5_runs_3 2 rfl rfl)
theorem dX5_runs_76 : decode cX5_runs 76 = .ok (.aload_n 0, 1) := dk_42 (dk_at dksX5_runs_3 5 rfl rfl)
theorem dX5_runs_77 : decode cX5_runs 77 = .ok (.getfield 32, 3) := dk_180 0 32 (dk_at dksX5_runs_3 6 rfl rfl)
theorem dX5_runs_80 : decode cX5_runs 80 = .ok (.aload_n 0, 1) := dk_42 (dk_at dksX5_runs_3 9 rfl rfl)
theorem dX5_runs_81 : decode cX5_runs 81 = .ok (.getfield 205, 3) := dk_180 0 205 (dk_at dksX5_runs_3 10 rfl rfl)
theorem dX5_runs_84 : decode cX5_runs 84 = .ok (.iload_n 1, 1) := dk_27 (dk_at dksX5_runs_3 13 rfl rfl)
theorem dX5_runs_85 : decode cX5_runs 85 = .ok (.iastore, 1) := dk_79 (dk_at dksX5_runs_3 14 rfl rfl)
theorem dX5_runs_86 : decode cX5_runs 86 = .ok (.aload_n 0, 1) := dk_42 (dk_at dksX5_runs_3 15 rfl rfl)
theorem dX5_runs_87 : decode cX5_runs 87 = .ok (.dup, 1) := dk_89 (dk_at dksX5_runs_3 16 rfl rfl)
theorem dX5_runs_88 : decode cX5_runs 88 = .ok (.getfield 205, 3) := dk_180 0 205 (dk_at dksX5_runs_3 17 rfl rfl)
theorem dX5_runs_91 : decode cX5_runs 91 = .ok (.iconst 1, 1) := dk_4 (dk_at dksX5_runs_3 20 rfl rfl)
theorem dX5_runs_92 : decode cX5_runs 92 = .ok (.iadd, 1) := dk_96 (dk_at dksX5_runs_3 21 rfl rfl)
theorem dX5_runs_93 : decode cX5_runs 93 = .ok (.putfield 205, 3) := dk_181 0 205 (dk_at dksX5_runs_4 0 rfl rfl)
theorem dX5_runs_96 : decode cX5_runs 96 = .ok (.aload_n 0, 1) := dk_42 (dk_at dksX5_runs_4 3 rfl rfl)
theorem dX5_runs_97 : decode cX5_runs 97 = .ok (.bipush 100, 2) := dk_16 100 (dk_at dksX5_runs_4 4 rfl rfl)
theorem dX5_runs_99 : decode cX5_runs 99 = .ok (.iload_n 1, 1) := dk_27 (dk_at dksX5_runs_4 6 rfl rfl)
theorem dX5_runs_100 : decode cX5_runs 100 = .ok (.iadd, 1) := dk_96 (dk_at dksX5_runs_4 7 rfl rfl)
theorem dX5_runs_101 : decode cX5_runs 101 = .ok (.invokevirtual 198, 3) := dk_182 0 198 (dk_at dksX5_runs_4 8 rfl rfl)
theorem dX5_runs_104 : decode cX5_runs 104 = .ok (.iconst 1, 1) := dk_4 (dk_at dksX5_runs_4 11 rfl rfl)
theorem dX5_runs_105 : decode cX5_runs 105 = .ok (.ireturn, 1) := dk_172 (dk_at dksX5_runs_4 12 rfl rfl)
abbrev cX5_logs : ByteArray := prog_40_method_42_code
def yX5_logs : MethodName := ⟨RX5, "logs", "(I)V"⟩
def dkwX5_logs_1 : List UInt8 := [180, 0, 176, 4, 96, 181, 0, 176, 177]
abbrev dktX5_logs_1 : List UInt8 := dkwX5_logs_1 ++ []
def dkwX5_logs_0 : List UInt8 := [42, 180, 0, 172, 153, 0, 4, 177, 42, 180, 0, 35, 42, 180, 0, 176, 16, 40, 112, 27, 79, 42, 89]
abbrev dktX5_logs_0 : List UInt8 := dkwX5_logs_0 ++ dktX5_logs_1
theorem dksX5_logs_0 : cX5_logs.data.toList.drop 0 = dktX5_logs_0 := by decide +kernel
theorem dksX5_logs_1 : cX5_logs.data.toList.drop 23 = dktX5_logs_1 := dk_seg dksX5_logs_0 23 rfl rfl
theorem dX5_logs_0 : decode cX5_logs 0 = .ok (.aload_n 0, 1) := dk_42 (dk_at dksX5_logs_0 0 rfl rfl)
theorem dX5_logs_1 : decode cX5_logs 1 = .ok (.getfield 172, 3) := dk_180 0 172 (dk_at dksX5_logs_0 1 rfl rfl)
theorem dX5_logs_4 : decode cX5_logs 4 = .ok (.ifCond .eq 4, 3) := dk_153 0 4 (dk_at dksX5_logs_0 4 rfl rfl)
theorem dX5_logs_7 : decode cX5_logs 7 = .ok (.return_, 1) := dk_177 (dk_at dksX5_logs_0 7 rfl rfl)
theorem dX5_logs_8 : decode cX5_logs 8 = .ok (.aload_n 0, 1) := dk_42 (dk_at dksX5_logs_0 8 rfl rfl)
theorem dX5_logs_9 : decode cX5_logs 9 = .ok (.getfield 35, 3) := dk_180 0 35 (dk_at dksX5_logs_0 9 rfl rfl)
theorem dX5_logs_12 : decode cX5_logs 12 = .ok (.aload_n 0, 1) := dk_42 (dk_at dksX5_logs_0 12 rfl rfl)
theorem dX5_logs_13 : decode cX5_logs 13 = .ok (.getfield 176, 3) := dk_180 0 176 (dk_at dksX5_logs_0 13 rfl rfl)
theorem dX5_logs_16 : decode cX5_logs 16 = .ok (.bipush 40, 2) := dk_16 40 (dk_at dksX5_logs_0 16 rfl rfl)
theorem dX5_logs_18 : decode cX5_logs 18 = .ok (.irem, 1) := dk_112 (dk_at dksX5_logs_0 18 rfl rfl)
theorem dX5_logs_19 : decode cX5_logs 19 = .ok (.iload_n 1, 1) := dk_27 (dk_at dksX5_logs_0 19 rfl rfl)
theorem dX5_logs_20 : decode cX5_logs 20 = .ok (.iastore, 1) := dk_79 (dk_at dksX5_logs_0 20 rfl rfl)
theorem dX5_logs_21 : decode cX5_logs 21 = .ok (.aload_n 0, 1) := dk_42 (dk_at dksX5_logs_0 21 rfl rfl)
theorem dX5_logs_22 : decode cX5_logs 22 = .ok (.dup, 1) := dk_89 (dk_at dksX5_logs_0 22 rfl rfl)
theorem dX5_logs_23 : decode cX5_logs 23 = .ok (.getfield 176, 3) := dk_180 0 176 (dk_at dksX5_logs_1 0 rfl rfl)
theorem dX5_logs_26 : decode cX5_logs 26 = .ok (.iconst 1, 1) := dk_4 (dk_at dksX5_logs_1 3 rfl rfl)
theorem dX5_logs_27 : decode cX5_logs 27 = .ok (.iadd, 1) := dk_96 (dk_at dksX5_logs_1 4 rfl rfl)
theorem dX5_logs_28 : decode cX5_logs 28 = .ok (.putfield 176, 3) := dk_181 0 176 (dk_at dksX5_logs_1 5 rfl rfl)
theorem dX5_logs_31 : decode cX5_logs 31 = .ok (.return_, 1) := dk_177 (dk_at dksX5_logs_1 8 rfl rfl)
abbrev cX5_cause : ByteArray := prog_40_method_52_code
def yX5_cause : MethodName := ⟨RX5, "cause", "(II)I"⟩
def dkwX5_cause_1 : List UInt8 := [16, 251, 182, 0, 69, 172, 42, 180, 0, 26, 6, 42, 180, 0, 217, 4, 100, 27, 100, 104, 28, 96, 46, 172]
abbrev dktX5_cause_1 : List UInt8 := dkwX5_cause_1 ++ []
def dkwX5_cause_0 : List UInt8 := [27, 3, 42, 180, 0, 217, 4, 100, 184, 0, 76, 153, 0, 12, 28, 3, 5, 184, 0, 76, 154, 0, 10, 42]
abbrev dktX5_cause_0 : List UInt8 := dkwX5_cause_0 ++ dktX5_cause_1
theorem dksX5_cause_0 : cX5_cause.data.toList.drop 0 = dktX5_cause_0 := by decide +kernel
theorem dksX5_cause_1 : cX5_cause.data.toList.drop 24 = dktX5_cause_1 := dk_seg dksX5_cause_0 24 rfl rfl
theorem dX5_cause_0 : decode cX5_cause 0 = .ok (.iload_n 1, 1) := dk_27 (dk_at dksX5_cause_0 0 rfl rfl)
theorem dX5_cause_1 : decode cX5_cause 1 = .ok (.iconst 0, 1) := dk_3 (dk_at dksX5_cause_0 1 rfl rfl)
theorem dX5_cause_2 : decode cX5_cause 2 = .ok (.aload_n 0, 1) := dk_42 (dk_at dksX5_cause_0 2 rfl rfl)
theorem dX5_cause_3 : decode cX5_cause 3 = .ok (.getfield 217, 3) := dk_180 0 217 (dk_at dksX5_cause_0 3 rfl rfl)
theorem dX5_cause_6 : decode cX5_cause 6 = .ok (.iconst 1, 1) := dk_4 (dk_at dksX5_cause_0 6 rfl rfl)
theorem dX5_cause_7 : decode cX5_cause 7 = .ok (.isub, 1) := dk_100 (dk_at dksX5_cause_0 7 rfl rfl)
theorem dX5_cause_8 : decode cX5_cause 8 = .ok (.invokestatic 76, 3) := dk_184 0 76 (dk_at dksX5_cause_0 8 rfl rfl)
theorem dX5_cause_11 : decode cX5_cause 11 = .ok (.ifCond .eq 12, 3) := dk_153 0 12 (dk_at dksX5_cause_0 11 rfl rfl)
theorem dX5_cause_14 : decode cX5_cause 14 = .ok (.iload_n 2, 1) := dk_28 (dk_at dksX5_cause_0 14 rfl rfl)
theorem dX5_cause_15 : decode cX5_cause 15 = .ok (.iconst 0, 1) := dk_3 (dk_at dksX5_cause_0 15 rfl rfl)
theorem dX5_cause_16 : decode cX5_cause 16 = .ok (.iconst 2, 1) := dk_5 (dk_at dksX5_cause_0 16 rfl rfl)
theorem dX5_cause_17 : decode cX5_cause 17 = .ok (.invokestatic 76, 3) := dk_184 0 76 (dk_at dksX5_cause_0 17 rfl rfl)
theorem dX5_cause_20 : decode cX5_cause 20 = .ok (.ifCond .ne 10, 3) := dk_154 0 10 (dk_at dksX5_cause_0 20 rfl rfl)
theorem dX5_cause_23 : decode cX5_cause 23 = .ok (.aload_n 0, 1) := dk_42 (dk_at dksX5_cause_0 23 rfl rfl)
theorem dX5_cause_24 : decode cX5_cause 24 = .ok (.bipush (-5), 2) := dk_16 251 (dk_at dksX5_cause_1 0 rfl rfl)
theorem dX5_cause_26 : decode cX5_cause 26 = .ok (.invokevirtual 69, 3) := dk_182 0 69 (dk_at dksX5_cause_1 2 rfl rfl)
theorem dX5_cause_29 : decode cX5_cause 29 = .ok (.ireturn, 1) := dk_172 (dk_at dksX5_cause_1 5 rfl rfl)
theorem dX5_cause_30 : decode cX5_cause 30 = .ok (.aload_n 0, 1) := dk_42 (dk_at dksX5_cause_1 6 rfl rfl)
theorem dX5_cause_31 : decode cX5_cause 31 = .ok (.getfield 26, 3) := dk_180 0 26 (dk_at dksX5_cause_1 7 rfl rfl)
theorem dX5_cause_34 : decode cX5_cause 34 = .ok (.iconst 3, 1) := dk_6 (dk_at dksX5_cause_1 10 rfl rfl)
theorem dX5_cause_35 : decode cX5_cause 35 = .ok (.aload_n 0, 1) := dk_42 (dk_at dksX5_cause_1 11 rfl rfl)
theorem dX5_cause_36 : decode cX5_cause 36 = .ok (.getfield 217, 3) := dk_180 0 217 (dk_at dksX5_cause_1 12 rfl rfl)
theorem dX5_cause_39 : decode cX5_cause 39 = .ok (.iconst 1, 1) := dk_4 (dk_at dksX5_cause_1 15 rfl rfl)
theorem dX5_cause_40 : decode cX5_cause 40 = .ok (.isub, 1) := dk_100 (dk_at dksX5_cause_1 16 rfl rfl)
theorem dX5_cause_41 : decode cX5_cause 41 = .ok (.iload_n 1, 1) := dk_27 (dk_at dksX5_cause_1 17 rfl rfl)
theorem dX5_cause_42 : decode cX5_cause 42 = .ok (.isub, 1) := dk_100 (dk_at dksX5_cause_1 18 rfl rfl)
theorem dX5_cause_43 : decode cX5_cause 43 = .ok (.imul, 1) := dk_104 (dk_at dksX5_cause_1 19 rfl rfl)
theorem dX5_cause_44 : decode cX5_cause 44 = .ok (.iload_n 2, 1) := dk_28 (dk_at dksX5_cause_1 20 rfl rfl)
theorem dX5_cause_45 : decode cX5_cause 45 = .ok (.iadd, 1) := dk_96 (dk_at dksX5_cause_1 21 rfl rfl)
theorem dX5_cause_46 : decode cX5_cause 46 = .ok (.iaload, 1) := dk_46 (dk_at dksX5_cause_1 22 rfl rfl)
theorem dX5_cause_47 : decode cX5_cause 47 = .ok (.ireturn, 1) := dk_172 (dk_at dksX5_cause_1 23 rfl rfl)
abbrev cX5_stop : ByteArray := prog_40_method_56_code
def yX5_stop : MethodName := ⟨RX5, "stop", "(I)I"⟩
def dkwX5_stop_1 : List UInt8 := [27, 182, 0, 226, 167, 0, 9, 42, 16, 250, 182, 0, 69, 172]
abbrev dktX5_stop_1 : List UInt8 := dkwX5_stop_1 ++ []
def dkwX5_stop_0 : List UInt8 := [42, 27, 182, 0, 91, 154, 0, 9, 42, 2, 182, 0, 69, 172, 42, 27, 182, 0, 115, 4, 160, 0, 11, 42]
abbrev dktX5_stop_0 : List UInt8 := dkwX5_stop_0 ++ dktX5_stop_1
theorem dksX5_stop_0 : cX5_stop.data.toList.drop 0 = dktX5_stop_0 := by decide +kernel
theorem dksX5_stop_1 : cX5_stop.data.toList.drop 24 = dktX5_stop_1 := dk_seg dksX5_stop_0 24 rfl rfl
theorem dX5_stop_0 : decode cX5_stop 0 = .ok (.aload_n 0, 1) := dk_42 (dk_at dksX5_stop_0 0 rfl rfl)
theorem dX5_stop_1 : decode cX5_stop 1 = .ok (.iload_n 1, 1) := dk_27 (dk_at dksX5_stop_0 1 rfl rfl)
theorem dX5_stop_2 : decode cX5_stop 2 = .ok (.invokevirtual 91, 3) := dk_182 0 91 (dk_at dksX5_stop_0 2 rfl rfl)
theorem dX5_stop_5 : decode cX5_stop 5 = .ok (.ifCond .ne 9, 3) := dk_154 0 9 (dk_at dksX5_stop_0 5 rfl rfl)
theorem dX5_stop_8 : decode cX5_stop 8 = .ok (.aload_n 0, 1) := dk_42 (dk_at dksX5_stop_0 8 rfl rfl)
theorem dX5_stop_9 : decode cX5_stop 9 = .ok (.iconst (-1), 1) := dk_2 (dk_at dksX5_stop_0 9 rfl rfl)
theorem dX5_stop_10 : decode cX5_stop 10 = .ok (.invokevirtual 69, 3) := dk_182 0 69 (dk_at dksX5_stop_0 10 rfl rfl)
theorem dX5_stop_13 : decode cX5_stop 13 = .ok (.ireturn, 1) := dk_172 (dk_at dksX5_stop_0 13 rfl rfl)
theorem dX5_stop_14 : decode cX5_stop 14 = .ok (.aload_n 0, 1) := dk_42 (dk_at dksX5_stop_0 14 rfl rfl)
theorem dX5_stop_15 : decode cX5_stop 15 = .ok (.iload_n 1, 1) := dk_27 (dk_at dksX5_stop_0 15 rfl rfl)
theorem dX5_stop_16 : decode cX5_stop 16 = .ok (.invokevirtual 115, 3) := dk_182 0 115 (dk_at dksX5_stop_0 16 rfl rfl)
theorem dX5_stop_19 : decode cX5_stop 19 = .ok (.iconst 1, 1) := dk_4 (dk_at dksX5_stop_0 19 rfl rfl)
theorem dX5_stop_20 : decode cX5_stop 20 = .ok (.if_icmp .ne 11, 3) := dk_160 0 11 (dk_at dksX5_stop_0 20 rfl rfl)
theorem dX5_stop_23 : decode cX5_stop 23 = .ok (.aload_n 0, 1) := dk_42 (dk_at dksX5_stop_0 23 rfl rfl)
theorem dX5_stop_24 : decode cX5_stop 24 = .ok (.iload_n 1, 1) := dk_27 (dk_at dksX5_stop_1 0 rfl rfl)
theorem dX5_stop_25 : decode cX5_stop 25 = .ok (.invokevirtual 226, 3) := dk_182 0 226 (dk_at dksX5_stop_1 1 rfl rfl)
theorem dX5_stop_28 : decode cX5_stop 28 = .ok (.goto 9, 3) := dk_167 0 9 (dk_at dksX5_stop_1 4 rfl rfl)
theorem dX5_stop_31 : decode cX5_stop 31 = .ok (.aload_n 0, 1) := dk_42 (dk_at dksX5_stop_1 7 rfl rfl)
theorem dX5_stop_32 : decode cX5_stop 32 = .ok (.bipush (-6), 2) := dk_16 250 (dk_at dksX5_stop_1 8 rfl rfl)
theorem dX5_stop_34 : decode cX5_stop 34 = .ok (.invokevirtual 69, 3) := dk_182 0 69 (dk_at dksX5_stop_1 10 rfl rfl)
theorem dX5_stop_37 : decode cX5_stop 37 = .ok (.ireturn, 1) := dk_172 (dk_at dksX5_stop_1 13 rfl rfl)
abbrev cX5_stops : ByteArray := prog_40_method_55_code
def yX5_stops : MethodName := ⟨RX5, "stops", "(I)I"⟩
def dkwX5_stops_4 : List UInt8 := [182, 0, 198, 132, 2, 1, 167, 255, 165, 28, 172]
abbrev dktX5_stops_4 : List UInt8 := dkwX5_stops_4 ++ []
def dkwX5_stops_3 : List UInt8 := [167, 255, 205, 29, 2, 160, 0, 6, 167, 255, 187, 42, 180, 0, 7, 29, 3, 79, 42, 17, 0, 200, 29, 96]
abbrev dktX5_stops_3 : List UInt8 := dkwX5_stops_3 ++ dktX5_stops_4
def dkwX5_stops_2 : List UInt8 := [159, 0, 21, 29, 2, 159, 0, 13, 42, 29, 21, 4, 182, 0, 160, 153, 0, 6, 21, 4, 62, 132, 4, 1]
abbrev dktX5_stops_2 : List UInt8 := dkwX5_stops_2 ++ dktX5_stops_3
def dkwX5_stops_1 : List UInt8 := [180, 0, 73, 162, 0, 48, 42, 21, 4, 182, 0, 115, 4, 160, 0, 32, 42, 180, 0, 38, 21, 4, 46, 2]
abbrev dktX5_stops_1 : List UInt8 := dkwX5_stops_1 ++ dktX5_stops_2
def dkwX5_stops_0 : List UInt8 := [42, 27, 182, 0, 223, 3, 61, 27, 62, 29, 2, 159, 0, 92, 2, 62, 3, 54, 4, 21, 4, 42]
abbrev dktX5_stops_0 : List UInt8 := dkwX5_stops_0 ++ dktX5_stops_1
theorem dksX5_stops_0 : cX5_stops.data.toList.drop 0 = dktX5_stops_0 := by decide +kernel
theorem dksX5_stops_1 : cX5_stops.data.toList.drop 22 = dktX5_stops_1 := dk_seg dksX5_stops_0 22 rfl rfl
theorem dksX5_stops_2 : cX5_stops.data.toList.drop 46 = dktX5_stops_2 := dk_seg dksX5_stops_1 24 rfl rfl
theorem dksX5_stops_3 : cX5_stops.data.toList.drop 70 = dktX5_stops_3 := dk_seg dksX5_stops_2 24 rfl rfl
theorem dksX5_stops_4 : cX5_stops.data.toList.drop 94 = dktX5_stops_4 := dk_seg dksX5_stops_3 24 rfl rfl
theorem dX5_stops_0 : decode cX5_stops 0 = .ok (.aload_n 0, 1) := dk_42 (dk_at dksX5_stops_0 0 rfl rfl)
theorem dX5_stops_1 : decode cX5_stops 1 = .ok (.iload_n 1, 1) := dk_27 (dk_at dksX5_stops_0 1 rfl rfl)
theorem dX5_stops_2 : decode cX5_stops 2 = .ok (.invokevirtual 223, 3) := dk_182 0 223 (dk_at dksX5_stops_0 2 rfl rfl)
theorem dX5_stops_5 : decode cX5_stops 5 = .ok (.iconst 0, 1) := dk_3 (dk_at dksX5_stops_0 5 rfl rfl)
theorem dX5_stops_6 : decode cX5_stops 6 = .ok (.istore_n 2, 1) := dk_61 (dk_at dksX5_stops_0 6 rfl rfl)
theorem dX5_stops_7 : decode cX5_stops 7 = .ok (.iload_n 1, 1) := dk_27 (dk_at dksX5_stops_0 7 rfl rfl)
theorem dX5_stops_8 : decode cX5_stops 8 = .ok (.istore_n 3, 1) := dk_62 (dk_at dksX5_stops_0 8 rfl rfl)
theorem dX5_stops_9 : decode cX5_stops 9 = .ok (.iload_n 3, 1) := dk_29 (dk_at dksX5_stops_0 9 rfl rfl)
theorem dX5_stops_10 : decode cX5_stops 10 = .ok (.iconst (-1), 1) := dk_2 (dk_at dksX5_stops_0 10 rfl rfl)
theorem dX5_stops_11 : decode cX5_stops 11 = .ok (.if_icmp .eq 92, 3) := dk_159 0 92 (dk_at dksX5_stops_0 11 rfl rfl)
theorem dX5_stops_14 : decode cX5_stops 14 = .ok (.iconst (-1), 1) := dk_2 (dk_at dksX5_stops_0 14 rfl rfl)
theorem dX5_stops_15 : decode cX5_stops 15 = .ok (.istore_n 3, 1) := dk_62 (dk_at dksX5_stops_0 15 rfl rfl)
theorem dX5_stops_16 : decode cX5_stops 16 = .ok (.iconst 0, 1) := dk_3 (dk_at dksX5_stops_0 16 rfl rfl)
theorem dX5_stops_17 : decode cX5_stops 17 = .ok (.istore 4, 2) := dk_54 4 (dk_at dksX5_stops_0 17 rfl rfl)
theorem dX5_stops_19 : decode cX5_stops 19 = .ok (.iload 4, 2) := dk_21 4 (dk_at dksX5_stops_0 19 rfl rfl)
theorem dX5_stops_21 : decode cX5_stops 21 = .ok (.aload_n 0, 1) := dk_42 (dk_at dksX5_stops_0 21 rfl rfl)
theorem dX5_stops_22 : decode cX5_stops 22 = .ok (.getfield 73, 3) := dk_180 0 73 (dk_at dksX5_stops_1 0 rfl rfl)
theorem dX5_stops_25 : decode cX5_stops 25 = .ok (.if_icmp .ge 48, 3) := dk_162 0 48 (dk_at dksX5_stops_1 3 rfl rfl)
theorem dX5_stops_28 : decode cX5_stops 28 = .ok (.aload_n 0, 1) := dk_42 (dk_at dksX5_stops_1 6 rfl rfl)
theorem dX5_stops_29 : decode cX5_stops 29 = .ok (.iload 4, 2) := dk_21 4 (dk_at dksX5_stops_1 7 rfl rfl)
theorem dX5_stops_31 : decode cX5_stops 31 = .ok (.invokevirtual 115, 3) := dk_182 0 115 (dk_at dksX5_stops_1 9 rfl rfl)
theorem dX5_stops_34 : decode cX5_stops 34 = .ok (.iconst 1, 1) := dk_4 (dk_at dksX5_stops_1 12 rfl rfl)
theorem dX5_stops_35 : decode cX5_stops 35 = .ok (.if_icmp .ne 32, 3) := dk_160 0 32 (dk_at dksX5_stops_1 13 rfl rfl)
theorem dX5_stops_38 : decode cX5_stops 38 = .ok (.aload_n 0, 1) := dk_42 (dk_at dksX5_stops_1 16 rfl rfl)
theorem dX5_stops_39 : decode cX5_stops 39 = .ok (.getfield 38, 3) := dk_180 0 38 (dk_at dksX5_stops_1 17 rfl rfl)
theorem dX5_stops_42 : decode cX5_stops 42 = .ok (.iload 4, 2) := dk_21 4 (dk_at dksX5_stops_1 20 rfl rfl)
theorem dX5_stops_44 : decode cX5_stops 44 = .ok (.iaload, 1) := dk_46 (dk_at dksX5_stops_1 22 rfl rfl)
theorem dX5_stops_45 : decode cX5_stops 45 = .ok (.iconst (-1), 1) := dk_2 (dk_at dksX5_stops_1 23 rfl rfl)
theorem dX5_stops_46 : decode cX5_stops 46 = .ok (.if_icmp .eq 21, 3) := dk_159 0 21 (dk_at dksX5_stops_2 0 rfl rfl)
theorem dX5_stops_49 : decode cX5_stops 49 = .ok (.iload_n 3, 1) := dk_29 (dk_at dksX5_stops_2 3 rfl rfl)
theorem dX5_stops_50 : decode cX5_stops 50 = .ok (.iconst (-1), 1) := dk_2 (dk_at dksX5_stops_2 4 rfl rfl)
theorem dX5_stops_51 : decode cX5_stops 51 = .ok (.if_icmp .eq 13, 3) := dk_159 0 13 (dk_at dksX5_stops_2 5 rfl rfl)
theorem dX5_stops_54 : decode cX5_stops 54 = .ok (.aload_n 0, 1) := dk_42 (dk_at dksX5_stops_2 8 rfl rfl)
theorem dX5_stops_55 : decode cX5_stops 55 = .ok (.iload_n 3, 1) := dk_29 (dk_at dksX5_stops_2 9 rfl rfl)
theorem dX5_stops_56 : decode cX5_stops 56 = .ok (.iload 4, 2) := dk_21 4 (dk_at dksX5_stops_2 10 rfl rfl)
theorem dX5_stops_58 : decode cX5_stops 58 = .ok (.invokevirtual 160, 3) := dk_182 0 160 (dk_at dksX5_stops_2 12 rfl rfl)
theorem dX5_stops_61 : decode cX5_stops 61 = .ok (.ifCond .eq 6, 3) := dk_153 0 6 (dk_at dksX5_stops_2 15 rfl rfl)
theorem dX5_stops_64 : decode cX5_stops 64 = .ok (.iload 4, 2) := dk_21 4 (dk_at dksX5_stops_2 18 rfl rfl)
theorem dX5_stops_66 : decode cX5_stops 66 = .ok (.istore_n 3, 1) := dk_62 (dk_at dksX5_stops_2 20 rfl rfl)
theorem dX5_stops_67 : decode cX5_stops 67 = .ok (.iinc 4 1, 3) := dk_132 4 1 (dk_at dksX5_stops_2 21 rfl rfl)
theorem dX5_stops_70 : decode cX5_stops 70 = .ok (.goto (-51), 3) := dk_167 255 205 (dk_at dksX5_stops_3 0 rfl rfl)
theorem dX5_stops_73 : decode cX5_stops 73 = .ok (.iload_n 3, 1) := dk_29 (dk_at dksX5_stops_3 3 rfl rfl)
theorem dX5_stops_74 : decode cX5_stops 74 = .ok (.iconst (-1), 1) := dk_2 (dk_at dksX5_stops_3 4 rfl rfl)
theorem dX5_stops_75 : decode cX5_stops 75 = .ok (.if_icmp .ne 6, 3) := dk_160 0 6 (dk_at dksX5_stops_3 5 rfl rfl)
theorem dX5_stops_78 : decode cX5_stops 78 = .ok (.goto (-69), 3) := dk_167 255 187 (dk_at dksX5_stops_3 8 rfl rfl)
theorem dX5_stops_81 : decode cX5_stops 81 = .ok (.aload_n 0, 1) := dk_42 (dk_at dksX5_stops_3 11 rfl rfl)
theorem dX5_stops_82 : decode cX5_stops 82 = .ok (.getfield 7, 3) := dk_180 0 7 (dk_at dksX5_stops_3 12 rfl rfl)
theorem dX5_stops_85 : decode cX5_stops 85 = .ok (.iload_n 3, 1) := dk_29 (dk_at dksX5_stops_3 15 rfl rfl)
theorem dX5_stops_86 : decode cX5_stops 86 = .ok (.iconst 0, 1) := dk_3 (dk_at dksX5_stops_3 16 rfl rfl)
theorem dX5_stops_87 : decode cX5_stops 87 = .ok (.iastore, 1) := dk_79 (dk_at dksX5_stops_3 17 rfl rfl)
theorem dX5_stops_88 : decode cX5_stops 88 = .ok (.aload_n 0, 1) := dk_42 (dk_at dksX5_stops_3 18 rfl rfl)
theorem dX5_stops_89 : decode cX5_stops 89 = .ok (.sipush 200, 3) := dk_17 0 200 (dk_at dksX5_stops_3 19 rfl rfl)
theorem dX5_stops_92 : decode cX5_stops 92 = .ok (.iload_n 3, 1) := dk_29 (dk_at dksX5_stops_3 22 rfl rfl)
theorem dX5_stops_93 : decode cX5_stops 93 = .ok (.iadd, 1) := dk_96 (dk_at dksX5_stops_3 23 rfl rfl)
theorem dX5_stops_94 : decode cX5_stops 94 = .ok (.invokevirtual 198, 3) := dk_182 0 198 (dk_at dksX5_stops_4 0 rfl rfl)
theorem dX5_stops_97 : decode cX5_stops 97 = .ok (.iinc 2 1, 3) := dk_132 2 1 (dk_at dksX5_stops_4 3 rfl rfl)
theorem dX5_stops_100 : decode cX5_stops 100 = .ok (.goto (-91), 3) := dk_167 255 165 (dk_at dksX5_stops_4 6 rfl rfl)
theorem dX5_stops_103 : decode cX5_stops 103 = .ok (.iload_n 2, 1) := dk_28 (dk_at dksX5_stops_4 9 rfl rfl)
theorem dX5_stops_104 : decode cX5_stops 104 = .ok (.ireturn, 1) := dk_172 (dk_at dksX5_stops_4 10 rfl rfl)
abbrev cX5_waves : ByteArray := prog_40_method_54_code
def yX5_waves : MethodName := ⟨RX5, "waves", "(I)V"⟩
def dkwX5_waves_6 : List UInt8 := [167, 0, 4, 3, 61, 132, 3, 1, 167, 255, 141, 177]
abbrev dktX5_waves_6 : List UInt8 := dkwX5_waves_6 ++ []
def dkwX5_waves_5 : List UInt8 := [160, 0, 11, 42, 180, 0, 38, 21, 5, 29, 79, 132, 5, 1, 167, 255, 225, 21, 4, 153, 0, 7, 4]
abbrev dktX5_waves_5 : List UInt8 := dkwX5_waves_5 ++ dktX5_waves_6
def dkwX5_waves_4 : List UInt8 := [167, 255, 205, 3, 54, 5, 21, 5, 42, 180, 0, 73, 162, 0, 28, 21, 4, 21, 5, 122, 4, 126, 4]
abbrev dktX5_waves_4 : List UInt8 := dkwX5_waves_4 ++ dktX5_waves_5
def dkwX5_waves_3 : List UInt8 := [160, 0, 21, 42, 21, 5, 182, 0, 220, 154, 0, 12, 21, 4, 4, 21, 5, 120, 128, 54, 4, 132, 5, 1]
abbrev dktX5_waves_3 : List UInt8 := dkwX5_waves_3 ++ dktX5_waves_4
def dkwX5_waves_2 : List UInt8 := [180, 0, 73, 162, 0, 48, 42, 21, 5, 182, 0, 115, 4, 160, 0, 32, 42, 180, 0, 38, 21, 5, 46, 2]
abbrev dktX5_waves_2 : List UInt8 := dkwX5_waves_2 ++ dktX5_waves_3
def dkwX5_waves_1 : List UInt8 := [180, 0, 38, 27, 3, 79, 4, 61, 4, 62, 28, 153, 0, 117, 3, 54, 4, 3, 54, 5, 21, 5, 42]
abbrev dktX5_waves_1 : List UInt8 := dkwX5_waves_1 ++ dktX5_waves_2
def dkwX5_waves_0 : List UInt8 := [3, 61, 28, 16, 12, 162, 0, 16, 42, 180, 0, 38, 28, 2, 79, 132, 2, 1, 167, 255, 240, 42]
abbrev dktX5_waves_0 : List UInt8 := dkwX5_waves_0 ++ dktX5_waves_1
theorem dksX5_waves_0 : cX5_waves.data.toList.drop 0 = dktX5_waves_0 := by decide +kernel
theorem dksX5_waves_1 : cX5_waves.data.toList.drop 22 = dktX5_waves_1 := dk_seg dksX5_waves_0 22 rfl rfl
theorem dksX5_waves_2 : cX5_waves.data.toList.drop 45 = dktX5_waves_2 := dk_seg dksX5_waves_1 23 rfl rfl
theorem dksX5_waves_3 : cX5_waves.data.toList.drop 69 = dktX5_waves_3 := dk_seg dksX5_waves_2 24 rfl rfl
theorem dksX5_waves_4 : cX5_waves.data.toList.drop 93 = dktX5_waves_4 := dk_seg dksX5_waves_3 24 rfl rfl
theorem dksX5_waves_5 : cX5_waves.data.toList.drop 116 = dktX5_waves_5 := dk_seg dksX5_waves_4 23 rfl rfl
theorem dksX5_waves_6 : cX5_waves.data.toList.drop 139 = dktX5_waves_6 := dk_seg dksX5_waves_5 23 rfl rfl
theorem dX5_waves_0 : decode cX5_waves 0 = .ok (.iconst 0, 1) := dk_3 (dk_at dksX5_waves_0 0 rfl rfl)
theorem dX5_waves_1 : decode cX5_waves 1 = .ok (.istore_n 2, 1) := dk_61 (dk_at dksX5_waves_0 1 rfl rfl)
theorem dX5_waves_2 : decode cX5_waves 2 = .ok (.iload_n 2, 1) := dk_28 (dk_at dksX5_waves_0 2 rfl rfl)
theorem dX5_waves_3 : decode cX5_waves 3 = .ok (.bipush 12, 2) := dk_16 12 (dk_at dksX5_waves_0 3 rfl rfl)
theorem dX5_waves_5 : decode cX5_waves 5 = .ok (.if_icmp .ge 16, 3) := dk_162 0 16 (dk_at dksX5_waves_0 5 rfl rfl)
theorem dX5_waves_8 : decode cX5_waves 8 = .ok (.aload_n 0, 1) := dk_42 (dk_at dksX5_waves_0 8 rfl rfl)
theorem dX5_waves_9 : decode cX5_waves 9 = .ok (.getfield 38, 3) := dk_180 0 38 (dk_at dksX5_waves_0 9 rfl rfl)
theorem dX5_waves_12 : decode cX5_waves 12 = .ok (.iload_n 2, 1) := dk_28 (dk_at dksX5_waves_0 12 rfl rfl)
theorem dX5_waves_13 : decode cX5_waves 13 = .ok (.iconst (-1), 1) := dk_2 (dk_at dksX5_waves_0 13 rfl rfl)
theorem dX5_waves_14 : decode cX5_waves 14 = .ok (.iastore, 1) := dk_79 (dk_at dksX5_waves_0 14 rfl rfl)
theorem dX5_waves_15 : decode cX5_waves 15 = .ok (.iinc 2 1, 3) := dk_132 2 1 (dk_at dksX5_waves_0 15 rfl rfl)
theorem dX5_waves_18 : decode cX5_waves 18 = .ok (.goto (-16), 3) := dk_167 255 240 (dk_at dksX5_waves_0 18 rfl rfl)
theorem dX5_waves_21 : decode cX5_waves 21 = .ok (.aload_n 0, 1) := dk_42 (dk_at dksX5_waves_0 21 rfl rfl)
theorem dX5_waves_22 : decode cX5_waves 22 = .ok (.getfield 38, 3) := dk_180 0 38 (dk_at dksX5_waves_1 0 rfl rfl)
theorem dX5_waves_25 : decode cX5_waves 25 = .ok (.iload_n 1, 1) := dk_27 (dk_at dksX5_waves_1 3 rfl rfl)
theorem dX5_waves_26 : decode cX5_waves 26 = .ok (.iconst 0, 1) := dk_3 (dk_at dksX5_waves_1 4 rfl rfl)
theorem dX5_waves_27 : decode cX5_waves 27 = .ok (.iastore, 1) := dk_79 (dk_at dksX5_waves_1 5 rfl rfl)
theorem dX5_waves_28 : decode cX5_waves 28 = .ok (.iconst 1, 1) := dk_4 (dk_at dksX5_waves_1 6 rfl rfl)
theorem dX5_waves_29 : decode cX5_waves 29 = .ok (.istore_n 2, 1) := dk_61 (dk_at dksX5_waves_1 7 rfl rfl)
theorem dX5_waves_30 : decode cX5_waves 30 = .ok (.iconst 1, 1) := dk_4 (dk_at dksX5_waves_1 8 rfl rfl)
theorem dX5_waves_31 : decode cX5_waves 31 = .ok (.istore_n 3, 1) := dk_62 (dk_at dksX5_waves_1 9 rfl rfl)
theorem dX5_waves_32 : decode cX5_waves 32 = .ok (.iload_n 2, 1) := dk_28 (dk_at dksX5_waves_1 10 rfl rfl)
theorem dX5_waves_33 : decode cX5_waves 33 = .ok (.ifCond .eq 117, 3) := dk_153 0 117 (dk_at dksX5_waves_1 11 rfl rfl)
theorem dX5_waves_36 : decode cX5_waves 36 = .ok (.iconst 0, 1) := dk_3 (dk_at dksX5_waves_1 14 rfl rfl)
theorem dX5_waves_37 : decode cX5_waves 37 = .ok (.istore 4, 2) := dk_54 4 (dk_at dksX5_waves_1 15 rfl rfl)
theorem dX5_waves_39 : decode cX5_waves 39 = .ok (.iconst 0, 1) := dk_3 (dk_at dksX5_waves_1 17 rfl rfl)
theorem dX5_waves_40 : decode cX5_waves 40 = .ok (.istore 5, 2) := dk_54 5 (dk_at dksX5_waves_1 18 rfl rfl)
theorem dX5_waves_42 : decode cX5_waves 42 = .ok (.iload 5, 2) := dk_21 5 (dk_at dksX5_waves_1 20 rfl rfl)
theorem dX5_waves_44 : decode cX5_waves 44 = .ok (.aload_n 0, 1) := dk_42 (dk_at dksX5_waves_1 22 rfl rfl)
theorem dX5_waves_45 : decode cX5_waves 45 = .ok (.getfield 73, 3) := dk_180 0 73 (dk_at dksX5_waves_2 0 rfl rfl)
theorem dX5_waves_48 : decode cX5_waves 48 = .ok (.if_icmp .ge 48, 3) := dk_162 0 48 (dk_at dksX5_waves_2 3 rfl rfl)
theorem dX5_waves_51 : decode cX5_waves 51 = .ok (.aload_n 0, 1) := dk_42 (dk_at dksX5_waves_2 6 rfl rfl)
theorem dX5_waves_52 : decode cX5_waves 52 = .ok (.iload 5, 2) := dk_21 5 (dk_at dksX5_waves_2 7 rfl rfl)
theorem dX5_waves_54 : decode cX5_waves 54 = .ok (.invokevirtual 115, 3) := dk_182 0 115 (dk_at dksX5_waves_2 9 rfl rfl)
theorem dX5_waves_57 : decode cX5_waves 57 = .ok (.iconst 1, 1) := dk_4 (dk_at dksX5_waves_2 12 rfl rfl)
theorem dX5_waves_58 : decode cX5_waves 58 = .ok (.if_icmp .ne 32, 3) := dk_160 0 32 (dk_at dksX5_waves_2 13 rfl rfl)
theorem dX5_waves_61 : decode cX5_waves 61 = .ok (.aload_n 0, 1) := dk_42 (dk_at dksX5_waves_2 16 rfl rfl)
theorem dX5_waves_62 : decode cX5_waves 62 = .ok (.getfield 38, 3) := dk_180 0 38 (dk_at dksX5_waves_2 17 rfl rfl)
theorem dX5_waves_65 : decode cX5_waves 65 = .ok (.iload 5, 2) := dk_21 5 (dk_at dksX5_waves_2 20 rfl rfl)
theorem dX5_waves_67 : decode cX5_waves 67 = .ok (.iaload, 1) := dk_46 (dk_at dksX5_waves_2 22 rfl rfl)
theorem dX5_waves_68 : decode cX5_waves 68 = .ok (.iconst (-1), 1) := dk_2 (dk_at dksX5_waves_2 23 rfl rfl)
theorem dX5_waves_69 : decode cX5_waves 69 = .ok (.if_icmp .ne 21, 3) := dk_160 0 21 (dk_at dksX5_waves_3 0 rfl rfl)
theorem dX5_waves_72 : decode cX5_waves 72 = .ok (.aload_n 0, 1) := dk_42 (dk_at dksX5_waves_3 3 rfl rfl)
theorem dX5_waves_73 : decode cX5_waves 73 = .ok (.iload 5, 2) := dk_21 5 (dk_at dksX5_waves_3 4 rfl rfl)
theorem dX5_waves_75 : decode cX5_waves 75 = .ok (.invokevirtual 220, 3) := dk_182 0 220 (dk_at dksX5_waves_3 6 rfl rfl)
theorem dX5_waves_78 : decode cX5_waves 78 = .ok (.ifCond .ne 12, 3) := dk_154 0 12 (dk_at dksX5_waves_3 9 rfl rfl)
theorem dX5_waves_81 : decode cX5_waves 81 = .ok (.iload 4, 2) := dk_21 4 (dk_at dksX5_waves_3 12 rfl rfl)
theorem dX5_waves_83 : decode cX5_waves 83 = .ok (.iconst 1, 1) := dk_4 (dk_at dksX5_waves_3 14 rfl rfl)
theorem dX5_waves_84 : decode cX5_waves 84 = .ok (.iload 5, 2) := dk_21 5 (dk_at dksX5_waves_3 15 rfl rfl)
theorem dX5_waves_86 : decode cX5_waves 86 = .ok (.ishl, 1) := dk_120 (dk_at dksX5_waves_3 17 rfl rfl)
theorem dX5_waves_87 : decode cX5_waves 87 = .ok (.ior, 1) := dk_128 (dk_at dksX5_waves_3 18 rfl rfl)
theorem dX5_waves_88 : decode cX5_waves 88 = .ok (.istore 4, 2) := dk_54 4 (dk_at dksX5_waves_3 19 rfl rfl)
theorem dX5_waves_90 : decode cX5_waves 90 = .ok (.iinc 5 1, 3) := dk_132 5 1 (dk_at dksX5_waves_3 21 rfl rfl)
theorem dX5_waves_93 : decode cX5_waves 93 = .ok (.goto (-51), 3) := dk_167 255 205 (dk_at dksX5_waves_4 0 rfl rfl)
theorem dX5_waves_96 : decode cX5_waves 96 = .ok (.iconst 0, 1) := dk_3 (dk_at dksX5_waves_4 3 rfl rfl)
theorem dX5_waves_97 : decode cX5_waves 97 = .ok (.istore 5, 2) := dk_54 5 (dk_at dksX5_waves_4 4 rfl rfl)
theorem dX5_waves_99 : decode cX5_waves 99 = .ok (.iload 5, 2) := dk_21 5 (dk_at dksX5_waves_4 6 rfl rfl)
theorem dX5_waves_101 : decode cX5_waves 101 = .ok (.aload_n 0, 1) := dk_42 (dk_at dksX5_waves_4 8 rfl rfl)
theorem dX5_waves_102 : decode cX5_waves 102 = .ok (.getfield 73, 3) := dk_180 0 73 (dk_at dksX5_waves_4 9 rfl rfl)
theorem dX5_waves_105 : decode cX5_waves 105 = .ok (.if_icmp .ge 28, 3) := dk_162 0 28 (dk_at dksX5_waves_4 12 rfl rfl)
theorem dX5_waves_108 : decode cX5_waves 108 = .ok (.iload 4, 2) := dk_21 4 (dk_at dksX5_waves_4 15 rfl rfl)
theorem dX5_waves_110 : decode cX5_waves 110 = .ok (.iload 5, 2) := dk_21 5 (dk_at dksX5_waves_4 17 rfl rfl)
theorem dX5_waves_112 : decode cX5_waves 112 = .ok (.ishr, 1) := dk_122 (dk_at dksX5_waves_4 19 rfl rfl)
theorem dX5_waves_113 : decode cX5_waves 113 = .ok (.iconst 1, 1) := dk_4 (dk_at dksX5_waves_4 20 rfl rfl)
theorem dX5_waves_114 : decode cX5_waves 114 = .ok (.iand, 1) := dk_126 (dk_at dksX5_waves_4 21 rfl rfl)
theorem dX5_waves_115 : decode cX5_waves 115 = .ok (.iconst 1, 1) := dk_4 (dk_at dksX5_waves_4 22 rfl rfl)
theorem dX5_waves_116 : decode cX5_waves 116 = .ok (.if_icmp .ne 11, 3) := dk_160 0 11 (dk_at dksX5_waves_5 0 rfl rfl)
theorem dX5_waves_119 : decode cX5_waves 119 = .ok (.aload_n 0, 1) := dk_42 (dk_at dksX5_waves_5 3 rfl rfl)
theorem dX5_waves_120 : decode cX5_waves 120 = .ok (.getfield 38, 3) := dk_180 0 38 (dk_at dksX5_waves_5 4 rfl rfl)
theorem dX5_waves_123 : decode cX5_waves 123 = .ok (.iload 5, 2) := dk_21 5 (dk_at dksX5_waves_5 7 rfl rfl)
theorem dX5_waves_125 : decode cX5_waves 125 = .ok (.iload_n 3, 1) := dk_29 (dk_at dksX5_waves_5 9 rfl rfl)
theorem dX5_waves_126 : decode cX5_waves 126 = .ok (.iastore, 1) := dk_79 (dk_at dksX5_waves_5 10 rfl rfl)
theorem dX5_waves_127 : decode cX5_waves 127 = .ok (.iinc 5 1, 3) := dk_132 5 1 (dk_at dksX5_waves_5 11 rfl rfl)
theorem dX5_waves_130 : decode cX5_waves 130 = .ok (.goto (-31), 3) := dk_167 255 225 (dk_at dksX5_waves_5 14 rfl rfl)
theorem dX5_waves_133 : decode cX5_waves 133 = .ok (.iload 4, 2) := dk_21 4 (dk_at dksX5_waves_5 17 rfl rfl)
theorem dX5_waves_135 : decode cX5_waves 135 = .ok (.ifCond .eq 7, 3) := dk_153 0 7 (dk_at dksX5_waves_5 19 rfl rfl)
theorem dX5_waves_138 : decode cX5_waves 138 = .ok (.iconst 1, 1) := dk_4 (dk_at dksX5_waves_5 22 rfl rfl)
theorem dX5_waves_139 : decode cX5_waves 139 = .ok (.goto 4, 3) := dk_167 0 4 (dk_at dksX5_waves_6 0 rfl rfl)
theorem dX5_waves_142 : decode cX5_waves 142 = .ok (.iconst 0, 1) := dk_3 (dk_at dksX5_waves_6 3 rfl rfl)
theorem dX5_waves_143 : decode cX5_waves 143 = .ok (.istore_n 2, 1) := dk_61 (dk_at dksX5_waves_6 4 rfl rfl)
theorem dX5_waves_144 : decode cX5_waves 144 = .ok (.iinc 3 1, 3) := dk_132 3 1 (dk_at dksX5_waves_6 5 rfl rfl)
theorem dX5_waves_147 : decode cX5_waves 147 = .ok (.goto (-115), 3) := dk_167 255 141 (dk_at dksX5_waves_6 8 rfl rfl)
theorem dX5_waves_150 : decode cX5_waves 150 = .ok (.return_, 1) := dk_177 (dk_at dksX5_waves_6 11 rfl rfl)
abbrev cX5_isHeld : ByteArray := prog_40_method_53_code
def yX5_isHeld : MethodName := ⟨RX5, "isHeld", "(I)Z"⟩
def dkwX5_isHeld_4 : List UInt8 := [154, 0, 5, 3, 172, 132, 2, 1, 167, 255, 157, 4, 172]
abbrev dktX5_isHeld_4 : List UInt8 := dkwX5_isHeld_4 ++ []
def dkwX5_isHeld_3 : List UInt8 := [42, 21, 4, 27, 182, 0, 160, 153, 0, 7, 4, 167, 0, 4, 3, 62, 132, 4, 1, 167, 255, 193, 29]
abbrev dktX5_isHeld_3 : List UInt8 := dkwX5_isHeld_3 ++ dktX5_isHeld_4
def dkwX5_isHeld_2 : List UInt8 := [160, 0, 38, 42, 180, 0, 38, 21, 4, 46, 2, 160, 0, 27, 42, 21, 4, 28, 182, 0, 157, 153, 0, 17]
abbrev dktX5_isHeld_2 : List UInt8 := dkwX5_isHeld_2 ++ dktX5_isHeld_3
def dkwX5_isHeld_1 : List UInt8 := [54, 4, 21, 4, 42, 180, 0, 73, 162, 0, 60, 29, 154, 0, 56, 42, 21, 4, 182, 0, 115, 4]
abbrev dktX5_isHeld_1 : List UInt8 := dkwX5_isHeld_1 ++ dktX5_isHeld_2
def dkwX5_isHeld_0 : List UInt8 := [3, 61, 28, 16, 8, 162, 0, 99, 42, 27, 28, 182, 0, 166, 154, 0, 7, 4, 167, 0, 4, 3, 62, 3]
abbrev dktX5_isHeld_0 : List UInt8 := dkwX5_isHeld_0 ++ dktX5_isHeld_1
theorem dksX5_isHeld_0 : cX5_isHeld.data.toList.drop 0 = dktX5_isHeld_0 := by decide +kernel
theorem dksX5_isHeld_1 : cX5_isHeld.data.toList.drop 24 = dktX5_isHeld_1 := dk_seg dksX5_isHeld_0 24 rfl rfl
theorem dksX5_isHeld_2 : cX5_isHeld.data.toList.drop 46 = dktX5_isHeld_2 := dk_seg dksX5_isHeld_1 22 rfl rfl
theorem dksX5_isHeld_3 : cX5_isHeld.data.toList.drop 70 = dktX5_isHeld_3 := dk_seg dksX5_isHeld_2 24 rfl rfl
theorem dksX5_isHeld_4 : cX5_isHeld.data.toList.drop 93 = dktX5_isHeld_4 := dk_seg dksX5_isHeld_3 23 rfl rfl
theorem dX5_isHeld_0 : decode cX5_isHeld 0 = .ok (.iconst 0, 1) := dk_3 (dk_at dksX5_isHeld_0 0 rfl rfl)
theorem dX5_isHeld_1 : decode cX5_isHeld 1 = .ok (.istore_n 2, 1) := dk_61 (dk_at dksX5_isHeld_0 1 rfl rfl)
theorem dX5_isHeld_2 : decode cX5_isHeld 2 = .ok (.iload_n 2, 1) := dk_28 (dk_at dksX5_isHeld_0 2 rfl rfl)
theorem dX5_isHeld_3 : decode cX5_isHeld 3 = .ok (.bipush 8, 2) := dk_16 8 (dk_at dksX5_isHeld_0 3 rfl rfl)
theorem dX5_isHeld_5 : decode cX5_isHeld 5 = .ok (.if_icmp .ge 99, 3) := dk_162 0 99 (dk_at dksX5_isHeld_0 5 rfl rfl)
theorem dX5_isHeld_8 : decode cX5_isHeld 8 = .ok (.aload_n 0, 1) := dk_42 (dk_at dksX5_isHeld_0 8 rfl rfl)
theorem dX5_isHeld_9 : decode cX5_isHeld 9 = .ok (.iload_n 1, 1) := dk_27 (dk_at dksX5_isHeld_0 9 rfl rfl)
theorem dX5_isHeld_10 : decode cX5_isHeld 10 = .ok (.iload_n 2, 1) := dk_28 (dk_at dksX5_isHeld_0 10 rfl rfl)
theorem dX5_isHeld_11 : decode cX5_isHeld 11 = .ok (.invokevirtual 166, 3) := dk_182 0 166 (dk_at dksX5_isHeld_0 11 rfl rfl)
theorem dX5_isHeld_14 : decode cX5_isHeld 14 = .ok (.ifCond .ne 7, 3) := dk_154 0 7 (dk_at dksX5_isHeld_0 14 rfl rfl)
theorem dX5_isHeld_17 : decode cX5_isHeld 17 = .ok (.iconst 1, 1) := dk_4 (dk_at dksX5_isHeld_0 17 rfl rfl)
theorem dX5_isHeld_18 : decode cX5_isHeld 18 = .ok (.goto 4, 3) := dk_167 0 4 (dk_at dksX5_isHeld_0 18 rfl rfl)
theorem dX5_isHeld_21 : decode cX5_isHeld 21 = .ok (.iconst 0, 1) := dk_3 (dk_at dksX5_isHeld_0 21 rfl rfl)
theorem dX5_isHeld_22 : decode cX5_isHeld 22 = .ok (.istore_n 3, 1) := dk_62 (dk_at dksX5_isHeld_0 22 rfl rfl)
theorem dX5_isHeld_23 : decode cX5_isHeld 23 = .ok (.iconst 0, 1) := dk_3 (dk_at dksX5_isHeld_0 23 rfl rfl)
theorem dX5_isHeld_24 : decode cX5_isHeld 24 = .ok (.istore 4, 2) := dk_54 4 (dk_at dksX5_isHeld_1 0 rfl rfl)
theorem dX5_isHeld_26 : decode cX5_isHeld 26 = .ok (.iload 4, 2) := dk_21 4 (dk_at dksX5_isHeld_1 2 rfl rfl)
theorem dX5_isHeld_28 : decode cX5_isHeld 28 = .ok (.aload_n 0, 1) := dk_42 (dk_at dksX5_isHeld_1 4 rfl rfl)
theorem dX5_isHeld_29 : decode cX5_isHeld 29 = .ok (.getfield 73, 3) := dk_180 0 73 (dk_at dksX5_isHeld_1 5 rfl rfl)
theorem dX5_isHeld_32 : decode cX5_isHeld 32 = .ok (.if_icmp .ge 60, 3) := dk_162 0 60 (dk_at dksX5_isHeld_1 8 rfl rfl)
theorem dX5_isHeld_35 : decode cX5_isHeld 35 = .ok (.iload_n 3, 1) := dk_29 (dk_at dksX5_isHeld_1 11 rfl rfl)
theorem dX5_isHeld_36 : decode cX5_isHeld 36 = .ok (.ifCond .ne 56, 3) := dk_154 0 56 (dk_at dksX5_isHeld_1 12 rfl rfl)
theorem dX5_isHeld_39 : decode cX5_isHeld 39 = .ok (.aload_n 0, 1) := dk_42 (dk_at dksX5_isHeld_1 15 rfl rfl)
theorem dX5_isHeld_40 : decode cX5_isHeld 40 = .ok (.iload 4, 2) := dk_21 4 (dk_at dksX5_isHeld_1 16 rfl rfl)
theorem dX5_isHeld_42 : decode cX5_isHeld 42 = .ok (.invokevirtual 115, 3) := dk_182 0 115 (dk_at dksX5_isHeld_1 18 rfl rfl)
theorem dX5_isHeld_45 : decode cX5_isHeld 45 = .ok (.iconst 1, 1) := dk_4 (dk_at dksX5_isHeld_1 21 rfl rfl)
theorem dX5_isHeld_46 : decode cX5_isHeld 46 = .ok (.if_icmp .ne 38, 3) := dk_160 0 38 (dk_at dksX5_isHeld_2 0 rfl rfl)
theorem dX5_isHeld_49 : decode cX5_isHeld 49 = .ok (.aload_n 0, 1) := dk_42 (dk_at dksX5_isHeld_2 3 rfl rfl)
theorem dX5_isHeld_50 : decode cX5_isHeld 50 = .ok (.getfield 38, 3) := dk_180 0 38 (dk_at dksX5_isHeld_2 4 rfl rfl)
theorem dX5_isHeld_53 : decode cX5_isHeld 53 = .ok (.iload 4, 2) := dk_21 4 (dk_at dksX5_isHeld_2 7 rfl rfl)
theorem dX5_isHeld_55 : decode cX5_isHeld 55 = .ok (.iaload, 1) := dk_46 (dk_at dksX5_isHeld_2 9 rfl rfl)
theorem dX5_isHeld_56 : decode cX5_isHeld 56 = .ok (.iconst (-1), 1) := dk_2 (dk_at dksX5_isHeld_2 10 rfl rfl)
theorem dX5_isHeld_57 : decode cX5_isHeld 57 = .ok (.if_icmp .ne 27, 3) := dk_160 0 27 (dk_at dksX5_isHeld_2 11 rfl rfl)
theorem dX5_isHeld_60 : decode cX5_isHeld 60 = .ok (.aload_n 0, 1) := dk_42 (dk_at dksX5_isHeld_2 14 rfl rfl)
theorem dX5_isHeld_61 : decode cX5_isHeld 61 = .ok (.iload 4, 2) := dk_21 4 (dk_at dksX5_isHeld_2 15 rfl rfl)
theorem dX5_isHeld_63 : decode cX5_isHeld 63 = .ok (.iload_n 2, 1) := dk_28 (dk_at dksX5_isHeld_2 17 rfl rfl)
theorem dX5_isHeld_64 : decode cX5_isHeld 64 = .ok (.invokevirtual 157, 3) := dk_182 0 157 (dk_at dksX5_isHeld_2 18 rfl rfl)
theorem dX5_isHeld_67 : decode cX5_isHeld 67 = .ok (.ifCond .eq 17, 3) := dk_153 0 17 (dk_at dksX5_isHeld_2 21 rfl rfl)
theorem dX5_isHeld_70 : decode cX5_isHeld 70 = .ok (.aload_n 0, 1) := dk_42 (dk_at dksX5_isHeld_3 0 rfl rfl)
theorem dX5_isHeld_71 : decode cX5_isHeld 71 = .ok (.iload 4, 2) := dk_21 4 (dk_at dksX5_isHeld_3 1 rfl rfl)
theorem dX5_isHeld_73 : decode cX5_isHeld 73 = .ok (.iload_n 1, 1) := dk_27 (dk_at dksX5_isHeld_3 3 rfl rfl)
theorem dX5_isHeld_74 : decode cX5_isHeld 74 = .ok (.invokevirtual 160, 3) := dk_182 0 160 (dk_at dksX5_isHeld_3 4 rfl rfl)
theorem dX5_isHeld_77 : decode cX5_isHeld 77 = .ok (.ifCond .eq 7, 3) := dk_153 0 7 (dk_at dksX5_isHeld_3 7 rfl rfl)
theorem dX5_isHeld_80 : decode cX5_isHeld 80 = .ok (.iconst 1, 1) := dk_4 (dk_at dksX5_isHeld_3 10 rfl rfl)
theorem dX5_isHeld_81 : decode cX5_isHeld 81 = .ok (.goto 4, 3) := dk_167 0 4 (dk_at dksX5_isHeld_3 11 rfl rfl)
theorem dX5_isHeld_84 : decode cX5_isHeld 84 = .ok (.iconst 0, 1) := dk_3 (dk_at dksX5_isHeld_3 14 rfl rfl)
theorem dX5_isHeld_85 : decode cX5_isHeld 85 = .ok (.istore_n 3, 1) := dk_62 (dk_at dksX5_isHeld_3 15 rfl rfl)
theorem dX5_isHeld_86 : decode cX5_isHeld 86 = .ok (.iinc 4 1, 3) := dk_132 4 1 (dk_at dksX5_isHeld_3 16 rfl rfl)
theorem dX5_isHeld_89 : decode cX5_isHeld 89 = .ok (.goto (-63), 3) := dk_167 255 193 (dk_at dksX5_isHeld_3 19 rfl rfl)
theorem dX5_isHeld_92 : decode cX5_isHeld 92 = .ok (.iload_n 3, 1) := dk_29 (dk_at dksX5_isHeld_3 22 rfl rfl)
theorem dX5_isHeld_93 : decode cX5_isHeld 93 = .ok (.ifCond .ne 5, 3) := dk_154 0 5 (dk_at dksX5_isHeld_4 0 rfl rfl)
theorem dX5_isHeld_96 : decode cX5_isHeld 96 = .ok (.iconst 0, 1) := dk_3 (dk_at dksX5_isHeld_4 3 rfl rfl)
theorem dX5_isHeld_97 : decode cX5_isHeld 97 = .ok (.ireturn, 1) := dk_172 (dk_at dksX5_isHeld_4 4 rfl rfl)
theorem dX5_isHeld_98 : decode cX5_isHeld 98 = .ok (.iinc 2 1, 3) := dk_132 2 1 (dk_at dksX5_isHeld_4 5 rfl rfl)
theorem dX5_isHeld_101 : decode cX5_isHeld 101 = .ok (.goto (-99), 3) := dk_167 255 157 (dk_at dksX5_isHeld_4 8 rfl rfl)
theorem dX5_isHeld_104 : decode cX5_isHeld 104 = .ok (.iconst 1, 1) := dk_4 (dk_at dksX5_isHeld_4 11 rfl rfl)
theorem dX5_isHeld_105 : decode cX5_isHeld 105 = .ok (.ireturn, 1) := dk_172 (dk_at dksX5_isHeld_4 12 rfl rfl)
abbrev cX5_wave : ByteArray := prog_40_method_57_code
def yX5_wave : MethodName := ⟨RX5, "wave", "(II)I"⟩
def dkwX5_wave_2 : List UInt8 := [46, 172]
abbrev dktX5_wave_2 : List UInt8 := dkwX5_wave_2 ++ []
def dkwX5_wave_1 : List UInt8 := [182, 0, 115, 4, 159, 0, 10, 42, 16, 250, 182, 0, 154, 172, 42, 27, 182, 0, 223, 42, 180, 0, 38, 28]
abbrev dktX5_wave_1 : List UInt8 := dkwX5_wave_1 ++ dktX5_wave_2
def dkwX5_wave_0 : List UInt8 := [42, 27, 182, 0, 91, 153, 0, 11, 42, 28, 182, 0, 91, 154, 0, 9, 42, 2, 182, 0, 154, 172, 42, 27]
abbrev dktX5_wave_0 : List UInt8 := dkwX5_wave_0 ++ dktX5_wave_1
theorem dksX5_wave_0 : cX5_wave.data.toList.drop 0 = dktX5_wave_0 := by decide +kernel
theorem dksX5_wave_1 : cX5_wave.data.toList.drop 24 = dktX5_wave_1 := dk_seg dksX5_wave_0 24 rfl rfl
theorem dksX5_wave_2 : cX5_wave.data.toList.drop 48 = dktX5_wave_2 := dk_seg dksX5_wave_1 24 rfl rfl
theorem dX5_wave_0 : decode cX5_wave 0 = .ok (.aload_n 0, 1) := dk_42 (dk_at dksX5_wave_0 0 rfl rfl)
theorem dX5_wave_1 : decode cX5_wave 1 = .ok (.iload_n 1, 1) := dk_27 (dk_at dksX5_wave_0 1 rfl rfl)
theorem dX5_wave_2 : decode cX5_wave 2 = .ok (.invokevirtual 91, 3) := dk_182 0 91 (dk_at dksX5_wave_0 2 rfl rfl)
theorem dX5_wave_5 : decode cX5_wave 5 = .ok (.ifCond .eq 11, 3) := dk_153 0 11 (dk_at dksX5_wave_0 5 rfl rfl)
theorem dX5_wave_8 : decode cX5_wave 8 = .ok (.aload_n 0, 1) := dk_42 (dk_at dksX5_wave_0 8 rfl rfl)
theorem dX5_wave_9 : decode cX5_wave 9 = .ok (.iload_n 2, 1) := dk_28 (dk_at dksX5_wave_0 9 rfl rfl)
theorem dX5_wave_10 : decode cX5_wave 10 = .ok (.invokevirtual 91, 3) := dk_182 0 91 (dk_at dksX5_wave_0 10 rfl rfl)
theorem dX5_wave_13 : decode cX5_wave 13 = .ok (.ifCond .ne 9, 3) := dk_154 0 9 (dk_at dksX5_wave_0 13 rfl rfl)
theorem dX5_wave_16 : decode cX5_wave 16 = .ok (.aload_n 0, 1) := dk_42 (dk_at dksX5_wave_0 16 rfl rfl)
theorem dX5_wave_17 : decode cX5_wave 17 = .ok (.iconst (-1), 1) := dk_2 (dk_at dksX5_wave_0 17 rfl rfl)
theorem dX5_wave_18 : decode cX5_wave 18 = .ok (.invokevirtual 154, 3) := dk_182 0 154 (dk_at dksX5_wave_0 18 rfl rfl)
theorem dX5_wave_21 : decode cX5_wave 21 = .ok (.ireturn, 1) := dk_172 (dk_at dksX5_wave_0 21 rfl rfl)
theorem dX5_wave_22 : decode cX5_wave 22 = .ok (.aload_n 0, 1) := dk_42 (dk_at dksX5_wave_0 22 rfl rfl)
theorem dX5_wave_23 : decode cX5_wave 23 = .ok (.iload_n 1, 1) := dk_27 (dk_at dksX5_wave_0 23 rfl rfl)
theorem dX5_wave_24 : decode cX5_wave 24 = .ok (.invokevirtual 115, 3) := dk_182 0 115 (dk_at dksX5_wave_1 0 rfl rfl)
theorem dX5_wave_27 : decode cX5_wave 27 = .ok (.iconst 1, 1) := dk_4 (dk_at dksX5_wave_1 3 rfl rfl)
theorem dX5_wave_28 : decode cX5_wave 28 = .ok (.if_icmp .eq 10, 3) := dk_159 0 10 (dk_at dksX5_wave_1 4 rfl rfl)
theorem dX5_wave_31 : decode cX5_wave 31 = .ok (.aload_n 0, 1) := dk_42 (dk_at dksX5_wave_1 7 rfl rfl)
theorem dX5_wave_32 : decode cX5_wave 32 = .ok (.bipush (-6), 2) := dk_16 250 (dk_at dksX5_wave_1 8 rfl rfl)
theorem dX5_wave_34 : decode cX5_wave 34 = .ok (.invokevirtual 154, 3) := dk_182 0 154 (dk_at dksX5_wave_1 10 rfl rfl)
theorem dX5_wave_37 : decode cX5_wave 37 = .ok (.ireturn, 1) := dk_172 (dk_at dksX5_wave_1 13 rfl rfl)
theorem dX5_wave_38 : decode cX5_wave 38 = .ok (.aload_n 0, 1) := dk_42 (dk_at dksX5_wave_1 14 rfl rfl)
theorem dX5_wave_39 : decode cX5_wave 39 = .ok (.iload_n 1, 1) := dk_27 (dk_at dksX5_wave_1 15 rfl rfl)
theorem dX5_wave_40 : decode cX5_wave 40 = .ok (.invokevirtual 223, 3) := dk_182 0 223 (dk_at dksX5_wave_1 16 rfl rfl)
theorem dX5_wave_43 : decode cX5_wave 43 = .ok (.aload_n 0, 1) := dk_42 (dk_at dksX5_wave_1 19 rfl rfl)
theorem dX5_wave_44 : decode cX5_wave 44 = .ok (.getfield 38, 3) := dk_180 0 38 (dk_at dksX5_wave_1 20 rfl rfl)
theorem dX5_wave_47 : decode cX5_wave 47 = .ok (.iload_n 2, 1) := dk_28 (dk_at dksX5_wave_1 23 rfl rfl)
theorem dX5_wave_48 : decode cX5_wave 48 = .ok (.iaload, 1) := dk_46 (dk_at dksX5_wave_2 0 rfl rfl)
theorem dX5_wave_49 : decode cX5_wave 49 = .ok (.ireturn, 1) := dk_172 (dk_at dksX5_wave_2 1 rfl rfl)
abbrev cX5_mend : ByteArray := prog_40_method_58_code
def yX5_mend : MethodName := ⟨RX5, "mend", "(I)I"⟩
def dkwX5_mend_1 : List UInt8 := [16, 250, 182, 0, 69, 172, 42, 180, 0, 7, 27, 3, 79, 42, 8, 27, 182, 0, 80, 172]
abbrev dktX5_mend_1 : List UInt8 := dkwX5_mend_1 ++ []
def dkwX5_mend_0 : List UInt8 := [42, 27, 182, 0, 91, 154, 0, 9, 42, 2, 182, 0, 69, 172, 42, 27, 182, 0, 115, 5, 159, 0, 10, 42]
abbrev dktX5_mend_0 : List UInt8 := dkwX5_mend_0 ++ dktX5_mend_1
theorem dksX5_mend_0 : cX5_mend.data.toList.drop 0 = dktX5_mend_0 := by decide +kernel
theorem dksX5_mend_1 : cX5_mend.data.toList.drop 24 = dktX5_mend_1 := dk_seg dksX5_mend_0 24 rfl rfl
theorem dX5_mend_0 : decode cX5_mend 0 = .ok (.aload_n 0, 1) := dk_42 (dk_at dksX5_mend_0 0 rfl rfl)
theorem dX5_mend_1 : decode cX5_mend 1 = .ok (.iload_n 1, 1) := dk_27 (dk_at dksX5_mend_0 1 rfl rfl)
theorem dX5_mend_2 : decode cX5_mend 2 = .ok (.invokevirtual 91, 3) := dk_182 0 91 (dk_at dksX5_mend_0 2 rfl rfl)
theorem dX5_mend_5 : decode cX5_mend 5 = .ok (.ifCond .ne 9, 3) := dk_154 0 9 (dk_at dksX5_mend_0 5 rfl rfl)
theorem dX5_mend_8 : decode cX5_mend 8 = .ok (.aload_n 0, 1) := dk_42 (dk_at dksX5_mend_0 8 rfl rfl)
theorem dX5_mend_9 : decode cX5_mend 9 = .ok (.iconst (-1), 1) := dk_2 (dk_at dksX5_mend_0 9 rfl rfl)
theorem dX5_mend_10 : decode cX5_mend 10 = .ok (.invokevirtual 69, 3) := dk_182 0 69 (dk_at dksX5_mend_0 10 rfl rfl)
theorem dX5_mend_13 : decode cX5_mend 13 = .ok (.ireturn, 1) := dk_172 (dk_at dksX5_mend_0 13 rfl rfl)
theorem dX5_mend_14 : decode cX5_mend 14 = .ok (.aload_n 0, 1) := dk_42 (dk_at dksX5_mend_0 14 rfl rfl)
theorem dX5_mend_15 : decode cX5_mend 15 = .ok (.iload_n 1, 1) := dk_27 (dk_at dksX5_mend_0 15 rfl rfl)
theorem dX5_mend_16 : decode cX5_mend 16 = .ok (.invokevirtual 115, 3) := dk_182 0 115 (dk_at dksX5_mend_0 16 rfl rfl)
theorem dX5_mend_19 : decode cX5_mend 19 = .ok (.iconst 2, 1) := dk_5 (dk_at dksX5_mend_0 19 rfl rfl)
theorem dX5_mend_20 : decode cX5_mend 20 = .ok (.if_icmp .eq 10, 3) := dk_159 0 10 (dk_at dksX5_mend_0 20 rfl rfl)
theorem dX5_mend_23 : decode cX5_mend 23 = .ok (.aload_n 0, 1) := dk_42 (dk_at dksX5_mend_0 23 rfl rfl)
theorem dX5_mend_24 : decode cX5_mend 24 = .ok (.bipush (-6), 2) := dk_16 250 (dk_at dksX5_mend_1 0 rfl rfl)
theorem dX5_mend_26 : decode cX5_mend 26 = .ok (.invokevirtual 69, 3) := dk_182 0 69 (dk_at dksX5_mend_1 2 rfl rfl)
theorem dX5_mend_29 : decode cX5_mend 29 = .ok (.ireturn, 1) := dk_172 (dk_at dksX5_mend_1 5 rfl rfl)
theorem dX5_mend_30 : decode cX5_mend 30 = .ok (.aload_n 0, 1) := dk_42 (dk_at dksX5_mend_1 6 rfl rfl)
theorem dX5_mend_31 : decode cX5_mend 31 = .ok (.getfield 7, 3) := dk_180 0 7 (dk_at dksX5_mend_1 7 rfl rfl)
theorem dX5_mend_34 : decode cX5_mend 34 = .ok (.iload_n 1, 1) := dk_27 (dk_at dksX5_mend_1 10 rfl rfl)
theorem dX5_mend_35 : decode cX5_mend 35 = .ok (.iconst 0, 1) := dk_3 (dk_at dksX5_mend_1 11 rfl rfl)
theorem dX5_mend_36 : decode cX5_mend 36 = .ok (.iastore, 1) := dk_79 (dk_at dksX5_mend_1 12 rfl rfl)
theorem dX5_mend_37 : decode cX5_mend 37 = .ok (.aload_n 0, 1) := dk_42 (dk_at dksX5_mend_1 13 rfl rfl)
theorem dX5_mend_38 : decode cX5_mend 38 = .ok (.iconst 5, 1) := dk_8 (dk_at dksX5_mend_1 14 rfl rfl)
theorem dX5_mend_39 : decode cX5_mend 39 = .ok (.iload_n 1, 1) := dk_27 (dk_at dksX5_mend_1 15 rfl rfl)
theorem dX5_mend_40 : decode cX5_mend 40 = .ok (.invokevirtual 80, 3) := dk_182 0 80 (dk_at dksX5_mend_1 16 rfl rfl)
theorem dX5_mend_43 : decode cX5_mend 43 = .ok (.ireturn, 1) := dk_172 (dk_at dksX5_mend_1 19 rfl rfl)
abbrev cX5_remove : ByteArray := prog_40_method_59_code
def yX5_remove : MethodName := ⟨RX5, "remove", "(I)I"⟩
def dkwX5_remove_2 : List UInt8 := [61, 42, 180, 0, 7, 27, 6, 79, 28, 172]
abbrev dktX5_remove_2 : List UInt8 := dkwX5_remove_2 ++ []
def dkwX5_remove_1 : List UInt8 := [16, 250, 182, 0, 69, 172, 42, 27, 182, 0, 115, 4, 160, 0, 11, 42, 27, 182, 0, 226, 167, 0, 4, 3]
abbrev dktX5_remove_1 : List UInt8 := dkwX5_remove_1 ++ dktX5_remove_2
def dkwX5_remove_0 : List UInt8 := [42, 27, 182, 0, 91, 154, 0, 9, 42, 2, 182, 0, 69, 172, 42, 27, 182, 0, 115, 6, 160, 0, 10, 42]
abbrev dktX5_remove_0 : List UInt8 := dkwX5_remove_0 ++ dktX5_remove_1
theorem dksX5_remove_0 : cX5_remove.data.toList.drop 0 = dktX5_remove_0 := by decide +kernel
theorem dksX5_remove_1 : cX5_remove.data.toList.drop 24 = dktX5_remove_1 := dk_seg dksX5_remove_0 24 rfl rfl
theorem dksX5_remove_2 : cX5_remove.data.toList.drop 48 = dktX5_remove_2 := dk_seg dksX5_remove_1 24 rfl rfl
theorem dX5_remove_0 : decode cX5_remove 0 = .ok (.aload_n 0, 1) := dk_42 (dk_at dksX5_remove_0 0 rfl rfl)
theorem dX5_remove_1 : decode cX5_remove 1 = .ok (.iload_n 1, 1) := dk_27 (dk_at dksX5_remove_0 1 rfl rfl)
theorem dX5_remove_2 : decode cX5_remove 2 = .ok (.invokevirtual 91, 3) := dk_182 0 91 (dk_at dksX5_remove_0 2 rfl rfl)
theorem dX5_remove_5 : decode cX5_remove 5 = .ok (.ifCond .ne 9, 3) := dk_154 0 9 (dk_at dksX5_remove_0 5 rfl rfl)
theorem dX5_remove_8 : decode cX5_remove 8 = .ok (.aload_n 0, 1) := dk_42 (dk_at dksX5_remove_0 8 rfl rfl)
theorem dX5_remove_9 : decode cX5_remove 9 = .ok (.iconst (-1), 1) := dk_2 (dk_at dksX5_remove_0 9 rfl rfl)
theorem dX5_remove_10 : decode cX5_remove 10 = .ok (.invokevirtual 69, 3) := dk_182 0 69 (dk_at dksX5_remove_0 10 rfl rfl)
theorem dX5_remove_13 : decode cX5_remove 13 = .ok (.ireturn, 1) := dk_172 (dk_at dksX5_remove_0 13 rfl rfl)
theorem dX5_remove_14 : decode cX5_remove 14 = .ok (.aload_n 0, 1) := dk_42 (dk_at dksX5_remove_0 14 rfl rfl)
theorem dX5_remove_15 : decode cX5_remove 15 = .ok (.iload_n 1, 1) := dk_27 (dk_at dksX5_remove_0 15 rfl rfl)
theorem dX5_remove_16 : decode cX5_remove 16 = .ok (.invokevirtual 115, 3) := dk_182 0 115 (dk_at dksX5_remove_0 16 rfl rfl)
theorem dX5_remove_19 : decode cX5_remove 19 = .ok (.iconst 3, 1) := dk_6 (dk_at dksX5_remove_0 19 rfl rfl)
theorem dX5_remove_20 : decode cX5_remove 20 = .ok (.if_icmp .ne 10, 3) := dk_160 0 10 (dk_at dksX5_remove_0 20 rfl rfl)
theorem dX5_remove_23 : decode cX5_remove 23 = .ok (.aload_n 0, 1) := dk_42 (dk_at dksX5_remove_0 23 rfl rfl)
theorem dX5_remove_24 : decode cX5_remove 24 = .ok (.bipush (-6), 2) := dk_16 250 (dk_at dksX5_remove_1 0 rfl rfl)
theorem dX5_remove_26 : decode cX5_remove 26 = .ok (.invokevirtual 69, 3) := dk_182 0 69 (dk_at dksX5_remove_1 2 rfl rfl)
theorem dX5_remove_29 : decode cX5_remove 29 = .ok (.ireturn, 1) := dk_172 (dk_at dksX5_remove_1 5 rfl rfl)
theorem dX5_remove_30 : decode cX5_remove 30 = .ok (.aload_n 0, 1) := dk_42 (dk_at dksX5_remove_1 6 rfl rfl)
theorem dX5_remove_31 : decode cX5_remove 31 = .ok (.iload_n 1, 1) := dk_27 (dk_at dksX5_remove_1 7 rfl rfl)
theorem dX5_remove_32 : decode cX5_remove 32 = .ok (.invokevirtual 115, 3) := dk_182 0 115 (dk_at dksX5_remove_1 8 rfl rfl)
theorem dX5_remove_35 : decode cX5_remove 35 = .ok (.iconst 1, 1) := dk_4 (dk_at dksX5_remove_1 11 rfl rfl)
theorem dX5_remove_36 : decode cX5_remove 36 = .ok (.if_icmp .ne 11, 3) := dk_160 0 11 (dk_at dksX5_remove_1 12 rfl rfl)
theorem dX5_remove_39 : decode cX5_remove 39 = .ok (.aload_n 0, 1) := dk_42 (dk_at dksX5_remove_1 15 rfl rfl)
theorem dX5_remove_40 : decode cX5_remove 40 = .ok (.iload_n 1, 1) := dk_27 (dk_at dksX5_remove_1 16 rfl rfl)
theorem dX5_remove_41 : decode cX5_remove 41 = .ok (.invokevirtual 226, 3) := dk_182 0 226 (dk_at dksX5_remove_1 17 rfl rfl)
theorem dX5_remove_44 : decode cX5_remove 44 = .ok (.goto 4, 3) := dk_167 0 4 (dk_at dksX5_remove_1 20 rfl rfl)
theorem dX5_remove_47 : decode cX5_remove 47 = .ok (.iconst 0, 1) := dk_3 (dk_at dksX5_remove_1 23 rfl rfl)
theorem dX5_remove_48 : decode cX5_remove 48 = .ok (.istore_n 2, 1) := dk_61 (dk_at dksX5_remove_2 0 rfl rfl)
theorem dX5_remove_49 : decode cX5_remove 49 = .ok (.aload_n 0, 1) := dk_42 (dk_at dksX5_remove_2 1 rfl rfl)
theorem dX5_remove_50 : decode cX5_remove 50 = .ok (.getfield 7, 3) := dk_180 0 7 (dk_at dksX5_remove_2 2 rfl rfl)
theorem dX5_remove_53 : decode cX5_remove 53 = .ok (.iload_n 1, 1) := dk_27 (dk_at dksX5_remove_2 5 rfl rfl)
theorem dX5_remove_54 : decode cX5_remove 54 = .ok (.iconst 3, 1) := dk_6 (dk_at dksX5_remove_2 6 rfl rfl)
theorem dX5_remove_55 : decode cX5_remove 55 = .ok (.iastore, 1) := dk_79 (dk_at dksX5_remove_2 7 rfl rfl)
theorem dX5_remove_56 : decode cX5_remove 56 = .ok (.iload_n 2, 1) := dk_28 (dk_at dksX5_remove_2 8 rfl rfl)
theorem dX5_remove_57 : decode cX5_remove 57 = .ok (.ireturn, 1) := dk_172 (dk_at dksX5_remove_2 9 rfl rfl)
abbrev cX5_would : ByteArray := prog_40_method_60_code
def yX5_would : MethodName := ⟨RX5, "would", "(II)I"⟩
def dkwX5_would_4 : List UInt8 := [184, 0, 76, 153, 0, 12, 42, 180, 0, 32, 28, 46, 167, 0, 4, 2, 172]
abbrev dktX5_would_4 : List UInt8 := dkwX5_would_4 ++ []
def dkwX5_would_3 : List UInt8 := [167, 0, 4, 3, 54, 4, 28, 2, 160, 0, 8, 21, 4, 167, 0, 25, 28, 3, 21, 4, 4, 100]
abbrev dktX5_would_3 : List UInt8 := dkwX5_would_3 ++ dktX5_would_4
def dkwX5_would_2 : List UInt8 := [62, 42, 3, 181, 0, 172, 42, 42, 180, 0, 59, 182, 0, 233, 29, 153, 0, 10, 42, 180, 0, 205]
abbrev dktX5_would_2 : List UInt8 := dkwX5_would_2 ++ dktX5_would_3
def dkwX5_would_1 : List UInt8 := [16, 250, 182, 0, 154, 172, 42, 42, 180, 0, 59, 182, 0, 229, 42, 4, 181, 0, 172, 42, 27, 182, 0, 214]
abbrev dktX5_would_1 : List UInt8 := dkwX5_would_1 ++ dktX5_would_2
def dkwX5_would_0 : List UInt8 := [42, 27, 182, 0, 91, 154, 0, 9, 42, 2, 182, 0, 154, 172, 42, 27, 182, 0, 115, 4, 160, 0, 10, 42]
abbrev dktX5_would_0 : List UInt8 := dkwX5_would_0 ++ dktX5_would_1
theorem dksX5_would_0 : cX5_would.data.toList.drop 0 = dktX5_would_0 := by decide +kernel
theorem dksX5_would_1 : cX5_would.data.toList.drop 24 = dktX5_would_1 := dk_seg dksX5_would_0 24 rfl rfl
theorem dksX5_would_2 : cX5_would.data.toList.drop 48 = dktX5_would_2 := dk_seg dksX5_would_1 24 rfl rfl
theorem dksX5_would_3 : cX5_would.data.toList.drop 70 = dktX5_would_3 := dk_seg dksX5_would_2 22 rfl rfl
theorem dksX5_would_4 : cX5_would.data.toList.drop 92 = dktX5_would_4 := dk_seg dksX5_would_3 22 rfl rfl
theorem dX5_would_0 : decode cX5_would 0 = .ok (.aload_n 0, 1) := dk_42 (dk_at dksX5_would_0 0 rfl rfl)
theorem dX5_would_1 : decode cX5_would 1 = .ok (.iload_n 1, 1) := dk_27 (dk_at dksX5_would_0 1 rfl rfl)
theorem dX5_would_2 : decode cX5_would 2 = .ok (.invokevirtual 91, 3) := dk_182 0 91 (dk_at dksX5_would_0 2 rfl rfl)
theorem dX5_would_5 : decode cX5_would 5 = .ok (.ifCond .ne 9, 3) := dk_154 0 9 (dk_at dksX5_would_0 5 rfl rfl)
theorem dX5_would_8 : decode cX5_would 8 = .ok (.aload_n 0, 1) := dk_42 (dk_at dksX5_would_0 8 rfl rfl)
theorem dX5_would_9 : decode cX5_would 9 = .ok (.iconst (-1), 1) := dk_2 (dk_at dksX5_would_0 9 rfl rfl)
theorem dX5_would_10 : decode cX5_would 10 = .ok (.invokevirtual 154, 3) := dk_182 0 154 (dk_at dksX5_would_0 10 rfl rfl)
theorem dX5_would_13 : decode cX5_would 13 = .ok (.ireturn, 1) := dk_172 (dk_at dksX5_would_0 13 rfl rfl)
theorem dX5_would_14 : decode cX5_would 14 = .ok (.aload_n 0, 1) := dk_42 (dk_at dksX5_would_0 14 rfl rfl)
theorem dX5_would_15 : decode cX5_would 15 = .ok (.iload_n 1, 1) := dk_27 (dk_at dksX5_would_0 15 rfl rfl)
theorem dX5_would_16 : decode cX5_would 16 = .ok (.invokevirtual 115, 3) := dk_182 0 115 (dk_at dksX5_would_0 16 rfl rfl)
theorem dX5_would_19 : decode cX5_would 19 = .ok (.iconst 1, 1) := dk_4 (dk_at dksX5_would_0 19 rfl rfl)
theorem dX5_would_20 : decode cX5_would 20 = .ok (.if_icmp .ne 10, 3) := dk_160 0 10 (dk_at dksX5_would_0 20 rfl rfl)
theorem dX5_would_23 : decode cX5_would 23 = .ok (.aload_n 0, 1) := dk_42 (dk_at dksX5_would_0 23 rfl rfl)
theorem dX5_would_24 : decode cX5_would 24 = .ok (.bipush (-6), 2) := dk_16 250 (dk_at dksX5_would_1 0 rfl rfl)
theorem dX5_would_26 : decode cX5_would 26 = .ok (.invokevirtual 154, 3) := dk_182 0 154 (dk_at dksX5_would_1 2 rfl rfl)
theorem dX5_would_29 : decode cX5_would 29 = .ok (.ireturn, 1) := dk_172 (dk_at dksX5_would_1 5 rfl rfl)
theorem dX5_would_30 : decode cX5_would 30 = .ok (.aload_n 0, 1) := dk_42 (dk_at dksX5_would_1 6 rfl rfl)
theorem dX5_would_31 : decode cX5_would 31 = .ok (.aload_n 0, 1) := dk_42 (dk_at dksX5_would_1 7 rfl rfl)
theorem dX5_would_32 : decode cX5_would 32 = .ok (.getfield 59, 3) := dk_180 0 59 (dk_at dksX5_would_1 8 rfl rfl)
theorem dX5_would_35 : decode cX5_would 35 = .ok (.invokevirtual 229, 3) := dk_182 0 229 (dk_at dksX5_would_1 11 rfl rfl)
theorem dX5_would_38 : decode cX5_would 38 = .ok (.aload_n 0, 1) := dk_42 (dk_at dksX5_would_1 14 rfl rfl)
theorem dX5_would_39 : decode cX5_would 39 = .ok (.iconst 1, 1) := dk_4 (dk_at dksX5_would_1 15 rfl rfl)
theorem dX5_would_40 : decode cX5_would 40 = .ok (.putfield 172, 3) := dk_181 0 172 (dk_at dksX5_would_1 16 rfl rfl)
theorem dX5_would_43 : decode cX5_would 43 = .ok (.aload_n 0, 1) := dk_42 (dk_at dksX5_would_1 19 rfl rfl)
theorem dX5_would_44 : decode cX5_would 44 = .ok (.iload_n 1, 1) := dk_27 (dk_at dksX5_would_1 20 rfl rfl)
theorem dX5_would_45 : decode cX5_would 45 = .ok (.invokevirtual 214, 3) := dk_182 0 214 (dk_at dksX5_would_1 21 rfl rfl)
theorem dX5_would_48 : decode cX5_would 48 = .ok (.istore_n 3, 1) := dk_62 (dk_at dksX5_would_2 0 rfl rfl)
theorem dX5_would_49 : decode cX5_would 49 = .ok (.aload_n 0, 1) := dk_42 (dk_at dksX5_would_2 1 rfl rfl)
theorem dX5_would_50 : decode cX5_would 50 = .ok (.iconst 0, 1) := dk_3 (dk_at dksX5_would_2 2 rfl rfl)
theorem dX5_would_51 : decode cX5_would 51 = .ok (.putfield 172, 3) := dk_181 0 172 (dk_at dksX5_would_2 3 rfl rfl)
theorem dX5_would_54 : decode cX5_would 54 = .ok (.aload_n 0, 1) := dk_42 (dk_at dksX5_would_2 6 rfl rfl)
theorem dX5_would_55 : decode cX5_would 55 = .ok (.aload_n 0, 1) := dk_42 (dk_at dksX5_would_2 7 rfl rfl)
theorem dX5_would_56 : decode cX5_would 56 = .ok (.getfield 59, 3) := dk_180 0 59 (dk_at dksX5_would_2 8 rfl rfl)
theorem dX5_would_59 : decode cX5_would 59 = .ok (.invokevirtual 233, 3) := dk_182 0 233 (dk_at dksX5_would_2 11 rfl rfl)
theorem dX5_would_62 : decode cX5_would 62 = .ok (.iload_n 3, 1) := dk_29 (dk_at dksX5_would_2 14 rfl rfl)
theorem dX5_would_63 : decode cX5_would 63 = .ok (.ifCond .eq 10, 3) := dk_153 0 10 (dk_at dksX5_would_2 15 rfl rfl)
theorem dX5_would_66 : decode cX5_would 66 = .ok (.aload_n 0, 1) := dk_42 (dk_at dksX5_would_2 18 rfl rfl)
theorem dX5_would_67 : decode cX5_would 67 = .ok (.getfield 205, 3) := dk_180 0 205 (dk_at dksX5_would_2 19 rfl rfl)
theorem dX5_would_70 : decode cX5_would 70 = .ok (.goto 4, 3) := dk_167 0 4 (dk_at dksX5_would_3 0 rfl rfl)
theorem dX5_would_73 : decode cX5_would 73 = .ok (.iconst 0, 1) := dk_3 (dk_at dksX5_would_3 3 rfl rfl)
theorem dX5_would_74 : decode cX5_would 74 = .ok (.istore 4, 2) := dk_54 4 (dk_at dksX5_would_3 4 rfl rfl)
theorem dX5_would_76 : decode cX5_would 76 = .ok (.iload_n 2, 1) := dk_28 (dk_at dksX5_would_3 6 rfl rfl)
theorem dX5_would_77 : decode cX5_would 77 = .ok (.iconst (-1), 1) := dk_2 (dk_at dksX5_would_3 7 rfl rfl)
theorem dX5_would_78 : decode cX5_would 78 = .ok (.if_icmp .ne 8, 3) := dk_160 0 8 (dk_at dksX5_would_3 8 rfl rfl)
theorem dX5_would_81 : decode cX5_would 81 = .ok (.iload 4, 2) := dk_21 4 (dk_at dksX5_would_3 11 rfl rfl)
theorem dX5_would_83 : decode cX5_would 83 = .ok (.goto 25, 3) := dk_167 0 25 (dk_at dksX5_would_3 13 rfl rfl)
theorem dX5_would_86 : decode cX5_would 86 = .ok (.iload_n 2, 1) := dk_28 (dk_at dksX5_would_3 16 rfl rfl)
theorem dX5_would_87 : decode cX5_would 87 = .ok (.iconst 0, 1) := dk_3 (dk_at dksX5_would_3 17 rfl rfl)
theorem dX5_would_88 : decode cX5_would 88 = .ok (.iload 4, 2) := dk_21 4 (dk_at dksX5_would_3 18 rfl rfl)
theorem dX5_would_90 : decode cX5_would 90 = .ok (.iconst 1, 1) := dk_4 (dk_at dksX5_would_3 20 rfl rfl)
theorem dX5_would_91 : decode cX5_would 91 = .ok (.isub, 1) := dk_100 (dk_at dksX5_would_3 21 rfl rfl)
theorem dX5_would_92 : decode cX5_would 92 = .ok (.invokestatic 76, 3) := dk_184 0 76 (dk_at dksX5_would_4 0 rfl rfl)
theorem dX5_would_95 : decode cX5_would 95 = .ok (.ifCond .eq 12, 3) := dk_153 0 12 (dk_at dksX5_would_4 3 rfl rfl)
theorem dX5_would_98 : decode cX5_would 98 = .ok (.aload_n 0, 1) := dk_42 (dk_at dksX5_would_4 6 rfl rfl)
theorem dX5_would_99 : decode cX5_would 99 = .ok (.getfield 32, 3) := dk_180 0 32 (dk_at dksX5_would_4 7 rfl rfl)
theorem dX5_would_102 : decode cX5_would 102 = .ok (.iload_n 2, 1) := dk_28 (dk_at dksX5_would_4 10 rfl rfl)
theorem dX5_would_103 : decode cX5_would 103 = .ok (.iaload, 1) := dk_46 (dk_at dksX5_would_4 11 rfl rfl)
theorem dX5_would_104 : decode cX5_would 104 = .ok (.goto 4, 3) := dk_167 0 4 (dk_at dksX5_would_4 12 rfl rfl)
theorem dX5_would_107 : decode cX5_would 107 = .ok (.iconst (-1), 1) := dk_2 (dk_at dksX5_would_4 15 rfl rfl)
theorem dX5_would_108 : decode cX5_would 108 = .ok (.ireturn, 1) := dk_172 (dk_at dksX5_would_4 16 rfl rfl)
abbrev cX5_keep : ByteArray := prog_40_method_86_code
def yX5_keep : MethodName := ⟨RX5, "keep", "([I)V"⟩
def dkwX5_keep_3 : List UInt8 := [17, 0, 230, 42, 180, 0, 202, 79, 43, 17, 0, 231, 42, 180, 0, 62, 79, 177]
abbrev dktX5_keep_3 : List UInt8 := dkwX5_keep_3 ++ []
def dkwX5_keep_2 : List UInt8 := [167, 255, 235, 43, 17, 0, 228, 42, 180, 0, 73, 79, 43, 17, 0, 229, 42, 180, 0, 239, 79, 43]
abbrev dktX5_keep_2 : List UInt8 := dkwX5_keep_2 ++ dktX5_keep_3
def dkwX5_keep_1 : List UInt8 := [61, 28, 16, 120, 162, 0, 21, 43, 16, 108, 28, 96, 42, 180, 0, 13, 28, 46, 79, 132, 2, 1]
abbrev dktX5_keep_1 : List UInt8 := dkwX5_keep_1 ++ dktX5_keep_2
def dkwX5_keep_0 : List UInt8 := [3, 61, 28, 16, 108, 162, 0, 18, 43, 28, 42, 180, 0, 7, 28, 46, 79, 132, 2, 1, 167, 255, 238, 3]
abbrev dktX5_keep_0 : List UInt8 := dkwX5_keep_0 ++ dktX5_keep_1
theorem dksX5_keep_0 : cX5_keep.data.toList.drop 0 = dktX5_keep_0 := by decide +kernel
theorem dksX5_keep_1 : cX5_keep.data.toList.drop 24 = dktX5_keep_1 := dk_seg dksX5_keep_0 24 rfl rfl
theorem dksX5_keep_2 : cX5_keep.data.toList.drop 46 = dktX5_keep_2 := dk_seg dksX5_keep_1 22 rfl rfl
theorem dksX5_keep_3 : cX5_keep.data.toList.drop 68 = dktX5_keep_3 := dk_seg dksX5_keep_2 22 rfl rfl
theorem dX5_keep_0 : decode cX5_keep 0 = .ok (.iconst 0, 1) := dk_3 (dk_at dksX5_keep_0 0 rfl rfl)
theorem dX5_keep_1 : decode cX5_keep 1 = .ok (.istore_n 2, 1) := dk_61 (dk_at dksX5_keep_0 1 rfl rfl)
theorem dX5_keep_2 : decode cX5_keep 2 = .ok (.iload_n 2, 1) := dk_28 (dk_at dksX5_keep_0 2 rfl rfl)
theorem dX5_keep_3 : decode cX5_keep 3 = .ok (.bipush 108, 2) := dk_16 108 (dk_at dksX5_keep_0 3 rfl rfl)
theorem dX5_keep_5 : decode cX5_keep 5 = .ok (.if_icmp .ge 18, 3) := dk_162 0 18 (dk_at dksX5_keep_0 5 rfl rfl)
theorem dX5_keep_8 : decode cX5_keep 8 = .ok (.aload_n 1, 1) := dk_43 (dk_at dksX5_keep_0 8 rfl rfl)
theorem dX5_keep_9 : decode cX5_keep 9 = .ok (.iload_n 2, 1) := dk_28 (dk_at dksX5_keep_0 9 rfl rfl)
theorem dX5_keep_10 : decode cX5_keep 10 = .ok (.aload_n 0, 1) := dk_42 (dk_at dksX5_keep_0 10 rfl rfl)
theorem dX5_keep_11 : decode cX5_keep 11 = .ok (.getfield 7, 3) := dk_180 0 7 (dk_at dksX5_keep_0 11 rfl rfl)
theorem dX5_keep_14 : decode cX5_keep 14 = .ok (.iload_n 2, 1) := dk_28 (dk_at dksX5_keep_0 14 rfl rfl)
theorem dX5_keep_15 : decode cX5_keep 15 = .ok (.iaload, 1) := dk_46 (dk_at dksX5_keep_0 15 rfl rfl)
theorem dX5_keep_16 : decode cX5_keep 16 = .ok (.iastore, 1) := dk_79 (dk_at dksX5_keep_0 16 rfl rfl)
theorem dX5_keep_17 : decode cX5_keep 17 = .ok (.iinc 2 1, 3) := dk_132 2 1 (dk_at dksX5_keep_0 17 rfl rfl)
theorem dX5_keep_20 : decode cX5_keep 20 = .ok (.goto (-18), 3) := dk_167 255 238 (dk_at dksX5_keep_0 20 rfl rfl)
theorem dX5_keep_23 : decode cX5_keep 23 = .ok (.iconst 0, 1) := dk_3 (dk_at dksX5_keep_0 23 rfl rfl)
theorem dX5_keep_24 : decode cX5_keep 24 = .ok (.istore_n 2, 1) := dk_61 (dk_at dksX5_keep_1 0 rfl rfl)
theorem dX5_keep_25 : decode cX5_keep 25 = .ok (.iload_n 2, 1) := dk_28 (dk_at dksX5_keep_1 1 rfl rfl)
theorem dX5_keep_26 : decode cX5_keep 26 = .ok (.bipush 120, 2) := dk_16 120 (dk_at dksX5_keep_1 2 rfl rfl)
theorem dX5_keep_28 : decode cX5_keep 28 = .ok (.if_icmp .ge 21, 3) := dk_162 0 21 (dk_at dksX5_keep_1 4 rfl rfl)
theorem dX5_keep_31 : decode cX5_keep 31 = .ok (.aload_n 1, 1) := dk_43 (dk_at dksX5_keep_1 7 rfl rfl)
theorem dX5_keep_32 : decode cX5_keep 32 = .ok (.bipush 108, 2) := dk_16 108 (dk_at dksX5_keep_1 8 rfl rfl)
theorem dX5_keep_34 : decode cX5_keep 34 = .ok (.iload_n 2, 1) := dk_28 (dk_at dksX5_keep_1 10 rfl rfl)
theorem dX5_keep_35 : decode cX5_keep 35 = .ok (.iadd, 1) := dk_96 (dk_at dksX5_keep_1 11 rfl rfl)
theorem dX5_keep_36 : decode cX5_keep 36 = .ok (.aload_n 0, 1) := dk_42 (dk_at dksX5_keep_1 12 rfl rfl)
theorem dX5_keep_37 : decode cX5_keep 37 = .ok (.getfield 13, 3) := dk_180 0 13 (dk_at dksX5_keep_1 13 rfl rfl)
theorem dX5_keep_40 : decode cX5_keep 40 = .ok (.iload_n 2, 1) := dk_28 (dk_at dksX5_keep_1 16 rfl rfl)
theorem dX5_keep_41 : decode cX5_keep 41 = .ok (.iaload, 1) := dk_46 (dk_at dksX5_keep_1 17 rfl rfl)
theorem dX5_keep_42 : decode cX5_keep 42 = .ok (.iastore, 1) := dk_79 (dk_at dksX5_keep_1 18 rfl rfl)
theorem dX5_keep_43 : decode cX5_keep 43 = .ok (.iinc 2 1, 3) := dk_132 2 1 (dk_at dksX5_keep_1 19 rfl rfl)
theorem dX5_keep_46 : decode cX5_keep 46 = .ok (.goto (-21), 3) := dk_167 255 235 (dk_at dksX5_keep_2 0 rfl rfl)
theorem dX5_keep_49 : decode cX5_keep 49 = .ok (.aload_n 1, 1) := dk_43 (dk_at dksX5_keep_2 3 rfl rfl)
theorem dX5_keep_50 : decode cX5_keep 50 = .ok (.sipush 228, 3) := dk_17 0 228 (dk_at dksX5_keep_2 4 rfl rfl)
theorem dX5_keep_53 : decode cX5_keep 53 = .ok (.aload_n 0, 1) := dk_42 (dk_at dksX5_keep_2 7 rfl rfl)
theorem dX5_keep_54 : decode cX5_keep 54 = .ok (.getfield 73, 3) := dk_180 0 73 (dk_at dksX5_keep_2 8 rfl rfl)
theorem dX5_keep_57 : decode cX5_keep 57 = .ok (.iastore, 1) := dk_79 (dk_at dksX5_keep_2 11 rfl rfl)
theorem dX5_keep_58 : decode cX5_keep 58 = .ok (.aload_n 1, 1) := dk_43 (dk_at dksX5_keep_2 12 rfl rfl)
theorem dX5_keep_59 : decode cX5_keep 59 = .ok (.sipush 229, 3) := dk_17 0 229 (dk_at dksX5_keep_2 13 rfl rfl)
theorem dX5_keep_62 : decode cX5_keep 62 = .ok (.aload_n 0, 1) := dk_42 (dk_at dksX5_keep_2 16 rfl rfl)
theorem dX5_keep_63 : decode cX5_keep 63 = .ok (.getfield 239, 3) := dk_180 0 239 (dk_at dksX5_keep_2 17 rfl rfl)
theorem dX5_keep_66 : decode cX5_keep 66 = .ok (.iastore, 1) := dk_79 (dk_at dksX5_keep_2 20 rfl rfl)
theorem dX5_keep_67 : decode cX5_keep 67 = .ok (.aload_n 1, 1) := dk_43 (dk_at dksX5_keep_2 21 rfl rfl)
theorem dX5_keep_68 : decode cX5_keep 68 = .ok (.sipush 230, 3) := dk_17 0 230 (dk_at dksX5_keep_3 0 rfl rfl)
theorem dX5_keep_71 : decode cX5_keep 71 = .ok (.aload_n 0, 1) := dk_42 (dk_at dksX5_keep_3 3 rfl rfl)
theorem dX5_keep_72 : decode cX5_keep 72 = .ok (.getfield 202, 3) := dk_180 0 202 (dk_at dksX5_keep_3 4 rfl rfl)
theorem dX5_keep_75 : decode cX5_keep 75 = .ok (.iastore, 1) := dk_79 (dk_at dksX5_keep_3 7 rfl rfl)
theorem dX5_keep_76 : decode cX5_keep 76 = .ok (.aload_n 1, 1) := dk_43 (dk_at dksX5_keep_3 8 rfl rfl)
theorem dX5_keep_77 : decode cX5_keep 77 = .ok (.sipush 231, 3) := dk_17 0 231 (dk_at dksX5_keep_3 9 rfl rfl)
theorem dX5_keep_80 : decode cX5_keep 80 = .ok (.aload_n 0, 1) := dk_42 (dk_at dksX5_keep_3 12 rfl rfl)
theorem dX5_keep_81 : decode cX5_keep 81 = .ok (.getfield 62, 3) := dk_180 0 62 (dk_at dksX5_keep_3 13 rfl rfl)
theorem dX5_keep_84 : decode cX5_keep 84 = .ok (.iastore, 1) := dk_79 (dk_at dksX5_keep_3 16 rfl rfl)
theorem dX5_keep_85 : decode cX5_keep 85 = .ok (.return_, 1) := dk_177 (dk_at dksX5_keep_3 17 rfl rfl)
abbrev cX5_again : ByteArray := prog_40_method_87_code
def yX5_again : MethodName := ⟨RX5, "again", "([I)V"⟩
def dkwX5_again_3 : List UInt8 := [17, 0, 230, 46, 181, 0, 202, 42, 43, 17, 0, 231, 46, 181, 0, 62, 177]
abbrev dktX5_again_3 : List UInt8 := dkwX5_again_3 ++ []
def dkwX5_again_2 : List UInt8 := [167, 255, 235, 42, 43, 17, 0, 228, 46, 181, 0, 73, 42, 43, 17, 0, 229, 46, 181, 0, 239, 42, 43]
abbrev dktX5_again_2 : List UInt8 := dkwX5_again_2 ++ dktX5_again_3
def dkwX5_again_1 : List UInt8 := [61, 28, 16, 120, 162, 0, 21, 42, 180, 0, 13, 28, 43, 16, 108, 28, 96, 46, 79, 132, 2, 1]
abbrev dktX5_again_1 : List UInt8 := dkwX5_again_1 ++ dktX5_again_2
def dkwX5_again_0 : List UInt8 := [3, 61, 28, 16, 108, 162, 0, 18, 42, 180, 0, 7, 28, 43, 28, 46, 79, 132, 2, 1, 167, 255, 238, 3]
abbrev dktX5_again_0 : List UInt8 := dkwX5_again_0 ++ dktX5_again_1
theorem dksX5_again_0 : cX5_again.data.toList.drop 0 = dktX5_again_0 := by decide +kernel
theorem dksX5_again_1 : cX5_again.data.toList.drop 24 = dktX5_again_1 := dk_seg dksX5_again_0 24 rfl rfl
theorem dksX5_again_2 : cX5_again.data.toList.drop 46 = dktX5_again_2 := dk_seg dksX5_again_1 22 rfl rfl
theorem dksX5_again_3 : cX5_again.data.toList.drop 69 = dktX5_again_3 := dk_seg dksX5_again_2 23 rfl rfl
theorem dX5_again_0 : decode cX5_again 0 = .ok (.iconst 0, 1) := dk_3 (dk_at dksX5_again_0 0 rfl rfl)
theorem dX5_again_1 : decode cX5_again 1 = .ok (.istore_n 2, 1) := dk_61 (dk_at dksX5_again_0 1 rfl rfl)
theorem dX5_again_2 : decode cX5_again 2 = .ok (.iload_n 2, 1) := dk_28 (dk_at dksX5_again_0 2 rfl rfl)
theorem dX5_again_3 : decode cX5_again 3 = .ok (.bipush 108, 2) := dk_16 108 (dk_at dksX5_again_0 3 rfl rfl)
theorem dX5_again_5 : decode cX5_again 5 = .ok (.if_icmp .ge 18, 3) := dk_162 0 18 (dk_at dksX5_again_0 5 rfl rfl)
theorem dX5_again_8 : decode cX5_again 8 = .ok (.aload_n 0, 1) := dk_42 (dk_at dksX5_again_0 8 rfl rfl)
theorem dX5_again_9 : decode cX5_again 9 = .ok (.getfield 7, 3) := dk_180 0 7 (dk_at dksX5_again_0 9 rfl rfl)
theorem dX5_again_12 : decode cX5_again 12 = .ok (.iload_n 2, 1) := dk_28 (dk_at dksX5_again_0 12 rfl rfl)
theorem dX5_again_13 : decode cX5_again 13 = .ok (.aload_n 1, 1) := dk_43 (dk_at dksX5_again_0 13 rfl rfl)
theorem dX5_again_14 : decode cX5_again 14 = .ok (.iload_n 2, 1) := dk_28 (dk_at dksX5_again_0 14 rfl rfl)
theorem dX5_again_15 : decode cX5_again 15 = .ok (.iaload, 1) := dk_46 (dk_at dksX5_again_0 15 rfl rfl)
theorem dX5_again_16 : decode cX5_again 16 = .ok (.iastore, 1) := dk_79 (dk_at dksX5_again_0 16 rfl rfl)
theorem dX5_again_17 : decode cX5_again 17 = .ok (.iinc 2 1, 3) := dk_132 2 1 (dk_at dksX5_again_0 17 rfl rfl)
theorem dX5_again_20 : decode cX5_again 20 = .ok (.goto (-18), 3) := dk_167 255 238 (dk_at dksX5_again_0 20 rfl rfl)
theorem dX5_again_23 : decode cX5_again 23 = .ok (.iconst 0, 1) := dk_3 (dk_at dksX5_again_0 23 rfl rfl)
theorem dX5_again_24 : decode cX5_again 24 = .ok (.istore_n 2, 1) := dk_61 (dk_at dksX5_again_1 0 rfl rfl)
theorem dX5_again_25 : decode cX5_again 25 = .ok (.iload_n 2, 1) := dk_28 (dk_at dksX5_again_1 1 rfl rfl)
theorem dX5_again_26 : decode cX5_again 26 = .ok (.bipush 120, 2) := dk_16 120 (dk_at dksX5_again_1 2 rfl rfl)
theorem dX5_again_28 : decode cX5_again 28 = .ok (.if_icmp .ge 21, 3) := dk_162 0 21 (dk_at dksX5_again_1 4 rfl rfl)
theorem dX5_again_31 : decode cX5_again 31 = .ok (.aload_n 0, 1) := dk_42 (dk_at dksX5_again_1 7 rfl rfl)
theorem dX5_again_32 : decode cX5_again 32 = .ok (.getfield 13, 3) := dk_180 0 13 (dk_at dksX5_again_1 8 rfl rfl)
theorem dX5_again_35 : decode cX5_again 35 = .ok (.iload_n 2, 1) := dk_28 (dk_at dksX5_again_1 11 rfl rfl)
theorem dX5_again_36 : decode cX5_again 36 = .ok (.aload_n 1, 1) := dk_43 (dk_at dksX5_again_1 12 rfl rfl)
theorem dX5_again_37 : decode cX5_again 37 = .ok (.bipush 108, 2) := dk_16 108 (dk_at dksX5_again_1 13 rfl rfl)
theorem dX5_again_39 : decode cX5_again 39 = .ok (.iload_n 2, 1) := dk_28 (dk_at dksX5_again_1 15 rfl rfl)
theorem dX5_again_40 : decode cX5_again 40 = .ok (.iadd, 1) := dk_96 (dk_at dksX5_again_1 16 rfl rfl)
theorem dX5_again_41 : decode cX5_again 41 = .ok (.iaload, 1) := dk_46 (dk_at dksX5_again_1 17 rfl rfl)
theorem dX5_again_42 : decode cX5_again 42 = .ok (.iastore, 1) := dk_79 (dk_at dksX5_again_1 18 rfl rfl)
theorem dX5_again_43 : decode cX5_again 43 = .ok (.iinc 2 1, 3) := dk_132 2 1 (dk_at dksX5_again_1 19 rfl rfl)
theorem dX5_again_46 : decode cX5_again 46 = .ok (.goto (-21), 3) := dk_167 255 235 (dk_at dksX5_again_2 0 rfl rfl)
theorem dX5_again_49 : decode cX5_again 49 = .ok (.aload_n 0, 1) := dk_42 (dk_at dksX5_again_2 3 rfl rfl)
theorem dX5_again_50 : decode cX5_again 50 = .ok (.aload_n 1, 1) := dk_43 (dk_at dksX5_again_2 4 rfl rfl)
theorem dX5_again_51 : decode cX5_again 51 = .ok (.sipush 228, 3) := dk_17 0 228 (dk_at dksX5_again_2 5 rfl rfl)
theorem dX5_again_54 : decode cX5_again 54 = .ok (.iaload, 1) := dk_46 (dk_at dksX5_again_2 8 rfl rfl)
theorem dX5_again_55 : decode cX5_again 55 = .ok (.putfield 73, 3) := dk_181 0 73 (dk_at dksX5_again_2 9 rfl rfl)
theorem dX5_again_58 : decode cX5_again 58 = .ok (.aload_n 0, 1) := dk_42 (dk_at dksX5_again_2 12 rfl rfl)
theorem dX5_again_59 : decode cX5_again 59 = .ok (.aload_n 1, 1) := dk_43 (dk_at dksX5_again_2 13 rfl rfl)
theorem dX5_again_60 : decode cX5_again 60 = .ok (.sipush 229, 3) := dk_17 0 229 (dk_at dksX5_again_2 14 rfl rfl)
theorem dX5_again_63 : decode cX5_again 63 = .ok (.iaload, 1) := dk_46 (dk_at dksX5_again_2 17 rfl rfl)
theorem dX5_again_64 : decode cX5_again 64 = .ok (.putfield 239, 3) := dk_181 0 239 (dk_at dksX5_again_2 18 rfl rfl)
theorem dX5_again_67 : decode cX5_again 67 = .ok (.aload_n 0, 1) := dk_42 (dk_at dksX5_again_2 21 rfl rfl)
theorem dX5_again_68 : decode cX5_again 68 = .ok (.aload_n 1, 1) := dk_43 (dk_at dksX5_again_2 22 rfl rfl)
theorem dX5_again_69 : decode cX5_again 69 = .ok (.sipush 230, 3) := dk_17 0 230 (dk_at dksX5_again_3 0 rfl rfl)
theorem dX5_again_72 : decode cX5_again 72 = .ok (.iaload, 1) := dk_46 (dk_at dksX5_again_3 3 rfl rfl)
theorem dX5_again_73 : decode cX5_again 73 = .ok (.putfield 202, 3) := dk_181 0 202 (dk_at dksX5_again_3 4 rfl rfl)
theorem dX5_again_76 : decode cX5_again 76 = .ok (.aload_n 0, 1) := dk_42 (dk_at dksX5_again_3 7 rfl rfl)
theorem dX5_again_77 : decode cX5_again 77 = .ok (.aload_n 1, 1) := dk_43 (dk_at dksX5_again_3 8 rfl rfl)
theorem dX5_again_78 : decode cX5_again 78 = .ok (.sipush 231, 3) := dk_17 0 231 (dk_at dksX5_again_3 9 rfl rfl)
theorem dX5_again_81 : decode cX5_again 81 = .ok (.iaload, 1) := dk_46 (dk_at dksX5_again_3 12 rfl rfl)
theorem dX5_again_82 : decode cX5_again 82 = .ok (.putfield 62, 3) := dk_181 0 62 (dk_at dksX5_again_3 13 rfl rfl)
theorem dX5_again_85 : decode cX5_again 85 = .ok (.return_, 1) := dk_177 (dk_at dksX5_again_3 16 rfl rfl)
abbrev cX5_running : ByteArray := prog_40_method_61_code
def yX5_running : MethodName := ⟨RX5, "running", "(I)I"⟩
def dkwX5_running_3 : List UInt8 := [172, 132, 2, 1, 167, 255, 183, 2, 172]
abbrev dktX5_running_3 : List UInt8 := dkwX5_running_3 ++ []
def dkwX5_running_2 : List UInt8 := [21, 4, 28, 182, 0, 160, 153, 0, 6, 132, 3, 1, 132, 4, 1, 167, 255, 221, 29, 27, 160, 0, 5, 28]
abbrev dktX5_running_2 : List UInt8 := dkwX5_running_2 ++ dktX5_running_3
def dkwX5_running_1 : List UInt8 := [3, 54, 4, 21, 4, 42, 180, 0, 73, 162, 0, 32, 42, 21, 4, 182, 0, 115, 4, 160, 0, 16, 42]
abbrev dktX5_running_1 : List UInt8 := dkwX5_running_1 ++ dktX5_running_2
def dkwX5_running_0 : List UInt8 := [3, 61, 28, 42, 180, 0, 73, 162, 0, 71, 42, 28, 182, 0, 115, 4, 159, 0, 6, 167, 0, 53, 3, 62]
abbrev dktX5_running_0 : List UInt8 := dkwX5_running_0 ++ dktX5_running_1
theorem dksX5_running_0 : cX5_running.data.toList.drop 0 = dktX5_running_0 := by decide +kernel
theorem dksX5_running_1 : cX5_running.data.toList.drop 24 = dktX5_running_1 := dk_seg dksX5_running_0 24 rfl rfl
theorem dksX5_running_2 : cX5_running.data.toList.drop 47 = dktX5_running_2 := dk_seg dksX5_running_1 23 rfl rfl
theorem dksX5_running_3 : cX5_running.data.toList.drop 71 = dktX5_running_3 := dk_seg dksX5_running_2 24 rfl rfl
theorem dX5_running_0 : decode cX5_running 0 = .ok (.iconst 0, 1) := dk_3 (dk_at dksX5_running_0 0 rfl rfl)
theorem dX5_running_1 : decode cX5_running 1 = .ok (.istore_n 2, 1) := dk_61 (dk_at dksX5_running_0 1 rfl rfl)
theorem dX5_running_2 : decode cX5_running 2 = .ok (.iload_n 2, 1) := dk_28 (dk_at dksX5_running_0 2 rfl rfl)
theorem dX5_running_3 : decode cX5_running 3 = .ok (.aload_n 0, 1) := dk_42 (dk_at dksX5_running_0 3 rfl rfl)
theorem dX5_running_4 : decode cX5_running 4 = .ok (.getfield 73, 3) := dk_180 0 73 (dk_at dksX5_running_0 4 rfl rfl)
theorem dX5_running_7 : decode cX5_running 7 = .ok (.if_icmp .ge 71, 3) := dk_162 0 71 (dk_at dksX5_running_0 7 rfl rfl)
theorem dX5_running_10 : decode cX5_running 10 = .ok (.aload_n 0, 1) := dk_42 (dk_at dksX5_running_0 10 rfl rfl)
theorem dX5_running_11 : decode cX5_running 11 = .ok (.iload_n 2, 1) := dk_28 (dk_at dksX5_running_0 11 rfl rfl)
theorem dX5_running_12 : decode cX5_running 12 = .ok (.invokevirtual 115, 3) := dk_182 0 115 (dk_at dksX5_running_0 12 rfl rfl)
theorem dX5_running_15 : decode cX5_running 15 = .ok (.iconst 1, 1) := dk_4 (dk_at dksX5_running_0 15 rfl rfl)
theorem dX5_running_16 : decode cX5_running 16 = .ok (.if_icmp .eq 6, 3) := dk_159 0 6 (dk_at dksX5_running_0 16 rfl rfl)
theorem dX5_running_19 : decode cX5_running 19 = .ok (.goto 53, 3) := dk_167 0 53 (dk_at dksX5_running_0 19 rfl rfl)
theorem dX5_running_22 : decode cX5_running 22 = .ok (.iconst 0, 1) := dk_3 (dk_at dksX5_running_0 22 rfl rfl)
theorem dX5_running_23 : decode cX5_running 23 = .ok (.istore_n 3, 1) := dk_62 (dk_at dksX5_running_0 23 rfl rfl)
theorem dX5_running_24 : decode cX5_running 24 = .ok (.iconst 0, 1) := dk_3 (dk_at dksX5_running_1 0 rfl rfl)
theorem dX5_running_25 : decode cX5_running 25 = .ok (.istore 4, 2) := dk_54 4 (dk_at dksX5_running_1 1 rfl rfl)
theorem dX5_running_27 : decode cX5_running 27 = .ok (.iload 4, 2) := dk_21 4 (dk_at dksX5_running_1 3 rfl rfl)
theorem dX5_running_29 : decode cX5_running 29 = .ok (.aload_n 0, 1) := dk_42 (dk_at dksX5_running_1 5 rfl rfl)
theorem dX5_running_30 : decode cX5_running 30 = .ok (.getfield 73, 3) := dk_180 0 73 (dk_at dksX5_running_1 6 rfl rfl)
theorem dX5_running_33 : decode cX5_running 33 = .ok (.if_icmp .ge 32, 3) := dk_162 0 32 (dk_at dksX5_running_1 9 rfl rfl)
theorem dX5_running_36 : decode cX5_running 36 = .ok (.aload_n 0, 1) := dk_42 (dk_at dksX5_running_1 12 rfl rfl)
theorem dX5_running_37 : decode cX5_running 37 = .ok (.iload 4, 2) := dk_21 4 (dk_at dksX5_running_1 13 rfl rfl)
theorem dX5_running_39 : decode cX5_running 39 = .ok (.invokevirtual 115, 3) := dk_182 0 115 (dk_at dksX5_running_1 15 rfl rfl)
theorem dX5_running_42 : decode cX5_running 42 = .ok (.iconst 1, 1) := dk_4 (dk_at dksX5_running_1 18 rfl rfl)
theorem dX5_running_43 : decode cX5_running 43 = .ok (.if_icmp .ne 16, 3) := dk_160 0 16 (dk_at dksX5_running_1 19 rfl rfl)
theorem dX5_running_46 : decode cX5_running 46 = .ok (.aload_n 0, 1) := dk_42 (dk_at dksX5_running_1 22 rfl rfl)
theorem dX5_running_47 : decode cX5_running 47 = .ok (.iload 4, 2) := dk_21 4 (dk_at dksX5_running_2 0 rfl rfl)
theorem dX5_running_49 : decode cX5_running 49 = .ok (.iload_n 2, 1) := dk_28 (dk_at dksX5_running_2 2 rfl rfl)
theorem dX5_running_50 : decode cX5_running 50 = .ok (.invokevirtual 160, 3) := dk_182 0 160 (dk_at dksX5_running_2 3 rfl rfl)
theorem dX5_running_53 : decode cX5_running 53 = .ok (.ifCond .eq 6, 3) := dk_153 0 6 (dk_at dksX5_running_2 6 rfl rfl)
theorem dX5_running_56 : decode cX5_running 56 = .ok (.iinc 3 1, 3) := dk_132 3 1 (dk_at dksX5_running_2 9 rfl rfl)
theorem dX5_running_59 : decode cX5_running 59 = .ok (.iinc 4 1, 3) := dk_132 4 1 (dk_at dksX5_running_2 12 rfl rfl)
theorem dX5_running_62 : decode cX5_running 62 = .ok (.goto (-35), 3) := dk_167 255 221 (dk_at dksX5_running_2 15 rfl rfl)
theorem dX5_running_65 : decode cX5_running 65 = .ok (.iload_n 3, 1) := dk_29 (dk_at dksX5_running_2 18 rfl rfl)
theorem dX5_running_66 : decode cX5_running 66 = .ok (.iload_n 1, 1) := dk_27 (dk_at dksX5_running_2 19 rfl rfl)
theorem dX5_running_67 : decode cX5_running 67 = .ok (.if_icmp .ne 5, 3) := dk_160 0 5 (dk_at dksX5_running_2 20 rfl rfl)
theorem dX5_running_70 : decode cX5_running 70 = .ok (.iload_n 2, 1) := dk_28 (dk_at dksX5_running_2 23 rfl rfl)
theorem dX5_running_71 : decode cX5_running 71 = .ok (.ireturn, 1) := dk_172 (dk_at dksX5_running_3 0 rfl rfl)
theorem dX5_running_72 : decode cX5_running 72 = .ok (.iinc 2 1, 3) := dk_132 2 1 (dk_at dksX5_running_3 1 rfl rfl)
theorem dX5_running_75 : decode cX5_running 75 = .ok (.goto (-73), 3) := dk_167 255 183 (dk_at dksX5_running_3 4 rfl rfl)
theorem dX5_running_78 : decode cX5_running 78 = .ok (.iconst (-1), 1) := dk_2 (dk_at dksX5_running_3 7 rfl rfl)
theorem dX5_running_79 : decode cX5_running 79 = .ok (.ireturn, 1) := dk_172 (dk_at dksX5_running_3 8 rfl rfl)
abbrev cX5_offered : ByteArray := prog_40_method_62_code
def yX5_offered : MethodName := ⟨RX5, "offered", "(I)I"⟩
def dkwX5_offered_2 : List UInt8 := [120, 128, 61, 132, 3, 1, 167, 255, 221, 28, 172]
abbrev dktX5_offered_2 : List UInt8 := dkwX5_offered_2 ++ []
def dkwX5_offered_1 : List UInt8 := [162, 0, 33, 42, 29, 182, 0, 115, 4, 160, 0, 18, 42, 29, 27, 182, 0, 157, 153, 0, 9, 28, 4, 29]
abbrev dktX5_offered_1 : List UInt8 := dkwX5_offered_1 ++ dktX5_offered_2
def dkwX5_offered_0 : List UInt8 := [27, 184, 0, 163, 154, 0, 9, 42, 2, 182, 0, 69, 172, 3, 61, 3, 62, 29, 42, 180, 0, 73]
abbrev dktX5_offered_0 : List UInt8 := dkwX5_offered_0 ++ dktX5_offered_1
theorem dksX5_offered_0 : cX5_offered.data.toList.drop 0 = dktX5_offered_0 := by decide +kernel
theorem dksX5_offered_1 : cX5_offered.data.toList.drop 22 = dktX5_offered_1 := dk_seg dksX5_offered_0 22 rfl rfl
theorem dksX5_offered_2 : cX5_offered.data.toList.drop 46 = dktX5_offered_2 := dk_seg dksX5_offered_1 24 rfl rfl
theorem dX5_offered_0 : decode cX5_offered 0 = .ok (.iload_n 1, 1) := dk_27 (dk_at dksX5_offered_0 0 rfl rfl)
theorem dX5_offered_1 : decode cX5_offered 1 = .ok (.invokestatic 163, 3) := dk_184 0 163 (dk_at dksX5_offered_0 1 rfl rfl)
theorem dX5_offered_4 : decode cX5_offered 4 = .ok (.ifCond .ne 9, 3) := dk_154 0 9 (dk_at dksX5_offered_0 4 rfl rfl)
theorem dX5_offered_7 : decode cX5_offered 7 = .ok (.aload_n 0, 1) := dk_42 (dk_at dksX5_offered_0 7 rfl rfl)
theorem dX5_offered_8 : decode cX5_offered 8 = .ok (.iconst (-1), 1) := dk_2 (dk_at dksX5_offered_0 8 rfl rfl)
theorem dX5_offered_9 : decode cX5_offered 9 = .ok (.invokevirtual 69, 3) := dk_182 0 69 (dk_at dksX5_offered_0 9 rfl rfl)
theorem dX5_offered_12 : decode cX5_offered 12 = .ok (.ireturn, 1) := dk_172 (dk_at dksX5_offered_0 12 rfl rfl)
theorem dX5_offered_13 : decode cX5_offered 13 = .ok (.iconst 0, 1) := dk_3 (dk_at dksX5_offered_0 13 rfl rfl)
theorem dX5_offered_14 : decode cX5_offered 14 = .ok (.istore_n 2, 1) := dk_61 (dk_at dksX5_offered_0 14 rfl rfl)
theorem dX5_offered_15 : decode cX5_offered 15 = .ok (.iconst 0, 1) := dk_3 (dk_at dksX5_offered_0 15 rfl rfl)
theorem dX5_offered_16 : decode cX5_offered 16 = .ok (.istore_n 3, 1) := dk_62 (dk_at dksX5_offered_0 16 rfl rfl)
theorem dX5_offered_17 : decode cX5_offered 17 = .ok (.iload_n 3, 1) := dk_29 (dk_at dksX5_offered_0 17 rfl rfl)
theorem dX5_offered_18 : decode cX5_offered 18 = .ok (.aload_n 0, 1) := dk_42 (dk_at dksX5_offered_0 18 rfl rfl)
theorem dX5_offered_19 : decode cX5_offered 19 = .ok (.getfield 73, 3) := dk_180 0 73 (dk_at dksX5_offered_0 19 rfl rfl)
theorem dX5_offered_22 : decode cX5_offered 22 = .ok (.if_icmp .ge 33, 3) := dk_162 0 33 (dk_at dksX5_offered_1 0 rfl rfl)
theorem dX5_offered_25 : decode cX5_offered 25 = .ok (.aload_n 0, 1) := dk_42 (dk_at dksX5_offered_1 3 rfl rfl)
theorem dX5_offered_26 : decode cX5_offered 26 = .ok (.iload_n 3, 1) := dk_29 (dk_at dksX5_offered_1 4 rfl rfl)
theorem dX5_offered_27 : decode cX5_offered 27 = .ok (.invokevirtual 115, 3) := dk_182 0 115 (dk_at dksX5_offered_1 5 rfl rfl)
theorem dX5_offered_30 : decode cX5_offered 30 = .ok (.iconst 1, 1) := dk_4 (dk_at dksX5_offered_1 8 rfl rfl)
theorem dX5_offered_31 : decode cX5_offered 31 = .ok (.if_icmp .ne 18, 3) := dk_160 0 18 (dk_at dksX5_offered_1 9 rfl rfl)
theorem dX5_offered_34 : decode cX5_offered 34 = .ok (.aload_n 0, 1) := dk_42 (dk_at dksX5_offered_1 12 rfl rfl)
theorem dX5_offered_35 : decode cX5_offered 35 = .ok (.iload_n 3, 1) := dk_29 (dk_at dksX5_offered_1 13 rfl rfl)
theorem dX5_offered_36 : decode cX5_offered 36 = .ok (.iload_n 1, 1) := dk_27 (dk_at dksX5_offered_1 14 rfl rfl)
theorem dX5_offered_37 : decode cX5_offered 37 = .ok (.invokevirtual 157, 3) := dk_182 0 157 (dk_at dksX5_offered_1 15 rfl rfl)
theorem dX5_offered_40 : decode cX5_offered 40 = .ok (.ifCond .eq 9, 3) := dk_153 0 9 (dk_at dksX5_offered_1 18 rfl rfl)
theorem dX5_offered_43 : decode cX5_offered 43 = .ok (.iload_n 2, 1) := dk_28 (dk_at dksX5_offered_1 21 rfl rfl)
theorem dX5_offered_44 : decode cX5_offered 44 = .ok (.iconst 1, 1) := dk_4 (dk_at dksX5_offered_1 22 rfl rfl)
theorem dX5_offered_45 : decode cX5_offered 45 = .ok (.iload_n 3, 1) := dk_29 (dk_at dksX5_offered_1 23 rfl rfl)
theorem dX5_offered_46 : decode cX5_offered 46 = .ok (.ishl, 1) := dk_120 (dk_at dksX5_offered_2 0 rfl rfl)
theorem dX5_offered_47 : decode cX5_offered 47 = .ok (.ior, 1) := dk_128 (dk_at dksX5_offered_2 1 rfl rfl)
theorem dX5_offered_48 : decode cX5_offered 48 = .ok (.istore_n 2, 1) := dk_61 (dk_at dksX5_offered_2 2 rfl rfl)
theorem dX5_offered_49 : decode cX5_offered 49 = .ok (.iinc 3 1, 3) := dk_132 3 1 (dk_at dksX5_offered_2 3 rfl rfl)
theorem dX5_offered_52 : decode cX5_offered 52 = .ok (.goto (-35), 3) := dk_167 255 221 (dk_at dksX5_offered_2 6 rfl rfl)
theorem dX5_offered_55 : decode cX5_offered 55 = .ok (.iload_n 2, 1) := dk_28 (dk_at dksX5_offered_2 9 rfl rfl)
theorem dX5_offered_56 : decode cX5_offered 56 = .ok (.ireturn, 1) := dk_172 (dk_at dksX5_offered_2 10 rfl rfl)
abbrev cX5_hook : ByteArray := prog_40_method_64_code
def yX5_hook : MethodName := ⟨RX5, "hook", "(IIIII)I"⟩
def dkwX5_hook_7 : List UInt8 := [172]
abbrev dktX5_hook_7 : List UInt8 := dkwX5_hook_7 ++ []
def dkwX5_hook_6 : List UInt8 := [180, 0, 13, 16, 96, 42, 180, 0, 239, 96, 21, 5, 79, 42, 89, 180, 0, 239, 90, 4, 96, 181, 0, 239]
abbrev dktX5_hook_6 : List UInt8 := dkwX5_hook_6 ++ dktX5_hook_7
def dkwX5_hook_5 : List UInt8 := [42, 180, 0, 239, 96, 29, 79, 42, 180, 0, 13, 16, 72, 42, 180, 0, 239, 96, 21, 4, 79, 42]
abbrev dktX5_hook_5 : List UInt8 := dkwX5_hook_5 ++ dktX5_hook_6
def dkwX5_hook_4 : List UInt8 := [180, 0, 239, 27, 79, 42, 180, 0, 13, 16, 24, 42, 180, 0, 239, 96, 28, 79, 42, 180, 0, 13, 16, 48]
abbrev dktX5_hook_4 : List UInt8 := dkwX5_hook_4 ++ dktX5_hook_5
def dkwX5_hook_3 : List UInt8 := [172, 42, 180, 0, 239, 16, 24, 160, 0, 10, 42, 16, 249, 182, 0, 69, 172, 42, 180, 0, 13, 42]
abbrev dktX5_hook_3 : List UInt8 := dkwX5_hook_3 ++ dktX5_hook_4
def dkwX5_hook_2 : List UInt8 := [184, 0, 76, 153, 0, 15, 21, 5, 16, 157, 16, 99, 184, 0, 76, 154, 0, 10, 42, 16, 250, 182, 0, 69]
abbrev dktX5_hook_2 : List UInt8 := dkwX5_hook_2 ++ dktX5_hook_3
def dkwX5_hook_1 : List UInt8 := [42, 2, 182, 0, 69, 172, 29, 16, 247, 16, 9, 184, 0, 76, 153, 0, 26, 21, 4, 3, 16, 8]
abbrev dktX5_hook_1 : List UInt8 := dkwX5_hook_1 ++ dktX5_hook_2
def dkwX5_hook_0 : List UInt8 := [42, 27, 182, 0, 91, 153, 0, 19, 42, 27, 182, 0, 115, 6, 159, 0, 10, 28, 184, 0, 236, 154, 0, 9]
abbrev dktX5_hook_0 : List UInt8 := dkwX5_hook_0 ++ dktX5_hook_1
theorem dksX5_hook_0 : cX5_hook.data.toList.drop 0 = dktX5_hook_0 := by decide +kernel
theorem dksX5_hook_1 : cX5_hook.data.toList.drop 24 = dktX5_hook_1 := dk_seg dksX5_hook_0 24 rfl rfl
theorem dksX5_hook_2 : cX5_hook.data.toList.drop 46 = dktX5_hook_2 := dk_seg dksX5_hook_1 22 rfl rfl
theorem dksX5_hook_3 : cX5_hook.data.toList.drop 70 = dktX5_hook_3 := dk_seg dksX5_hook_2 24 rfl rfl
theorem dksX5_hook_4 : cX5_hook.data.toList.drop 92 = dktX5_hook_4 := dk_seg dksX5_hook_3 22 rfl rfl
theorem dksX5_hook_5 : cX5_hook.data.toList.drop 116 = dktX5_hook_5 := dk_seg dksX5_hook_4 24 rfl rfl
theorem dksX5_hook_6 : cX5_hook.data.toList.drop 138 = dktX5_hook_6 := dk_seg dksX5_hook_5 22 rfl rfl
theorem dksX5_hook_7 : cX5_hook.data.toList.drop 162 = dktX5_hook_7 := dk_seg dksX5_hook_6 24 rfl rfl
theorem dX5_hook_0 : decode cX5_hook 0 = .ok (.aload_n 0, 1) := dk_42 (dk_at dksX5_hook_0 0 rfl rfl)
theorem dX5_hook_1 : decode cX5_hook 1 = .ok (.iload_n 1, 1) := dk_27 (dk_at dksX5_hook_0 1 rfl rfl)
theorem dX5_hook_2 : decode cX5_hook 2 = .ok (.invokevirtual 91, 3) := dk_182 0 91 (dk_at dksX5_hook_0 2 rfl rfl)
theorem dX5_hook_5 : decode cX5_hook 5 = .ok (.ifCond .eq 19, 3) := dk_153 0 19 (dk_at dksX5_hook_0 5 rfl rfl)
theorem dX5_hook_8 : decode cX5_hook 8 = .ok (.aload_n 0, 1) := dk_42 (dk_at dksX5_hook_0 8 rfl rfl)
theorem dX5_hook_9 : decode cX5_hook 9 = .ok (.iload_n 1, 1) := dk_27 (dk_at dksX5_hook_0 9 rfl rfl)
theorem dX5_hook_10 : decode cX5_hook 10 = .ok (.invokevirtual 115, 3) := dk_182 0 115 (dk_at dksX5_hook_0 10 rfl rfl)
theorem dX5_hook_13 : decode cX5_hook 13 = .ok (.iconst 3, 1) := dk_6 (dk_at dksX5_hook_0 13 rfl rfl)
theorem dX5_hook_14 : decode cX5_hook 14 = .ok (.if_icmp .eq 10, 3) := dk_159 0 10 (dk_at dksX5_hook_0 14 rfl rfl)
theorem dX5_hook_17 : decode cX5_hook 17 = .ok (.iload_n 2, 1) := dk_28 (dk_at dksX5_hook_0 17 rfl rfl)
theorem dX5_hook_18 : decode cX5_hook 18 = .ok (.invokestatic 236, 3) := dk_184 0 236 (dk_at dksX5_hook_0 18 rfl rfl)
theorem dX5_hook_21 : decode cX5_hook 21 = .ok (.ifCond .ne 9, 3) := dk_154 0 9 (dk_at dksX5_hook_0 21 rfl rfl)
theorem dX5_hook_24 : decode cX5_hook 24 = .ok (.aload_n 0, 1) := dk_42 (dk_at dksX5_hook_1 0 rfl rfl)
theorem dX5_hook_25 : decode cX5_hook 25 = .ok (.iconst (-1), 1) := dk_2 (dk_at dksX5_hook_1 1 rfl rfl)
theorem dX5_hook_26 : decode cX5_hook 26 = .ok (.invokevirtual 69, 3) := dk_182 0 69 (dk_at dksX5_hook_1 2 rfl rfl)
theorem dX5_hook_29 : decode cX5_hook 29 = .ok (.ireturn, 1) := dk_172 (dk_at dksX5_hook_1 5 rfl rfl)
theorem dX5_hook_30 : decode cX5_hook 30 = .ok (.iload_n 3, 1) := dk_29 (dk_at dksX5_hook_1 6 rfl rfl)
theorem dX5_hook_31 : decode cX5_hook 31 = .ok (.bipush (-9), 2) := dk_16 247 (dk_at dksX5_hook_1 7 rfl rfl)
theorem dX5_hook_33 : decode cX5_hook 33 = .ok (.bipush 9, 2) := dk_16 9 (dk_at dksX5_hook_1 9 rfl rfl)
theorem dX5_hook_35 : decode cX5_hook 35 = .ok (.invokestatic 76, 3) := dk_184 0 76 (dk_at dksX5_hook_1 11 rfl rfl)
theorem dX5_hook_38 : decode cX5_hook 38 = .ok (.ifCond .eq 26, 3) := dk_153 0 26 (dk_at dksX5_hook_1 14 rfl rfl)
theorem dX5_hook_41 : decode cX5_hook 41 = .ok (.iload 4, 2) := dk_21 4 (dk_at dksX5_hook_1 17 rfl rfl)
theorem dX5_hook_43 : decode cX5_hook 43 = .ok (.iconst 0, 1) := dk_3 (dk_at dksX5_hook_1 19 rfl rfl)
theorem dX5_hook_44 : decode cX5_hook 44 = .ok (.bipush 8, 2) := dk_16 8 (dk_at dksX5_hook_1 20 rfl rfl)
theorem dX5_hook_46 : decode cX5_hook 46 = .ok (.invokestatic 76, 3) := dk_184 0 76 (dk_at dksX5_hook_2 0 rfl rfl)
theorem dX5_hook_49 : decode cX5_hook 49 = .ok (.ifCond .eq 15, 3) := dk_153 0 15 (dk_at dksX5_hook_2 3 rfl rfl)
theorem dX5_hook_52 : decode cX5_hook 52 = .ok (.iload 5, 2) := dk_21 5 (dk_at dksX5_hook_2 6 rfl rfl)
theorem dX5_hook_54 : decode cX5_hook 54 = .ok (.bipush (-99), 2) := dk_16 157 (dk_at dksX5_hook_2 8 rfl rfl)
theorem dX5_hook_56 : decode cX5_hook 56 = .ok (.bipush 99, 2) := dk_16 99 (dk_at dksX5_hook_2 10 rfl rfl)
theorem dX5_hook_58 : decode cX5_hook 58 = .ok (.invokestatic 76, 3) := dk_184 0 76 (dk_at dksX5_hook_2 12 rfl rfl)
theorem dX5_hook_61 : decode cX5_hook 61 = .ok (.ifCond .ne 10, 3) := dk_154 0 10 (dk_at dksX5_hook_2 15 rfl rfl)
theorem dX5_hook_64 : decode cX5_hook 64 = .ok (.aload_n 0, 1) := dk_42 (dk_at dksX5_hook_2 18 rfl rfl)
theorem dX5_hook_65 : decode cX5_hook 65 = .ok (.bipush (-6), 2) := dk_16 250 (dk_at dksX5_hook_2 19 rfl rfl)
theorem dX5_hook_67 : decode cX5_hook 67 = .ok (.invokevirtual 69, 3) := dk_182 0 69 (dk_at dksX5_hook_2 21 rfl rfl)
theorem dX5_hook_70 : decode cX5_hook 70 = .ok (.ireturn, 1) := dk_172 (dk_at dksX5_hook_3 0 rfl rfl)
theorem dX5_hook_71 : decode cX5_hook 71 = .ok (.aload_n 0, 1) := dk_42 (dk_at dksX5_hook_3 1 rfl rfl)
theorem dX5_hook_72 : decode cX5_hook 72 = .ok (.getfield 239, 3) := dk_180 0 239 (dk_at dksX5_hook_3 2 rfl rfl)
theorem dX5_hook_75 : decode cX5_hook 75 = .ok (.bipush 24, 2) := dk_16 24 (dk_at dksX5_hook_3 5 rfl rfl)
theorem dX5_hook_77 : decode cX5_hook 77 = .ok (.if_icmp .ne 10, 3) := dk_160 0 10 (dk_at dksX5_hook_3 7 rfl rfl)
theorem dX5_hook_80 : decode cX5_hook 80 = .ok (.aload_n 0, 1) := dk_42 (dk_at dksX5_hook_3 10 rfl rfl)
theorem dX5_hook_81 : decode cX5_hook 81 = .ok (.bipush (-7), 2) := dk_16 249 (dk_at dksX5_hook_3 11 rfl rfl)
theorem dX5_hook_83 : decode cX5_hook 83 = .ok (.invokevirtual 69, 3) := dk_182 0 69 (dk_at dksX5_hook_3 13 rfl rfl)
theorem dX5_hook_86 : decode cX5_hook 86 = .ok (.ireturn, 1) := dk_172 (dk_at dksX5_hook_3 16 rfl rfl)
theorem dX5_hook_87 : decode cX5_hook 87 = .ok (.aload_n 0, 1) := dk_42 (dk_at dksX5_hook_3 17 rfl rfl)
theorem dX5_hook_88 : decode cX5_hook 88 = .ok (.getfield 13, 3) := dk_180 0 13 (dk_at dksX5_hook_3 18 rfl rfl)
theorem dX5_hook_91 : decode cX5_hook 91 = .ok (.aload_n 0, 1) := dk_42 (dk_at dksX5_hook_3 21 rfl rfl)
theorem dX5_hook_92 : decode cX5_hook 92 = .ok (.getfield 239, 3) := dk_180 0 239 (dk_at dksX5_hook_4 0 rfl rfl)
theorem dX5_hook_95 : decode cX5_hook 95 = .ok (.iload_n 1, 1) := dk_27 (dk_at dksX5_hook_4 3 rfl rfl)
theorem dX5_hook_96 : decode cX5_hook 96 = .ok (.iastore, 1) := dk_79 (dk_at dksX5_hook_4 4 rfl rfl)
theorem dX5_hook_97 : decode cX5_hook 97 = .ok (.aload_n 0, 1) := dk_42 (dk_at dksX5_hook_4 5 rfl rfl)
theorem dX5_hook_98 : decode cX5_hook 98 = .ok (.getfield 13, 3) := dk_180 0 13 (dk_at dksX5_hook_4 6 rfl rfl)
theorem dX5_hook_101 : decode cX5_hook 101 = .ok (.bipush 24, 2) := dk_16 24 (dk_at dksX5_hook_4 9 rfl rfl)
theorem dX5_hook_103 : decode cX5_hook 103 = .ok (.aload_n 0, 1) := dk_42 (dk_at dksX5_hook_4 11 rfl rfl)
theorem dX5_hook_104 : decode cX5_hook 104 = .ok (.getfield 239, 3) := dk_180 0 239 (dk_at dksX5_hook_4 12 rfl rfl)
theorem dX5_hook_107 : decode cX5_hook 107 = .ok (.iadd, 1) := dk_96 (dk_at dksX5_hook_4 15 rfl rfl)
theorem dX5_hook_108 : decode cX5_hook 108 = .ok (.iload_n 2, 1) := dk_28 (dk_at dksX5_hook_4 16 rfl rfl)
theorem dX5_hook_109 : decode cX5_hook 109 = .ok (.iastore, 1) := dk_79 (dk_at dksX5_hook_4 17 rfl rfl)
theorem dX5_hook_110 : decode cX5_hook 110 = .ok (.aload_n 0, 1) := dk_42 (dk_at dksX5_hook_4 18 rfl rfl)
theorem dX5_hook_111 : decode cX5_hook 111 = .ok (.getfield 13, 3) := dk_180 0 13 (dk_at dksX5_hook_4 19 rfl rfl)
theorem dX5_hook_114 : decode cX5_hook 114 = .ok (.bipush 48, 2) := dk_16 48 (dk_at dksX5_hook_4 22 rfl rfl)
theorem dX5_hook_116 : decode cX5_hook 116 = .ok (.aload_n 0, 1) := dk_42 (dk_at dksX5_hook_5 0 rfl rfl)
theorem dX5_hook_117 : decode cX5_hook 117 = .ok (.getfield 239, 3) := dk_180 0 239 (dk_at dksX5_hook_5 1 rfl rfl)
theorem dX5_hook_120 : decode cX5_hook 120 = .ok (.iadd, 1) := dk_96 (dk_at dksX5_hook_5 4 rfl rfl)
theorem dX5_hook_121 : decode cX5_hook 121 = .ok (.iload_n 3, 1) := dk_29 (dk_at dksX5_hook_5 5 rfl rfl)
theorem dX5_hook_122 : decode cX5_hook 122 = .ok (.iastore, 1) := dk_79 (dk_at dksX5_hook_5 6 rfl rfl)
theorem dX5_hook_123 : decode cX5_hook 123 = .ok (.aload_n 0, 1) := dk_42 (dk_at dksX5_hook_5 7 rfl rfl)
theorem dX5_hook_124 : decode cX5_hook 124 = .ok (.getfield 13, 3) := dk_180 0 13 (dk_at dksX5_hook_5 8 rfl rfl)
theorem dX5_hook_127 : decode cX5_hook 127 = .ok (.bipush 72, 2) := dk_16 72 (dk_at dksX5_hook_5 11 rfl rfl)
theorem dX5_hook_129 : decode cX5_hook 129 = .ok (.aload_n 0, 1) := dk_42 (dk_at dksX5_hook_5 13 rfl rfl)
theorem dX5_hook_130 : decode cX5_hook 130 = .ok (.getfield 239, 3) := dk_180 0 239 (dk_at dksX5_hook_5 14 rfl rfl)
theorem dX5_hook_133 : decode cX5_hook 133 = .ok (.iadd, 1) := dk_96 (dk_at dksX5_hook_5 17 rfl rfl)
theorem dX5_hook_134 : decode cX5_hook 134 = .ok (.iload 4, 2) := dk_21 4 (dk_at dksX5_hook_5 18 rfl rfl)
theorem dX5_hook_136 : decode cX5_hook 136 = .ok (.iastore, 1) := dk_79 (dk_at dksX5_hook_5 20 rfl rfl)
theorem dX5_hook_137 : decode cX5_hook 137 = .ok (.aload_n 0, 1) := dk_42 (dk_at dksX5_hook_5 21 rfl rfl)
theorem dX5_hook_138 : decode cX5_hook 138 = .ok (.getfield 13, 3) := dk_180 0 13 (dk_at dksX5_hook_6 0 rfl rfl)
theorem dX5_hook_141 : decode cX5_hook 141 = .ok (.bipush 96, 2) := dk_16 96 (dk_at dksX5_hook_6 3 rfl rfl)
theorem dX5_hook_143 : decode cX5_hook 143 = .ok (.aload_n 0, 1) := dk_42 (dk_at dksX5_hook_6 5 rfl rfl)
theorem dX5_hook_144 : decode cX5_hook 144 = .ok (.getfield 239, 3) := dk_180 0 239 (dk_at dksX5_hook_6 6 rfl rfl)
theorem dX5_hook_147 : decode cX5_hook 147 = .ok (.iadd, 1) := dk_96 (dk_at dksX5_hook_6 9 rfl rfl)
theorem dX5_hook_148 : decode cX5_hook 148 = .ok (.iload 5, 2) := dk_21 5 (dk_at dksX5_hook_6 10 rfl rfl)
theorem dX5_hook_150 : decode cX5_hook 150 = .ok (.iastore, 1) := dk_79 (dk_at dksX5_hook_6 12 rfl rfl)
theorem dX5_hook_151 : decode cX5_hook 151 = .ok (.aload_n 0, 1) := dk_42 (dk_at dksX5_hook_6 13 rfl rfl)
theorem dX5_hook_152 : decode cX5_hook 152 = .ok (.dup, 1) := dk_89 (dk_at dksX5_hook_6 14 rfl rfl)
theorem dX5_hook_153 : decode cX5_hook 153 = .ok (.getfield 239, 3) := dk_180 0 239 (dk_at dksX5_hook_6 15 rfl rfl)
theorem dX5_hook_156 : decode cX5_hook 156 = .ok (.dup_x1, 1) := dk_90 (dk_at dksX5_hook_6 18 rfl rfl)
theorem dX5_hook_157 : decode cX5_hook 157 = .ok (.iconst 1, 1) := dk_4 (dk_at dksX5_hook_6 19 rfl rfl)
theorem dX5_hook_158 : decode cX5_hook 158 = .ok (.iadd, 1) := dk_96 (dk_at dksX5_hook_6 20 rfl rfl)
theorem dX5_hook_159 : decode cX5_hook 159 = .ok (.putfield 239, 3) := dk_181 0 239 (dk_at dksX5_hook_6 21 rfl rfl)
theorem dX5_hook_162 : decode cX5_hook 162 = .ok (.ireturn, 1) := dk_172 (dk_at dksX5_hook_7 0 rfl rfl)
abbrev cX5_isPoint : ByteArray := prog_40_method_6_code
def yX5_isPoint : MethodName := ⟨RX5, "isPoint", "(I)Z"⟩
def dkwX5_isPoint_0 : List UInt8 := [26, 3, 6, 184, 0, 76, 172]
abbrev dktX5_isPoint_0 : List UInt8 := dkwX5_isPoint_0 ++ []
theorem dksX5_isPoint_0 : cX5_isPoint.data.toList.drop 0 = dktX5_isPoint_0 := by decide +kernel
theorem dX5_isPoint_0 : decode cX5_isPoint 0 = .ok (.iload_n 0, 1) := dk_26 (dk_at dksX5_isPoint_0 0 rfl rfl)
theorem dX5_isPoint_1 : decode cX5_isPoint 1 = .ok (.iconst 0, 1) := dk_3 (dk_at dksX5_isPoint_0 1 rfl rfl)
theorem dX5_isPoint_2 : decode cX5_isPoint 2 = .ok (.iconst 3, 1) := dk_6 (dk_at dksX5_isPoint_0 2 rfl rfl)
theorem dX5_isPoint_3 : decode cX5_isPoint 3 = .ok (.invokestatic 76, 3) := dk_184 0 76 (dk_at dksX5_isPoint_0 3 rfl rfl)
theorem dX5_isPoint_6 : decode cX5_isPoint 6 = .ok (.ireturn, 1) := dk_172 (dk_at dksX5_isPoint_0 6 rfl rfl)
abbrev cX5_hookOf : ByteArray := prog_40_method_65_code
def yX5_hookOf : MethodName := ⟨RX5, "hookOf", "(II)I"⟩
def dkwX5_hookOf_2 : List UInt8 := [160, 0, 8, 16, 100, 167, 0, 4, 3, 96, 172]
abbrev dktX5_hookOf_2 : List UInt8 := dkwX5_hookOf_2 ++ []
def dkwX5_hookOf_1 : List UInt8 := [16, 251, 182, 0, 69, 172, 42, 28, 27, 182, 0, 242, 28, 5, 160, 0, 8, 16, 10, 167, 0, 14, 28, 7]
abbrev dktX5_hookOf_1 : List UInt8 := dkwX5_hookOf_1 ++ dktX5_hookOf_2
def dkwX5_hookOf_0 : List UInt8 := [27, 3, 42, 180, 0, 239, 4, 100, 184, 0, 76, 153, 0, 12, 28, 3, 7, 184, 0, 76, 154, 0, 10, 42]
abbrev dktX5_hookOf_0 : List UInt8 := dkwX5_hookOf_0 ++ dktX5_hookOf_1
theorem dksX5_hookOf_0 : cX5_hookOf.data.toList.drop 0 = dktX5_hookOf_0 := by decide +kernel
theorem dksX5_hookOf_1 : cX5_hookOf.data.toList.drop 24 = dktX5_hookOf_1 := dk_seg dksX5_hookOf_0 24 rfl rfl
theorem dksX5_hookOf_2 : cX5_hookOf.data.toList.drop 48 = dktX5_hookOf_2 := dk_seg dksX5_hookOf_1 24 rfl rfl
theorem dX5_hookOf_0 : decode cX5_hookOf 0 = .ok (.iload_n 1, 1) := dk_27 (dk_at dksX5_hookOf_0 0 rfl rfl)
theorem dX5_hookOf_1 : decode cX5_hookOf 1 = .ok (.iconst 0, 1) := dk_3 (dk_at dksX5_hookOf_0 1 rfl rfl)
theorem dX5_hookOf_2 : decode cX5_hookOf 2 = .ok (.aload_n 0, 1) := dk_42 (dk_at dksX5_hookOf_0 2 rfl rfl)
theorem dX5_hookOf_3 : decode cX5_hookOf 3 = .ok (.getfield 239, 3) := dk_180 0 239 (dk_at dksX5_hookOf_0 3 rfl rfl)
theorem dX5_hookOf_6 : decode cX5_hookOf 6 = .ok (.iconst 1, 1) := dk_4 (dk_at dksX5_hookOf_0 6 rfl rfl)
theorem dX5_hookOf_7 : decode cX5_hookOf 7 = .ok (.isub, 1) := dk_100 (dk_at dksX5_hookOf_0 7 rfl rfl)
theorem dX5_hookOf_8 : decode cX5_hookOf 8 = .ok (.invokestatic 76, 3) := dk_184 0 76 (dk_at dksX5_hookOf_0 8 rfl rfl)
theorem dX5_hookOf_11 : decode cX5_hookOf 11 = .ok (.ifCond .eq 12, 3) := dk_153 0 12 (dk_at dksX5_hookOf_0 11 rfl rfl)
theorem dX5_hookOf_14 : decode cX5_hookOf 14 = .ok (.iload_n 2, 1) := dk_28 (dk_at dksX5_hookOf_0 14 rfl rfl)
theorem dX5_hookOf_15 : decode cX5_hookOf 15 = .ok (.iconst 0, 1) := dk_3 (dk_at dksX5_hookOf_0 15 rfl rfl)
theorem dX5_hookOf_16 : decode cX5_hookOf 16 = .ok (.iconst 4, 1) := dk_7 (dk_at dksX5_hookOf_0 16 rfl rfl)
theorem dX5_hookOf_17 : decode cX5_hookOf 17 = .ok (.invokestatic 76, 3) := dk_184 0 76 (dk_at dksX5_hookOf_0 17 rfl rfl)
theorem dX5_hookOf_20 : decode cX5_hookOf 20 = .ok (.ifCond .ne 10, 3) := dk_154 0 10 (dk_at dksX5_hookOf_0 20 rfl rfl)
theorem dX5_hookOf_23 : decode cX5_hookOf 23 = .ok (.aload_n 0, 1) := dk_42 (dk_at dksX5_hookOf_0 23 rfl rfl)
theorem dX5_hookOf_24 : decode cX5_hookOf 24 = .ok (.bipush (-5), 2) := dk_16 251 (dk_at dksX5_hookOf_1 0 rfl rfl)
theorem dX5_hookOf_26 : decode cX5_hookOf 26 = .ok (.invokevirtual 69, 3) := dk_182 0 69 (dk_at dksX5_hookOf_1 2 rfl rfl)
theorem dX5_hookOf_29 : decode cX5_hookOf 29 = .ok (.ireturn, 1) := dk_172 (dk_at dksX5_hookOf_1 5 rfl rfl)
theorem dX5_hookOf_30 : decode cX5_hookOf 30 = .ok (.aload_n 0, 1) := dk_42 (dk_at dksX5_hookOf_1 6 rfl rfl)
theorem dX5_hookOf_31 : decode cX5_hookOf 31 = .ok (.iload_n 2, 1) := dk_28 (dk_at dksX5_hookOf_1 7 rfl rfl)
theorem dX5_hookOf_32 : decode cX5_hookOf 32 = .ok (.iload_n 1, 1) := dk_27 (dk_at dksX5_hookOf_1 8 rfl rfl)
theorem dX5_hookOf_33 : decode cX5_hookOf 33 = .ok (.invokevirtual 242, 3) := dk_182 0 242 (dk_at dksX5_hookOf_1 9 rfl rfl)
theorem dX5_hookOf_36 : decode cX5_hookOf 36 = .ok (.iload_n 2, 1) := dk_28 (dk_at dksX5_hookOf_1 12 rfl rfl)
theorem dX5_hookOf_37 : decode cX5_hookOf 37 = .ok (.iconst 2, 1) := dk_5 (dk_at dksX5_hookOf_1 13 rfl rfl)
theorem dX5_hookOf_38 : decode cX5_hookOf 38 = .ok (.if_icmp .ne 8, 3) := dk_160 0 8 (dk_at dksX5_hookOf_1 14 rfl rfl)
theorem dX5_hookOf_41 : decode cX5_hookOf 41 = .ok (.bipush 10, 2) := dk_16 10 (dk_at dksX5_hookOf_1 17 rfl rfl)
theorem dX5_hookOf_43 : decode cX5_hookOf 43 = .ok (.goto 14, 3) := dk_167 0 14 (dk_at dksX5_hookOf_1 19 rfl rfl)
theorem dX5_hookOf_46 : decode cX5_hookOf 46 = .ok (.iload_n 2, 1) := dk_28 (dk_at dksX5_hookOf_1 22 rfl rfl)
theorem dX5_hookOf_47 : decode cX5_hookOf 47 = .ok (.iconst 4, 1) := dk_7 (dk_at dksX5_hookOf_1 23 rfl rfl)
theorem dX5_hookOf_48 : decode cX5_hookOf 48 = .ok (.if_icmp .ne 8, 3) := dk_160 0 8 (dk_at dksX5_hookOf_2 0 rfl rfl)
theorem dX5_hookOf_51 : decode cX5_hookOf 51 = .ok (.bipush 100, 2) := dk_16 100 (dk_at dksX5_hookOf_2 3 rfl rfl)
theorem dX5_hookOf_53 : decode cX5_hookOf 53 = .ok (.goto 4, 3) := dk_167 0 4 (dk_at dksX5_hookOf_2 5 rfl rfl)
theorem dX5_hookOf_56 : decode cX5_hookOf 56 = .ok (.iconst 0, 1) := dk_3 (dk_at dksX5_hookOf_2 8 rfl rfl)
theorem dX5_hookOf_57 : decode cX5_hookOf 57 = .ok (.iadd, 1) := dk_96 (dk_at dksX5_hookOf_2 9 rfl rfl)
theorem dX5_hookOf_58 : decode cX5_hookOf 58 = .ok (.ireturn, 1) := dk_172 (dk_at dksX5_hookOf_2 10 rfl rfl)
abbrev cX5_hk : ByteArray := prog_40_method_63_code
def yX5_hk : MethodName := ⟨RX5, "hk", "(II)I"⟩
def dkwX5_hk_0 : List UInt8 := [42, 180, 0, 13, 16, 24, 27, 104, 28, 96, 46, 172]
abbrev dktX5_hk_0 : List UInt8 := dkwX5_hk_0 ++ []
theorem dksX5_hk_0 : cX5_hk.data.toList.drop 0 = dktX5_hk_0 := by decide +kernel
theorem dX5_hk_0 : decode cX5_hk 0 = .ok (.aload_n 0, 1) := dk_42 (dk_at dksX5_hk_0 0 rfl rfl)
theorem dX5_hk_1 : decode cX5_hk 1 = .ok (.getfield 13, 3) := dk_180 0 13 (dk_at dksX5_hk_0 1 rfl rfl)
theorem dX5_hk_4 : decode cX5_hk 4 = .ok (.bipush 24, 2) := dk_16 24 (dk_at dksX5_hk_0 4 rfl rfl)
theorem dX5_hk_6 : decode cX5_hk 6 = .ok (.iload_n 1, 1) := dk_27 (dk_at dksX5_hk_0 6 rfl rfl)
theorem dX5_hk_7 : decode cX5_hk 7 = .ok (.imul, 1) := dk_104 (dk_at dksX5_hk_0 7 rfl rfl)
theorem dX5_hk_8 : decode cX5_hk 8 = .ok (.iload_n 2, 1) := dk_28 (dk_at dksX5_hk_0 8 rfl rfl)
theorem dX5_hk_9 : decode cX5_hk 9 = .ok (.iadd, 1) := dk_96 (dk_at dksX5_hk_0 9 rfl rfl)
theorem dX5_hk_10 : decode cX5_hk 10 = .ok (.iaload, 1) := dk_46 (dk_at dksX5_hk_0 10 rfl rfl)
theorem dX5_hk_11 : decode cX5_hk 11 = .ok (.ireturn, 1) := dk_172 (dk_at dksX5_hk_0 11 rfl rfl)
abbrev cX5_chain : ByteArray := prog_40_method_68_code
def yX5_chain : MethodName := ⟨RX5, "chain", "(II)I"⟩
def dkwX5_chain_1 : List UInt8 := [180, 0, 245, 4, 100, 184, 0, 76, 153, 0, 12, 42, 180, 0, 41, 28, 46, 167, 0, 4, 2, 172]
abbrev dktX5_chain_1 : List UInt8 := dkwX5_chain_1 ++ []
def dkwX5_chain_0 : List UInt8 := [27, 184, 0, 236, 154, 0, 9, 42, 2, 182, 0, 154, 172, 42, 27, 2, 182, 0, 251, 28, 3, 42]
abbrev dktX5_chain_0 : List UInt8 := dkwX5_chain_0 ++ dktX5_chain_1
theorem dksX5_chain_0 : cX5_chain.data.toList.drop 0 = dktX5_chain_0 := by decide +kernel
theorem dksX5_chain_1 : cX5_chain.data.toList.drop 22 = dktX5_chain_1 := dk_seg dksX5_chain_0 22 rfl rfl
theorem dX5_chain_0 : decode cX5_chain 0 = .ok (.iload_n 1, 1) := dk_27 (dk_at dksX5_chain_0 0 rfl rfl)
theorem dX5_chain_1 : decode cX5_chain 1 = .ok (.invokestatic 236, 3) := dk_184 0 236 (dk_at dksX5_chain_0 1 rfl rfl)
theorem dX5_chain_4 : decode cX5_chain 4 = .ok (.ifCond .ne 9, 3) := dk_154 0 9 (dk_at dksX5_chain_0 4 rfl rfl)
theorem dX5_chain_7 : decode cX5_chain 7 = .ok (.aload_n 0, 1) := dk_42 (dk_at dksX5_chain_0 7 rfl rfl)
theorem dX5_chain_8 : decode cX5_chain 8 = .ok (.iconst (-1), 1) := dk_2 (dk_at dksX5_chain_0 8 rfl rfl)
theorem dX5_chain_9 : decode cX5_chain 9 = .ok (.invokevirtual 154, 3) := dk_182 0 154 (dk_at dksX5_chain_0 9 rfl rfl)
theorem dX5_chain_12 : decode cX5_chain 12 = .ok (.ireturn, 1) := dk_172 (dk_at dksX5_chain_0 12 rfl rfl)
theorem dX5_chain_13 : decode cX5_chain 13 = .ok (.aload_n 0, 1) := dk_42 (dk_at dksX5_chain_0 13 rfl rfl)
theorem dX5_chain_14 : decode cX5_chain 14 = .ok (.iload_n 1, 1) := dk_27 (dk_at dksX5_chain_0 14 rfl rfl)
theorem dX5_chain_15 : decode cX5_chain 15 = .ok (.iconst (-1), 1) := dk_2 (dk_at dksX5_chain_0 15 rfl rfl)
theorem dX5_chain_16 : decode cX5_chain 16 = .ok (.invokevirtual 251, 3) := dk_182 0 251 (dk_at dksX5_chain_0 16 rfl rfl)
theorem dX5_chain_19 : decode cX5_chain 19 = .ok (.iload_n 2, 1) := dk_28 (dk_at dksX5_chain_0 19 rfl rfl)
theorem dX5_chain_20 : decode cX5_chain 20 = .ok (.iconst 0, 1) := dk_3 (dk_at dksX5_chain_0 20 rfl rfl)
theorem dX5_chain_21 : decode cX5_chain 21 = .ok (.aload_n 0, 1) := dk_42 (dk_at dksX5_chain_0 21 rfl rfl)
theorem dX5_chain_22 : decode cX5_chain 22 = .ok (.getfield 245, 3) := dk_180 0 245 (dk_at dksX5_chain_1 0 rfl rfl)
theorem dX5_chain_25 : decode cX5_chain 25 = .ok (.iconst 1, 1) := dk_4 (dk_at dksX5_chain_1 3 rfl rfl)
theorem dX5_chain_26 : decode cX5_chain 26 = .ok (.isub, 1) := dk_100 (dk_at dksX5_chain_1 4 rfl rfl)
theorem dX5_chain_27 : decode cX5_chain 27 = .ok (.invokestatic 76, 3) := dk_184 0 76 (dk_at dksX5_chain_1 5 rfl rfl)
theorem dX5_chain_30 : decode cX5_chain 30 = .ok (.ifCond .eq 12, 3) := dk_153 0 12 (dk_at dksX5_chain_1 8 rfl rfl)
theorem dX5_chain_33 : decode cX5_chain 33 = .ok (.aload_n 0, 1) := dk_42 (dk_at dksX5_chain_1 11 rfl rfl)
theorem dX5_chain_34 : decode cX5_chain 34 = .ok (.getfield 41, 3) := dk_180 0 41 (dk_at dksX5_chain_1 12 rfl rfl)
theorem dX5_chain_37 : decode cX5_chain 37 = .ok (.iload_n 2, 1) := dk_28 (dk_at dksX5_chain_1 15 rfl rfl)
theorem dX5_chain_38 : decode cX5_chain 38 = .ok (.iaload, 1) := dk_46 (dk_at dksX5_chain_1 16 rfl rfl)
theorem dX5_chain_39 : decode cX5_chain 39 = .ok (.goto 4, 3) := dk_167 0 4 (dk_at dksX5_chain_1 17 rfl rfl)
theorem dX5_chain_42 : decode cX5_chain 42 = .ok (.iconst (-1), 1) := dk_2 (dk_at dksX5_chain_1 20 rfl rfl)
theorem dX5_chain_43 : decode cX5_chain 43 = .ok (.ireturn, 1) := dk_172 (dk_at dksX5_chain_1 21 rfl rfl)
abbrev cX5_chains : ByteArray := prog_40_method_67_code
def yX5_chains : MethodName := ⟨RX5, "chains", "(II)V"⟩
def dkwX5_chains_5 : List UInt8 := [132, 3, 1, 167, 255, 145, 177]
abbrev dktX5_chains_5 : List UInt8 := dkwX5_chains_5 ++ []
def dkwX5_chains_4 : List UInt8 := [132, 4, 255, 167, 255, 215, 42, 180, 0, 41, 21, 4, 29, 79, 42, 89, 180, 0, 245, 4, 96, 181, 0, 245]
abbrev dktX5_chains_4 : List UInt8 := dkwX5_chains_4 ++ dktX5_chains_5
def dkwX5_chains_3 : List UInt8 := [182, 0, 248, 153, 0, 25, 42, 180, 0, 41, 21, 4, 42, 180, 0, 41, 21, 4, 4, 100, 46, 79]
abbrev dktX5_chains_3 : List UInt8 := dkwX5_chains_3 ++ dktX5_chains_4
def dkwX5_chains_2 : List UInt8 := [42, 180, 0, 245, 54, 4, 21, 4, 158, 0, 42, 42, 29, 42, 180, 0, 41, 21, 4, 4, 100, 46]
abbrev dktX5_chains_2 : List UInt8 := dkwX5_chains_2 ++ dktX5_chains_3
def dkwX5_chains_1 : List UInt8 := [182, 0, 242, 27, 160, 0, 88, 42, 42, 3, 29, 182, 0, 242, 182, 0, 115, 4, 159, 0, 6, 167, 0, 71]
abbrev dktX5_chains_1 : List UInt8 := dkwX5_chains_1 ++ dktX5_chains_2
def dkwX5_chains_0 : List UInt8 := [42, 3, 181, 0, 245, 3, 62, 29, 42, 180, 0, 239, 162, 0, 109, 29, 28, 159, 0, 98, 42, 4, 29]
abbrev dktX5_chains_0 : List UInt8 := dkwX5_chains_0 ++ dktX5_chains_1
theorem dksX5_chains_0 : cX5_chains.data.toList.drop 0 = dktX5_chains_0 := by decide +kernel
theorem dksX5_chains_1 : cX5_chains.data.toList.drop 23 = dktX5_chains_1 := dk_seg dksX5_chains_0 23 rfl rfl
theorem dksX5_chains_2 : cX5_chains.data.toList.drop 47 = dktX5_chains_2 := dk_seg dksX5_chains_1 24 rfl rfl
theorem dksX5_chains_3 : cX5_chains.data.toList.drop 69 = dktX5_chains_3 := dk_seg dksX5_chains_2 22 rfl rfl
theorem dksX5_chains_4 : cX5_chains.data.toList.drop 91 = dktX5_chains_4 := dk_seg dksX5_chains_3 22 rfl rfl
theorem dksX5_chains_5 : cX5_chains.data.toList.drop 115 = dktX5_chains_5 := dk_seg dksX5_chains_4 24 rfl rfl
theorem dX5_chains_0 : decode cX5_chains 0 = .ok (.aload_n 0, 1) := dk_42 (dk_at dksX5_chains_0 0 rfl rfl)
theorem dX5_chains_1 : decode cX5_chains 1 = .ok (.iconst 0, 1) := dk_3 (dk_at dksX5_chains_0 1 rfl rfl)
theorem dX5_chains_2 : decode cX5_chains 2 = .ok (.putfield 245, 3) := dk_181 0 245 (dk_at dksX5_chains_0 2 rfl rfl)
theorem dX5_chains_5 : decode cX5_chains 5 = .ok (.iconst 0, 1) := dk_3 (dk_at dksX5_chains_0 5 rfl rfl)
theorem dX5_chains_6 : decode cX5_chains 6 = .ok (.istore_n 3, 1) := dk_62 (dk_at dksX5_chains_0 6 rfl rfl)
theorem dX5_chains_7 : decode cX5_chains 7 = .ok (.iload_n 3, 1) := dk_29 (dk_at dksX5_chains_0 7 rfl rfl)
theorem dX5_chains_8 : decode cX5_chains 8 = .ok (.aload_n 0, 1) := dk_42 (dk_at dksX5_chains_0 8 rfl rfl)
theorem dX5_chains_9 : decode cX5_chains 9 = .ok (.getfield 239, 3) := dk_180 0 239 (dk_at dksX5_chains_0 9 rfl rfl)
theorem dX5_chains_12 : decode cX5_chains 12 = .ok (.if_icmp .ge 109, 3) := dk_162 0 109 (dk_at dksX5_chains_0 12 rfl rfl)
theorem dX5_chains_15 : decode cX5_chains 15 = .ok (.iload_n 3, 1) := dk_29 (dk_at dksX5_chains_0 15 rfl rfl)
theorem dX5_chains_16 : decode cX5_chains 16 = .ok (.iload_n 2, 1) := dk_28 (dk_at dksX5_chains_0 16 rfl rfl)
theorem dX5_chains_17 : decode cX5_chains 17 = .ok (.if_icmp .eq 98, 3) := dk_159 0 98 (dk_at dksX5_chains_0 17 rfl rfl)
theorem dX5_chains_20 : decode cX5_chains 20 = .ok (.aload_n 0, 1) := dk_42 (dk_at dksX5_chains_0 20 rfl rfl)
theorem dX5_chains_21 : decode cX5_chains 21 = .ok (.iconst 1, 1) := dk_4 (dk_at dksX5_chains_0 21 rfl rfl)
theorem dX5_chains_22 : decode cX5_chains 22 = .ok (.iload_n 3, 1) := dk_29 (dk_at dksX5_chains_0 22 rfl rfl)
theorem dX5_chains_23 : decode cX5_chains 23 = .ok (.invokevirtual 242, 3) := dk_182 0 242 (dk_at dksX5_chains_1 0 rfl rfl)
theorem dX5_chains_26 : decode cX5_chains 26 = .ok (.iload_n 1, 1) := dk_27 (dk_at dksX5_chains_1 3 rfl rfl)
theorem dX5_chains_27 : decode cX5_chains 27 = .ok (.if_icmp .ne 88, 3) := dk_160 0 88 (dk_at dksX5_chains_1 4 rfl rfl)
theorem dX5_chains_30 : decode cX5_chains 30 = .ok (.aload_n 0, 1) := dk_42 (dk_at dksX5_chains_1 7 rfl rfl)
theorem dX5_chains_31 : decode cX5_chains 31 = .ok (.aload_n 0, 1) := dk_42 (dk_at dksX5_chains_1 8 rfl rfl)
theorem dX5_chains_32 : decode cX5_chains 32 = .ok (.iconst 0, 1) := dk_3 (dk_at dksX5_chains_1 9 rfl rfl)
theorem dX5_chains_33 : decode cX5_chains 33 = .ok (.iload_n 3, 1) := dk_29 (dk_at dksX5_chains_1 10 rfl rfl)
theorem dX5_chains_34 : decode cX5_chains 34 = .ok (.invokevirtual 242, 3) := dk_182 0 242 (dk_at dksX5_chains_1 11 rfl rfl)
theorem dX5_chains_37 : decode cX5_chains 37 = .ok (.invokevirtual 115, 3) := dk_182 0 115 (dk_at dksX5_chains_1 14 rfl rfl)
theorem dX5_chains_40 : decode cX5_chains 40 = .ok (.iconst 1, 1) := dk_4 (dk_at dksX5_chains_1 17 rfl rfl)
theorem dX5_chains_41 : decode cX5_chains 41 = .ok (.if_icmp .eq 6, 3) := dk_159 0 6 (dk_at dksX5_chains_1 18 rfl rfl)
theorem dX5_chains_44 : decode cX5_chains 44 = .ok (.goto 71, 3) := dk_167 0 71 (dk_at dksX5_chains_1 21 rfl rfl)
theorem dX5_chains_47 : decode cX5_chains 47 = .ok (.aload_n 0, 1) := dk_42 (dk_at dksX5_chains_2 0 rfl rfl)
theorem dX5_chains_48 : decode cX5_chains 48 = .ok (.getfield 245, 3) := dk_180 0 245 (dk_at dksX5_chains_2 1 rfl rfl)
theorem dX5_chains_51 : decode cX5_chains 51 = .ok (.istore 4, 2) := dk_54 4 (dk_at dksX5_chains_2 4 rfl rfl)
theorem dX5_chains_53 : decode cX5_chains 53 = .ok (.iload 4, 2) := dk_21 4 (dk_at dksX5_chains_2 6 rfl rfl)
theorem dX5_chains_55 : decode cX5_chains 55 = .ok (.ifCond .le 42, 3) := dk_158 0 42 (dk_at dksX5_chains_2 8 rfl rfl)
theorem dX5_chains_58 : decode cX5_chains 58 = .ok (.aload_n 0, 1) := dk_42 (dk_at dksX5_chains_2 11 rfl rfl)
theorem dX5_chains_59 : decode cX5_chains 59 = .ok (.iload_n 3, 1) := dk_29 (dk_at dksX5_chains_2 12 rfl rfl)
theorem dX5_chains_60 : decode cX5_chains 60 = .ok (.aload_n 0, 1) := dk_42 (dk_at dksX5_chains_2 13 rfl rfl)
theorem dX5_chains_61 : decode cX5_chains 61 = .ok (.getfield 41, 3) := dk_180 0 41 (dk_at dksX5_chains_2 14 rfl rfl)
theorem dX5_chains_64 : decode cX5_chains 64 = .ok (.iload 4, 2) := dk_21 4 (dk_at dksX5_chains_2 17 rfl rfl)
theorem dX5_chains_66 : decode cX5_chains 66 = .ok (.iconst 1, 1) := dk_4 (dk_at dksX5_chains_2 19 rfl rfl)
theorem dX5_chains_67 : decode cX5_chains 67 = .ok (.isub, 1) := dk_100 (dk_at dksX5_chains_2 20 rfl rfl)
theorem dX5_chains_68 : decode cX5_chains 68 = .ok (.iaload, 1) := dk_46 (dk_at dksX5_chains_2 21 rfl rfl)
theorem dX5_chains_69 : decode cX5_chains 69 = .ok (.invokevirtual 248, 3) := dk_182 0 248 (dk_at dksX5_chains_3 0 rfl rfl)
theorem dX5_chains_72 : decode cX5_chains 72 = .ok (.ifCond .eq 25, 3) := dk_153 0 25 (dk_at dksX5_chains_3 3 rfl rfl)
theorem dX5_chains_75 : decode cX5_chains 75 = .ok (.aload_n 0, 1) := dk_42 (dk_at dksX5_chains_3 6 rfl rfl)
theorem dX5_chains_76 : decode cX5_chains 76 = .ok (.getfield 41, 3) := dk_180 0 41 (dk_at dksX5_chains_3 7 rfl rfl)
theorem dX5_chains_79 : decode cX5_chains 79 = .ok (.iload 4, 2) := dk_21 4 (dk_at dksX5_chains_3 10 rfl rfl)
theorem dX5_chains_81 : decode cX5_chains 81 = .ok (.aload_n 0, 1) := dk_42 (dk_at dksX5_chains_3 12 rfl rfl)
theorem dX5_chains_82 : decode cX5_chains 82 = .ok (.getfield 41, 3) := dk_180 0 41 (dk_at dksX5_chains_3 13 rfl rfl)
theorem dX5_chains_85 : decode cX5_chains 85 = .ok (.iload 4, 2) := dk_21 4 (dk_at dksX5_chains_3 16 rfl rfl)
theorem dX5_chains_87 : decode cX5_chains 87 = .ok (.iconst 1, 1) := dk_4 (dk_at dksX5_chains_3 18 rfl rfl)
theorem dX5_chains_88 : decode cX5_chains 88 = .ok (.isub, 1) := dk_100 (dk_at dksX5_chains_3 19 rfl rfl)
theorem dX5_chains_89 : decode cX5_chains 89 = .ok (.iaload, 1) := dk_46 (dk_at dksX5_chains_3 20 rfl rfl)
theorem dX5_chains_90 : decode cX5_chains 90 = .ok (.iastore, 1) := dk_79 (dk_at dksX5_chains_3 21 rfl rfl)
theorem dX5_chains_91 : decode cX5_chains 91 = .ok (.iinc 4 (-1), 3) := dk_132 4 255 (dk_at dksX5_chains_4 0 rfl rfl)
theorem dX5_chains_94 : decode cX5_chains 94 = .ok (.goto (-41), 3) := dk_167 255 215 (dk_at dksX5_chains_4 3 rfl rfl)
theorem dX5_chains_97 : decode cX5_chains 97 = .ok (.aload_n 0, 1) := dk_42 (dk_at dksX5_chains_4 6 rfl rfl)
theorem dX5_chains_98 : decode cX5_chains 98 = .ok (.getfield 41, 3) := dk_180 0 41 (dk_at dksX5_chains_4 7 rfl rfl)
theorem dX5_chains_101 : decode cX5_chains 101 = .ok (.iload 4, 2) := dk_21 4 (dk_at dksX5_chains_4 10 rfl rfl)
theorem dX5_chains_103 : decode cX5_chains 103 = .ok (.iload_n 3, 1) := dk_29 (dk_at dksX5_chains_4 12 rfl rfl)
theorem dX5_chains_104 : decode cX5_chains 104 = .ok (.iastore, 1) := dk_79 (dk_at dksX5_chains_4 13 rfl rfl)
theorem dX5_chains_105 : decode cX5_chains 105 = .ok (.aload_n 0, 1) := dk_42 (dk_at dksX5_chains_4 14 rfl rfl)
theorem dX5_chains_106 : decode cX5_chains 106 = .ok (.dup, 1) := dk_89 (dk_at dksX5_chains_4 15 rfl rfl)
theorem dX5_chains_107 : decode cX5_chains 107 = .ok (.getfield 245, 3) := dk_180 0 245 (dk_at dksX5_chains_4 16 rfl rfl)
theorem dX5_chains_110 : decode cX5_chains 110 = .ok (.iconst 1, 1) := dk_4 (dk_at dksX5_chains_4 19 rfl rfl)
theorem dX5_chains_111 : decode cX5_chains 111 = .ok (.iadd, 1) := dk_96 (dk_at dksX5_chains_4 20 rfl rfl)
theorem dX5_chains_112 : decode cX5_chains 112 = .ok (.putfield 245, 3) := dk_181 0 245 (dk_at dksX5_chains_4 21 rfl rfl)
theorem dX5_chains_115 : decode cX5_chains 115 = .ok (.iinc 3 1, 3) := dk_132 3 1 (dk_at dksX5_chains_5 0 rfl rfl)
theorem dX5_chains_118 : decode cX5_chains 118 = .ok (.goto (-111), 3) := dk_167 255 145 (dk_at dksX5_chains_5 3 rfl rfl)
theorem dX5_chains_121 : decode cX5_chains 121 = .ok (.return_, 1) := dk_177 (dk_at dksX5_chains_5 6 rfl rfl)
abbrev cX5_isAhead : ByteArray := prog_40_method_66_code
def yX5_isAhead : MethodName := ⟨RX5, "isAhead", "(II)Z"⟩
def dkwX5_isAhead_3 : List UInt8 := [162, 0, 7, 4, 167, 0, 4, 3, 172]
abbrev dktX5_isAhead_3 : List UInt8 := dkwX5_isAhead_3 ++ []
def dkwX5_isAhead_2 : List UInt8 := [159, 0, 20, 42, 42, 3, 27, 182, 0, 242, 42, 3, 28, 182, 0, 242, 182, 0, 160, 172, 27, 28]
abbrev dktX5_isAhead_2 : List UInt8 := dkwX5_isAhead_2 ++ dktX5_isAhead_3
def dkwX5_isAhead_1 : List UInt8 := [182, 0, 242, 164, 0, 7, 4, 167, 0, 4, 3, 172, 42, 3, 27, 182, 0, 242, 42, 3, 28, 182, 0, 242]
abbrev dktX5_isAhead_1 : List UInt8 := dkwX5_isAhead_1 ++ dktX5_isAhead_2
def dkwX5_isAhead_0 : List UInt8 := [42, 5, 27, 182, 0, 242, 42, 5, 28, 182, 0, 242, 159, 0, 24, 42, 5, 27, 182, 0, 242, 42, 5, 28]
abbrev dktX5_isAhead_0 : List UInt8 := dkwX5_isAhead_0 ++ dktX5_isAhead_1
theorem dksX5_isAhead_0 : cX5_isAhead.data.toList.drop 0 = dktX5_isAhead_0 := by decide +kernel
theorem dksX5_isAhead_1 : cX5_isAhead.data.toList.drop 24 = dktX5_isAhead_1 := dk_seg dksX5_isAhead_0 24 rfl rfl
theorem dksX5_isAhead_2 : cX5_isAhead.data.toList.drop 48 = dktX5_isAhead_2 := dk_seg dksX5_isAhead_1 24 rfl rfl
theorem dksX5_isAhead_3 : cX5_isAhead.data.toList.drop 70 = dktX5_isAhead_3 := dk_seg dksX5_isAhead_2 22 rfl rfl
theorem dX5_isAhead_0 : decode cX5_isAhead 0 = .ok (.aload_n 0, 1) := dk_42 (dk_at dksX5_isAhead_0 0 rfl rfl)
theorem dX5_isAhead_1 : decode cX5_isAhead 1 = .ok (.iconst 2, 1) := dk_5 (dk_at dksX5_isAhead_0 1 rfl rfl)
theorem dX5_isAhead_2 : decode cX5_isAhead 2 = .ok (.iload_n 1, 1) := dk_27 (dk_at dksX5_isAhead_0 2 rfl rfl)
theorem dX5_isAhead_3 : decode cX5_isAhead 3 = .ok (.invokevirtual 242, 3) := dk_182 0 242 (dk_at dksX5_isAhead_0 3 rfl rfl)
theorem dX5_isAhead_6 : decode cX5_isAhead 6 = .ok (.aload_n 0, 1) := dk_42 (dk_at dksX5_isAhead_0 6 rfl rfl)
theorem dX5_isAhead_7 : decode cX5_isAhead 7 = .ok (.iconst 2, 1) := dk_5 (dk_at dksX5_isAhead_0 7 rfl rfl)
theorem dX5_isAhead_8 : decode cX5_isAhead 8 = .ok (.iload_n 2, 1) := dk_28 (dk_at dksX5_isAhead_0 8 rfl rfl)
theorem dX5_isAhead_9 : decode cX5_isAhead 9 = .ok (.invokevirtual 242, 3) := dk_182 0 242 (dk_at dksX5_isAhead_0 9 rfl rfl)
theorem dX5_isAhead_12 : decode cX5_isAhead 12 = .ok (.if_icmp .eq 24, 3) := dk_159 0 24 (dk_at dksX5_isAhead_0 12 rfl rfl)
theorem dX5_isAhead_15 : decode cX5_isAhead 15 = .ok (.aload_n 0, 1) := dk_42 (dk_at dksX5_isAhead_0 15 rfl rfl)
theorem dX5_isAhead_16 : decode cX5_isAhead 16 = .ok (.iconst 2, 1) := dk_5 (dk_at dksX5_isAhead_0 16 rfl rfl)
theorem dX5_isAhead_17 : decode cX5_isAhead 17 = .ok (.iload_n 1, 1) := dk_27 (dk_at dksX5_isAhead_0 17 rfl rfl)
theorem dX5_isAhead_18 : decode cX5_isAhead 18 = .ok (.invokevirtual 242, 3) := dk_182 0 242 (dk_at dksX5_isAhead_0 18 rfl rfl)
theorem dX5_isAhead_21 : decode cX5_isAhead 21 = .ok (.aload_n 0, 1) := dk_42 (dk_at dksX5_isAhead_0 21 rfl rfl)
theorem dX5_isAhead_22 : decode cX5_isAhead 22 = .ok (.iconst 2, 1) := dk_5 (dk_at dksX5_isAhead_0 22 rfl rfl)
theorem dX5_isAhead_23 : decode cX5_isAhead 23 = .ok (.iload_n 2, 1) := dk_28 (dk_at dksX5_isAhead_0 23 rfl rfl)
theorem dX5_isAhead_24 : decode cX5_isAhead 24 = .ok (.invokevirtual 242, 3) := dk_182 0 242 (dk_at dksX5_isAhead_1 0 rfl rfl)
theorem dX5_isAhead_27 : decode cX5_isAhead 27 = .ok (.if_icmp .le 7, 3) := dk_164 0 7 (dk_at dksX5_isAhead_1 3 rfl rfl)
theorem dX5_isAhead_30 : decode cX5_isAhead 30 = .ok (.iconst 1, 1) := dk_4 (dk_at dksX5_isAhead_1 6 rfl rfl)
theorem dX5_isAhead_31 : decode cX5_isAhead 31 = .ok (.goto 4, 3) := dk_167 0 4 (dk_at dksX5_isAhead_1 7 rfl rfl)
theorem dX5_isAhead_34 : decode cX5_isAhead 34 = .ok (.iconst 0, 1) := dk_3 (dk_at dksX5_isAhead_1 10 rfl rfl)
theorem dX5_isAhead_35 : decode cX5_isAhead 35 = .ok (.ireturn, 1) := dk_172 (dk_at dksX5_isAhead_1 11 rfl rfl)
theorem dX5_isAhead_36 : decode cX5_isAhead 36 = .ok (.aload_n 0, 1) := dk_42 (dk_at dksX5_isAhead_1 12 rfl rfl)
theorem dX5_isAhead_37 : decode cX5_isAhead 37 = .ok (.iconst 0, 1) := dk_3 (dk_at dksX5_isAhead_1 13 rfl rfl)
theorem dX5_isAhead_38 : decode cX5_isAhead 38 = .ok (.iload_n 1, 1) := dk_27 (dk_at dksX5_isAhead_1 14 rfl rfl)
theorem dX5_isAhead_39 : decode cX5_isAhead 39 = .ok (.invokevirtual 242, 3) := dk_182 0 242 (dk_at dksX5_isAhead_1 15 rfl rfl)
theorem dX5_isAhead_42 : decode cX5_isAhead 42 = .ok (.aload_n 0, 1) := dk_42 (dk_at dksX5_isAhead_1 18 rfl rfl)
theorem dX5_isAhead_43 : decode cX5_isAhead 43 = .ok (.iconst 0, 1) := dk_3 (dk_at dksX5_isAhead_1 19 rfl rfl)
theorem dX5_isAhead_44 : decode cX5_isAhead 44 = .ok (.iload_n 2, 1) := dk_28 (dk_at dksX5_isAhead_1 20 rfl rfl)
theorem dX5_isAhead_45 : decode cX5_isAhead 45 = .ok (.invokevirtual 242, 3) := dk_182 0 242 (dk_at dksX5_isAhead_1 21 rfl rfl)
theorem dX5_isAhead_48 : decode cX5_isAhead 48 = .ok (.if_icmp .eq 20, 3) := dk_159 0 20 (dk_at dksX5_isAhead_2 0 rfl rfl)
theorem dX5_isAhead_51 : decode cX5_isAhead 51 = .ok (.aload_n 0, 1) := dk_42 (dk_at dksX5_isAhead_2 3 rfl rfl)
theorem dX5_isAhead_52 : decode cX5_isAhead 52 = .ok (.aload_n 0, 1) := dk_42 (dk_at dksX5_isAhead_2 4 rfl rfl)
theorem dX5_isAhead_53 : decode cX5_isAhead 53 = .ok (.iconst 0, 1) := dk_3 (dk_at dksX5_isAhead_2 5 rfl rfl)
theorem dX5_isAhead_54 : decode cX5_isAhead 54 = .ok (.iload_n 1, 1) := dk_27 (dk_at dksX5_isAhead_2 6 rfl rfl)
theorem dX5_isAhead_55 : decode cX5_isAhead 55 = .ok (.invokevirtual 242, 3) := dk_182 0 242 (dk_at dksX5_isAhead_2 7 rfl rfl)
theorem dX5_isAhead_58 : decode cX5_isAhead 58 = .ok (.aload_n 0, 1) := dk_42 (dk_at dksX5_isAhead_2 10 rfl rfl)
theorem dX5_isAhead_59 : decode cX5_isAhead 59 = .ok (.iconst 0, 1) := dk_3 (dk_at dksX5_isAhead_2 11 rfl rfl)
theorem dX5_isAhead_60 : decode cX5_isAhead 60 = .ok (.iload_n 2, 1) := dk_28 (dk_at dksX5_isAhead_2 12 rfl rfl)
theorem dX5_isAhead_61 : decode cX5_isAhead 61 = .ok (.invokevirtual 242, 3) := dk_182 0 242 (dk_at dksX5_isAhead_2 13 rfl rfl)
theorem dX5_isAhead_64 : decode cX5_isAhead 64 = .ok (.invokevirtual 160, 3) := dk_182 0 160 (dk_at dksX5_isAhead_2 16 rfl rfl)
theorem dX5_isAhead_67 : decode cX5_isAhead 67 = .ok (.ireturn, 1) := dk_172 (dk_at dksX5_isAhead_2 19 rfl rfl)
theorem dX5_isAhead_68 : decode cX5_isAhead 68 = .ok (.iload_n 1, 1) := dk_27 (dk_at dksX5_isAhead_2 20 rfl rfl)
theorem dX5_isAhead_69 : decode cX5_isAhead 69 = .ok (.iload_n 2, 1) := dk_28 (dk_at dksX5_isAhead_2 21 rfl rfl)
theorem dX5_isAhead_70 : decode cX5_isAhead 70 = .ok (.if_icmp .ge 7, 3) := dk_162 0 7 (dk_at dksX5_isAhead_3 0 rfl rfl)
theorem dX5_isAhead_73 : decode cX5_isAhead 73 = .ok (.iconst 1, 1) := dk_4 (dk_at dksX5_isAhead_3 3 rfl rfl)
theorem dX5_isAhead_74 : decode cX5_isAhead 74 = .ok (.goto 4, 3) := dk_167 0 4 (dk_at dksX5_isAhead_3 4 rfl rfl)
theorem dX5_isAhead_77 : decode cX5_isAhead 77 = .ok (.iconst 0, 1) := dk_3 (dk_at dksX5_isAhead_3 7 rfl rfl)
theorem dX5_isAhead_78 : decode cX5_isAhead 78 = .ok (.ireturn, 1) := dk_172 (dk_at dksX5_isAhead_3 8 rfl rfl)
abbrev cX5_fire : ByteArray := prog_40_method_73_code
def yX5_fire : MethodName := ⟨RX5, "fire", "(II)I"⟩
def dkwX5_fire_4 : List UInt8 := [96, 92, 46, 42, 180, 0, 47, 29, 46, 96, 79, 132, 3, 1, 167, 255, 220, 42, 180, 0, 255, 172]
abbrev dktX5_fire_4 : List UInt8 := dkwX5_fire_4 ++ []
def dkwX5_fire_3 : List UInt8 := [3, 62, 29, 42, 180, 0, 73, 162, 0, 34, 42, 180, 0, 255, 154, 0, 27, 42, 180, 0, 7, 16, 96, 29]
abbrev dktX5_fire_3 : List UInt8 := dkwX5_fire_3 ++ dktX5_fire_4
def dkwX5_fire_2 : List UInt8 := [180, 1, 5, 162, 0, 21, 42, 180, 0, 50, 29, 42, 180, 0, 44, 29, 46, 79, 132, 3, 1, 167, 255, 227]
abbrev dktX5_fire_2 : List UInt8 := dkwX5_fire_2 ++ dktX5_fire_3
def dkwX5_fire_1 : List UInt8 := [182, 1, 17, 181, 1, 20, 42, 42, 180, 1, 5, 181, 1, 23, 3, 62, 29, 16, 30, 162, 0, 29, 29, 42]
abbrev dktX5_fire_1 : List UInt8 := dkwX5_fire_1 ++ dktX5_fire_2
def dkwX5_fire_0 : List UInt8 := [27, 184, 0, 236, 154, 0, 9, 42, 2, 182, 0, 69, 172, 42, 27, 2, 182, 0, 251, 42, 42, 28]
abbrev dktX5_fire_0 : List UInt8 := dkwX5_fire_0 ++ dktX5_fire_1
theorem dksX5_fire_0 : cX5_fire.data.toList.drop 0 = dktX5_fire_0 := by decide +kernel
theorem dksX5_fire_1 : cX5_fire.data.toList.drop 22 = dktX5_fire_1 := dk_seg dksX5_fire_0 22 rfl rfl
theorem dksX5_fire_2 : cX5_fire.data.toList.drop 46 = dktX5_fire_2 := dk_seg dksX5_fire_1 24 rfl rfl
theorem dksX5_fire_3 : cX5_fire.data.toList.drop 70 = dktX5_fire_3 := dk_seg dksX5_fire_2 24 rfl rfl
theorem dksX5_fire_4 : cX5_fire.data.toList.drop 94 = dktX5_fire_4 := dk_seg dksX5_fire_3 24 rfl rfl
theorem dX5_fire_0 : decode cX5_fire 0 = .ok (.iload_n 1, 1) := dk_27 (dk_at dksX5_fire_0 0 rfl rfl)
theorem dX5_fire_1 : decode cX5_fire 1 = .ok (.invokestatic 236, 3) := dk_184 0 236 (dk_at dksX5_fire_0 1 rfl rfl)
theorem dX5_fire_4 : decode cX5_fire 4 = .ok (.ifCond .ne 9, 3) := dk_154 0 9 (dk_at dksX5_fire_0 4 rfl rfl)
theorem dX5_fire_7 : decode cX5_fire 7 = .ok (.aload_n 0, 1) := dk_42 (dk_at dksX5_fire_0 7 rfl rfl)
theorem dX5_fire_8 : decode cX5_fire 8 = .ok (.iconst (-1), 1) := dk_2 (dk_at dksX5_fire_0 8 rfl rfl)
theorem dX5_fire_9 : decode cX5_fire 9 = .ok (.invokevirtual 69, 3) := dk_182 0 69 (dk_at dksX5_fire_0 9 rfl rfl)
theorem dX5_fire_12 : decode cX5_fire 12 = .ok (.ireturn, 1) := dk_172 (dk_at dksX5_fire_0 12 rfl rfl)
theorem dX5_fire_13 : decode cX5_fire 13 = .ok (.aload_n 0, 1) := dk_42 (dk_at dksX5_fire_0 13 rfl rfl)
theorem dX5_fire_14 : decode cX5_fire 14 = .ok (.iload_n 1, 1) := dk_27 (dk_at dksX5_fire_0 14 rfl rfl)
theorem dX5_fire_15 : decode cX5_fire 15 = .ok (.iconst (-1), 1) := dk_2 (dk_at dksX5_fire_0 15 rfl rfl)
theorem dX5_fire_16 : decode cX5_fire 16 = .ok (.invokevirtual 251, 3) := dk_182 0 251 (dk_at dksX5_fire_0 16 rfl rfl)
theorem dX5_fire_19 : decode cX5_fire 19 = .ok (.aload_n 0, 1) := dk_42 (dk_at dksX5_fire_0 19 rfl rfl)
theorem dX5_fire_20 : decode cX5_fire 20 = .ok (.aload_n 0, 1) := dk_42 (dk_at dksX5_fire_0 20 rfl rfl)
theorem dX5_fire_21 : decode cX5_fire 21 = .ok (.iload_n 2, 1) := dk_28 (dk_at dksX5_fire_0 21 rfl rfl)
theorem dX5_fire_22 : decode cX5_fire 22 = .ok (.invokevirtual 273, 3) := dk_182 1 17 (dk_at dksX5_fire_1 0 rfl rfl)
theorem dX5_fire_25 : decode cX5_fire 25 = .ok (.putfield 276, 3) := dk_181 1 20 (dk_at dksX5_fire_1 3 rfl rfl)
theorem dX5_fire_28 : decode cX5_fire 28 = .ok (.aload_n 0, 1) := dk_42 (dk_at dksX5_fire_1 6 rfl rfl)
theorem dX5_fire_29 : decode cX5_fire 29 = .ok (.aload_n 0, 1) := dk_42 (dk_at dksX5_fire_1 7 rfl rfl)
theorem dX5_fire_30 : decode cX5_fire 30 = .ok (.getfield 261, 3) := dk_180 1 5 (dk_at dksX5_fire_1 8 rfl rfl)
theorem dX5_fire_33 : decode cX5_fire 33 = .ok (.putfield 279, 3) := dk_181 1 23 (dk_at dksX5_fire_1 11 rfl rfl)
theorem dX5_fire_36 : decode cX5_fire 36 = .ok (.iconst 0, 1) := dk_3 (dk_at dksX5_fire_1 14 rfl rfl)
theorem dX5_fire_37 : decode cX5_fire 37 = .ok (.istore_n 3, 1) := dk_62 (dk_at dksX5_fire_1 15 rfl rfl)
theorem dX5_fire_38 : decode cX5_fire 38 = .ok (.iload_n 3, 1) := dk_29 (dk_at dksX5_fire_1 16 rfl rfl)
theorem dX5_fire_39 : decode cX5_fire 39 = .ok (.bipush 30, 2) := dk_16 30 (dk_at dksX5_fire_1 17 rfl rfl)
theorem dX5_fire_41 : decode cX5_fire 41 = .ok (.if_icmp .ge 29, 3) := dk_162 0 29 (dk_at dksX5_fire_1 19 rfl rfl)
theorem dX5_fire_44 : decode cX5_fire 44 = .ok (.iload_n 3, 1) := dk_29 (dk_at dksX5_fire_1 22 rfl rfl)
theorem dX5_fire_45 : decode cX5_fire 45 = .ok (.aload_n 0, 1) := dk_42 (dk_at dksX5_fire_1 23 rfl rfl)
theorem dX5_fire_46 : decode cX5_fire 46 = .ok (.getfield 261, 3) := dk_180 1 5 (dk_at dksX5_fire_2 0 rfl rfl)
theorem dX5_fire_49 : decode cX5_fire 49 = .ok (.if_icmp .ge 21, 3) := dk_162 0 21 (dk_at dksX5_fire_2 3 rfl rfl)
theorem dX5_fire_52 : decode cX5_fire 52 = .ok (.aload_n 0, 1) := dk_42 (dk_at dksX5_fire_2 6 rfl rfl)
theorem dX5_fire_53 : decode cX5_fire 53 = .ok (.getfield 50, 3) := dk_180 0 50 (dk_at dksX5_fire_2 7 rfl rfl)
theorem dX5_fire_56 : decode cX5_fire 56 = .ok (.iload_n 3, 1) := dk_29 (dk_at dksX5_fire_2 10 rfl rfl)
theorem dX5_fire_57 : decode cX5_fire 57 = .ok (.aload_n 0, 1) := dk_42 (dk_at dksX5_fire_2 11 rfl rfl)
theorem dX5_fire_58 : decode cX5_fire 58 = .ok (.getfield 44, 3) := dk_180 0 44 (dk_at dksX5_fire_2 12 rfl rfl)
theorem dX5_fire_61 : decode cX5_fire 61 = .ok (.iload_n 3, 1) := dk_29 (dk_at dksX5_fire_2 15 rfl rfl)
theorem dX5_fire_62 : decode cX5_fire 62 = .ok (.iaload, 1) := dk_46 (dk_at dksX5_fire_2 16 rfl rfl)
theorem dX5_fire_63 : decode cX5_fire 63 = .ok (.iastore, 1) := dk_79 (dk_at dksX5_fire_2 17 rfl rfl)
theorem dX5_fire_64 : decode cX5_fire 64 = .ok (.iinc 3 1, 3) := dk_132 3 1 (dk_at dksX5_fire_2 18 rfl rfl)
theorem dX5_fire_67 : decode cX5_fire 67 = .ok (.goto (-29), 3) := dk_167 255 227 (dk_at dksX5_fire_2 21 rfl rfl)
theorem dX5_fire_70 : decode cX5_fire 70 = .ok (.iconst 0, 1) := dk_3 (dk_at dksX5_fire_3 0 rfl rfl)
theorem dX5_fire_71 : decode cX5_fire 71 = .ok (.istore_n 3, 1) := dk_62 (dk_at dksX5_fire_3 1 rfl rfl)
theorem dX5_fire_72 : decode cX5_fire 72 = .ok (.iload_n 3, 1) := dk_29 (dk_at dksX5_fire_3 2 rfl rfl)
theorem dX5_fire_73 : decode cX5_fire 73 = .ok (.aload_n 0, 1) := dk_42 (dk_at dksX5_fire_3 3 rfl rfl)
theorem dX5_fire_74 : decode cX5_fire 74 = .ok (.getfield 73, 3) := dk_180 0 73 (dk_at dksX5_fire_3 4 rfl rfl)
theorem dX5_fire_77 : decode cX5_fire 77 = .ok (.if_icmp .ge 34, 3) := dk_162 0 34 (dk_at dksX5_fire_3 7 rfl rfl)
theorem dX5_fire_80 : decode cX5_fire 80 = .ok (.aload_n 0, 1) := dk_42 (dk_at dksX5_fire_3 10 rfl rfl)
theorem dX5_fire_81 : decode cX5_fire 81 = .ok (.getfield 255, 3) := dk_180 0 255 (dk_at dksX5_fire_3 11 rfl rfl)
theorem dX5_fire_84 : decode cX5_fire 84 = .ok (.ifCond .ne 27, 3) := dk_154 0 27 (dk_at dksX5_fire_3 14 rfl rfl)
theorem dX5_fire_87 : decode cX5_fire 87 = .ok (.aload_n 0, 1) := dk_42 (dk_at dksX5_fire_3 17 rfl rfl)
theorem dX5_fire_88 : decode cX5_fire 88 = .ok (.getfield 7, 3) := dk_180 0 7 (dk_at dksX5_fire_3 18 rfl rfl)
theorem dX5_fire_91 : decode cX5_fire 91 = .ok (.bipush 96, 2) := dk_16 96 (dk_at dksX5_fire_3 21 rfl rfl)
theorem dX5_fire_93 : decode cX5_fire 93 = .ok (.iload_n 3, 1) := dk_29 (dk_at dksX5_fire_3 23 rfl rfl)
theorem dX5_fire_94 : decode cX5_fire 94 = .ok (.iadd, 1) := dk_96 (dk_at dksX5_fire_4 0 rfl rfl)
theorem dX5_fire_95 : decode cX5_fire 95 = .ok (.dup2, 1) := dk_92 (dk_at dksX5_fire_4 1 rfl rfl)
theorem dX5_fire_96 : decode cX5_fire 96 = .ok (.iaload, 1) := dk_46 (dk_at dksX5_fire_4 2 rfl rfl)
theorem dX5_fire_97 : decode cX5_fire 97 = .ok (.aload_n 0, 1) := dk_42 (dk_at dksX5_fire_4 3 rfl rfl)
theorem dX5_fire_98 : decode cX5_fire 98 = .ok (.getfield 47, 3) := dk_180 0 47 (dk_at dksX5_fire_4 4 rfl rfl)
theorem dX5_fire_101 : decode cX5_fire 101 = .ok (.iload_n 3, 1) := dk_29 (dk_at dksX5_fire_4 7 rfl rfl)
theorem dX5_fire_102 : decode cX5_fire 102 = .ok (.iaload, 1) := dk_46 (dk_at dksX5_fire_4 8 rfl rfl)
theorem dX5_fire_103 : decode cX5_fire 103 = .ok (.iadd, 1) := dk_96 (dk_at dksX5_fire_4 9 rfl rfl)
theorem dX5_fire_104 : decode cX5_fire 104 = .ok (.iastore, 1) := dk_79 (dk_at dksX5_fire_4 10 rfl rfl)
theorem dX5_fire_105 : decode cX5_fire 105 = .ok (.iinc 3 1, 3) := dk_132 3 1 (dk_at dksX5_fire_4 11 rfl rfl)
theorem dX5_fire_108 : decode cX5_fire 108 = .ok (.goto (-36), 3) := dk_167 255 220 (dk_at dksX5_fire_4 14 rfl rfl)
theorem dX5_fire_111 : decode cX5_fire 111 = .ok (.aload_n 0, 1) := dk_42 (dk_at dksX5_fire_4 17 rfl rfl)
theorem dX5_fire_112 : decode cX5_fire 112 = .ok (.getfield 255, 3) := dk_180 0 255 (dk_at dksX5_fire_4 18 rfl rfl)
theorem dX5_fire_115 : decode cX5_fire 115 = .ok (.ireturn, 1) := dk_172 (dk_at dksX5_fire_4 21 rfl rfl)
abbrev cX5_fires : ByteArray := prog_40_method_72_code
def yX5_fires : MethodName := ⟨RX5, "fires", "(I)I"⟩
def dkwX5_fires_2 : List UInt8 := [154, 0, 7, 28, 167, 0, 19, 42, 180, 0, 255, 4, 160, 0, 10, 42, 180, 1, 2, 167, 0, 4, 3, 172]
abbrev dktX5_fires_2 : List UInt8 := dkwX5_fires_2 ++ []
def dkwX5_fires_1 : List UInt8 := [180, 0, 47, 28, 3, 79, 132, 2, 1, 167, 255, 240, 42, 3, 27, 182, 1, 8, 61, 42, 180, 0, 255]
abbrev dktX5_fires_1 : List UInt8 := dkwX5_fires_1 ++ dktX5_fires_2
def dkwX5_fires_0 : List UInt8 := [42, 3, 181, 0, 255, 42, 3, 181, 1, 2, 42, 3, 181, 1, 5, 3, 61, 28, 16, 12, 162, 0, 16, 42]
abbrev dktX5_fires_0 : List UInt8 := dkwX5_fires_0 ++ dktX5_fires_1
theorem dksX5_fires_0 : cX5_fires.data.toList.drop 0 = dktX5_fires_0 := by decide +kernel
theorem dksX5_fires_1 : cX5_fires.data.toList.drop 24 = dktX5_fires_1 := dk_seg dksX5_fires_0 24 rfl rfl
theorem dksX5_fires_2 : cX5_fires.data.toList.drop 47 = dktX5_fires_2 := dk_seg dksX5_fires_1 23 rfl rfl
theorem dX5_fires_0 : decode cX5_fires 0 = .ok (.aload_n 0, 1) := dk_42 (dk_at dksX5_fires_0 0 rfl rfl)
theorem dX5_fires_1 : decode cX5_fires 1 = .ok (.iconst 0, 1) := dk_3 (dk_at dksX5_fires_0 1 rfl rfl)
theorem dX5_fires_2 : decode cX5_fires 2 = .ok (.putfield 255, 3) := dk_181 0 255 (dk_at dksX5_fires_0 2 rfl rfl)
theorem dX5_fires_5 : decode cX5_fires 5 = .ok (.aload_n 0, 1) := dk_42 (dk_at dksX5_fires_0 5 rfl rfl)
theorem dX5_fires_6 : decode cX5_fires 6 = .ok (.iconst 0, 1) := dk_3 (dk_at dksX5_fires_0 6 rfl rfl)
theorem dX5_fires_7 : decode cX5_fires 7 = .ok (.putfield 258, 3) := dk_181 1 2 (dk_at dksX5_fires_0 7 rfl rfl)
theorem dX5_fires_10 : decode cX5_fires 10 = .ok (.aload_n 0, 1) := dk_42 (dk_at dksX5_fires_0 10 rfl rfl)
theorem dX5_fires_11 : decode cX5_fires 11 = .ok (.iconst 0, 1) := dk_3 (dk_at dksX5_fires_0 11 rfl rfl)
theorem dX5_fires_12 : decode cX5_fires 12 = .ok (.putfield 261, 3) := dk_181 1 5 (dk_at dksX5_fires_0 12 rfl rfl)
theorem dX5_fires_15 : decode cX5_fires 15 = .ok (.iconst 0, 1) := dk_3 (dk_at dksX5_fires_0 15 rfl rfl)
theorem dX5_fires_16 : decode cX5_fires 16 = .ok (.istore_n 2, 1) := dk_61 (dk_at dksX5_fires_0 16 rfl rfl)
theorem dX5_fires_17 : decode cX5_fires 17 = .ok (.iload_n 2, 1) := dk_28 (dk_at dksX5_fires_0 17 rfl rfl)
theorem dX5_fires_18 : decode cX5_fires 18 = .ok (.bipush 12, 2) := dk_16 12 (dk_at dksX5_fires_0 18 rfl rfl)
theorem dX5_fires_20 : decode cX5_fires 20 = .ok (.if_icmp .ge 16, 3) := dk_162 0 16 (dk_at dksX5_fires_0 20 rfl rfl)
theorem dX5_fires_23 : decode cX5_fires 23 = .ok (.aload_n 0, 1) := dk_42 (dk_at dksX5_fires_0 23 rfl rfl)
theorem dX5_fires_24 : decode cX5_fires 24 = .ok (.getfield 47, 3) := dk_180 0 47 (dk_at dksX5_fires_1 0 rfl rfl)
theorem dX5_fires_27 : decode cX5_fires 27 = .ok (.iload_n 2, 1) := dk_28 (dk_at dksX5_fires_1 3 rfl rfl)
theorem dX5_fires_28 : decode cX5_fires 28 = .ok (.iconst 0, 1) := dk_3 (dk_at dksX5_fires_1 4 rfl rfl)
theorem dX5_fires_29 : decode cX5_fires 29 = .ok (.iastore, 1) := dk_79 (dk_at dksX5_fires_1 5 rfl rfl)
theorem dX5_fires_30 : decode cX5_fires 30 = .ok (.iinc 2 1, 3) := dk_132 2 1 (dk_at dksX5_fires_1 6 rfl rfl)
theorem dX5_fires_33 : decode cX5_fires 33 = .ok (.goto (-16), 3) := dk_167 255 240 (dk_at dksX5_fires_1 9 rfl rfl)
theorem dX5_fires_36 : decode cX5_fires 36 = .ok (.aload_n 0, 1) := dk_42 (dk_at dksX5_fires_1 12 rfl rfl)
theorem dX5_fires_37 : decode cX5_fires 37 = .ok (.iconst 0, 1) := dk_3 (dk_at dksX5_fires_1 13 rfl rfl)
theorem dX5_fires_38 : decode cX5_fires 38 = .ok (.iload_n 1, 1) := dk_27 (dk_at dksX5_fires_1 14 rfl rfl)
theorem dX5_fires_39 : decode cX5_fires 39 = .ok (.invokevirtual 264, 3) := dk_182 1 8 (dk_at dksX5_fires_1 15 rfl rfl)
theorem dX5_fires_42 : decode cX5_fires 42 = .ok (.istore_n 2, 1) := dk_61 (dk_at dksX5_fires_1 18 rfl rfl)
theorem dX5_fires_43 : decode cX5_fires 43 = .ok (.aload_n 0, 1) := dk_42 (dk_at dksX5_fires_1 19 rfl rfl)
theorem dX5_fires_44 : decode cX5_fires 44 = .ok (.getfield 255, 3) := dk_180 0 255 (dk_at dksX5_fires_1 20 rfl rfl)
theorem dX5_fires_47 : decode cX5_fires 47 = .ok (.ifCond .ne 7, 3) := dk_154 0 7 (dk_at dksX5_fires_2 0 rfl rfl)
theorem dX5_fires_50 : decode cX5_fires 50 = .ok (.iload_n 2, 1) := dk_28 (dk_at dksX5_fires_2 3 rfl rfl)
theorem dX5_fires_51 : decode cX5_fires 51 = .ok (.goto 19, 3) := dk_167 0 19 (dk_at dksX5_fires_2 4 rfl rfl)
theorem dX5_fires_54 : decode cX5_fires 54 = .ok (.aload_n 0, 1) := dk_42 (dk_at dksX5_fires_2 7 rfl rfl)
theorem dX5_fires_55 : decode cX5_fires 55 = .ok (.getfield 255, 3) := dk_180 0 255 (dk_at dksX5_fires_2 8 rfl rfl)
theorem dX5_fires_58 : decode cX5_fires 58 = .ok (.iconst 1, 1) := dk_4 (dk_at dksX5_fires_2 11 rfl rfl)
theorem dX5_fires_59 : decode cX5_fires 59 = .ok (.if_icmp .ne 10, 3) := dk_160 0 10 (dk_at dksX5_fires_2 12 rfl rfl)
theorem dX5_fires_62 : decode cX5_fires 62 = .ok (.aload_n 0, 1) := dk_42 (dk_at dksX5_fires_2 15 rfl rfl)
theorem dX5_fires_63 : decode cX5_fires 63 = .ok (.getfield 258, 3) := dk_180 1 2 (dk_at dksX5_fires_2 16 rfl rfl)
theorem dX5_fires_66 : decode cX5_fires 66 = .ok (.goto 4, 3) := dk_167 0 4 (dk_at dksX5_fires_2 19 rfl rfl)
theorem dX5_fires_69 : decode cX5_fires 69 = .ok (.iconst 0, 1) := dk_3 (dk_at dksX5_fires_2 22 rfl rfl)
theorem dX5_fires_70 : decode cX5_fires 70 = .ok (.ireturn, 1) := dk_172 (dk_at dksX5_fires_2 23 rfl rfl)
abbrev cX5_rest : ByteArray := prog_40_method_71_code
def yX5_rest : MethodName := ⟨RX5, "rest", "(II)I"⟩
def dkwX5_rest_13 : List UInt8 := [180, 1, 2, 21, 4, 96, 172]
abbrev dktX5_rest_13 : List UInt8 := dkwX5_rest_13 ++ []
def dkwX5_rest_12 : List UInt8 := [182, 1, 8, 54, 5, 42, 180, 0, 255, 4, 159, 0, 6, 21, 5, 172, 42, 3, 181, 0, 255, 42]
abbrev dktX5_rest_12 : List UInt8 := dkwX5_rest_12 ++ dktX5_rest_13
def dkwX5_rest_11 : List UInt8 := [42, 28, 182, 1, 14, 167, 0, 11, 42, 27, 4, 96, 28, 182, 1, 8, 172, 42, 27, 4, 96, 28]
abbrev dktX5_rest_11 : List UInt8 := dkwX5_rest_11 ++ dktX5_rest_12
def dkwX5_rest_10 : List UInt8 := [29, 182, 0, 242, 92, 46, 28, 96, 79, 42, 27, 4, 96, 28, 182, 1, 8, 172, 28, 21, 4, 162, 0, 11]
abbrev dktX5_rest_10 : List UInt8 := dkwX5_rest_10 ++ dktX5_rest_11
def dkwX5_rest_9 : List UInt8 := [42, 27, 4, 96, 28, 182, 1, 8, 54, 5, 21, 5, 42, 180, 1, 5, 96, 172, 42, 180, 0, 47, 42, 3]
abbrev dktX5_rest_9 : List UInt8 := dkwX5_rest_9 ++ dktX5_rest_10
def dkwX5_rest_8 : List UInt8 := [42, 27, 4, 96, 28, 182, 1, 8, 172, 42, 27, 4, 96, 28, 21, 4, 130, 182, 1, 8, 21, 4, 130, 172]
abbrev dktX5_rest_8 : List UInt8 := dkwX5_rest_8 ++ dktX5_rest_9
def dkwX5_rest_7 : List UInt8 := [182, 1, 8, 167, 0, 4, 3, 172, 28, 184, 1, 11, 21, 4, 184, 1, 11, 160, 0, 7, 28, 167, 0, 11]
abbrev dktX5_rest_7 : List UInt8 := dkwX5_rest_7 ++ dktX5_rest_8
def dkwX5_rest_6 : List UInt8 := [42, 27, 4, 96, 28, 182, 1, 8, 54, 5, 42, 180, 0, 255, 154, 0, 15, 42, 27, 4, 96, 21, 5]
abbrev dktX5_rest_6 : List UInt8 := dkwX5_rest_6 ++ dktX5_rest_7
def dkwX5_rest_5 : List UInt8 := [42, 27, 4, 96, 28, 21, 4, 96, 182, 1, 8, 172, 42, 27, 4, 96, 28, 182, 1, 8, 21, 4, 104, 172]
abbrev dktX5_rest_5 : List UInt8 := dkwX5_rest_5 ++ dktX5_rest_6
def dkwX5_rest_4 : List UInt8 := [170, 0, 0, 0, 0, 0, 207, 0, 0, 0, 0, 0, 0, 0, 7, 0, 0, 0, 47, 0, 0, 0, 59, 0, 0, 0, 71, 0, 0, 0, 102, 0, 0, 0, 127, 0, 0, 0, 142, 0, 0, 0, 160, 0, 0, 0, 184]
abbrev dktX5_rest_4 : List UInt8 := dkwX5_rest_4 ++ dktX5_rest_5
def dkwX5_rest_3 : List UInt8 := [182, 0, 242, 54, 4, 42, 6, 29, 182, 0, 242]
abbrev dktX5_rest_3 : List UInt8 := dkwX5_rest_3 ++ dktX5_rest_4
def dkwX5_rest_2 : List UInt8 := [180, 0, 44, 42, 180, 1, 5, 29, 79, 42, 89, 180, 1, 5, 4, 96, 181, 1, 5, 42, 7, 29]
abbrev dktX5_rest_2 : List UInt8 := dkwX5_rest_2 ++ dktX5_rest_3
def dkwX5_rest_1 : List UInt8 := [181, 0, 255, 3, 172, 42, 180, 0, 41, 27, 46, 62, 42, 180, 1, 5, 16, 30, 162, 0, 13, 42]
abbrev dktX5_rest_1 : List UInt8 := dkwX5_rest_1 ++ dktX5_rest_2
def dkwX5_rest_0 : List UInt8 := [27, 42, 180, 0, 245, 160, 0, 5, 28, 172, 42, 180, 1, 5, 17, 0, 200, 160, 0, 10, 42, 5]
abbrev dktX5_rest_0 : List UInt8 := dkwX5_rest_0 ++ dktX5_rest_1
theorem dksX5_rest_0 : cX5_rest.data.toList.drop 0 = dktX5_rest_0 := by decide +kernel
theorem dksX5_rest_1 : cX5_rest.data.toList.drop 22 = dktX5_rest_1 := dk_seg dksX5_rest_0 22 rfl rfl
theorem dksX5_rest_2 : cX5_rest.data.toList.drop 44 = dktX5_rest_2 := dk_seg dksX5_rest_1 22 rfl rfl
theorem dksX5_rest_3 : cX5_rest.data.toList.drop 66 = dktX5_rest_3 := dk_seg dksX5_rest_2 22 rfl rfl
theorem dksX5_rest_4 : cX5_rest.data.toList.drop 77 = dktX5_rest_4 := dk_seg dksX5_rest_3 11 rfl rfl
theorem dksX5_rest_5 : cX5_rest.data.toList.drop 124 = dktX5_rest_5 := dk_seg dksX5_rest_4 47 rfl rfl
theorem dksX5_rest_6 : cX5_rest.data.toList.drop 148 = dktX5_rest_6 := dk_seg dksX5_rest_5 24 rfl rfl
theorem dksX5_rest_7 : cX5_rest.data.toList.drop 171 = dktX5_rest_7 := dk_seg dksX5_rest_6 23 rfl rfl
theorem dksX5_rest_8 : cX5_rest.data.toList.drop 195 = dktX5_rest_8 := dk_seg dksX5_rest_7 24 rfl rfl
theorem dksX5_rest_9 : cX5_rest.data.toList.drop 219 = dktX5_rest_9 := dk_seg dksX5_rest_8 24 rfl rfl
theorem dksX5_rest_10 : cX5_rest.data.toList.drop 243 = dktX5_rest_10 := dk_seg dksX5_rest_9 24 rfl rfl
theorem dksX5_rest_11 : cX5_rest.data.toList.drop 267 = dktX5_rest_11 := dk_seg dksX5_rest_10 24 rfl rfl
theorem dksX5_rest_12 : cX5_rest.data.toList.drop 289 = dktX5_rest_12 := dk_seg dksX5_rest_11 22 rfl rfl
theorem dksX5_rest_13 : cX5_rest.data.toList.drop 311 = dktX5_rest_13 := dk_seg dksX5_rest_12 22 rfl rfl
theorem dX5_rest_0 : decode cX5_rest 0 = .ok (.iload_n 1, 1) := dk_27 (dk_at dksX5_rest_0 0 rfl rfl)
theorem dX5_rest_1 : decode cX5_rest 1 = .ok (.aload_n 0, 1) := dk_42 (dk_at dksX5_rest_0 1 rfl rfl)
theorem dX5_rest_2 : decode cX5_rest 2 = .ok (.getfield 245, 3) := dk_180 0 245 (dk_at dksX5_rest_0 2 rfl rfl)
theorem dX5_rest_5 : decode cX5_rest 5 = .ok (.if_icmp .ne 5, 3) := dk_160 0 5 (dk_at dksX5_rest_0 5 rfl rfl)
theorem dX5_rest_8 : decode cX5_rest 8 = .ok (.iload_n 2, 1) := dk_28 (dk_at dksX5_rest_0 8 rfl rfl)
theorem dX5_rest_9 : decode cX5_rest 9 = .ok (.ireturn, 1) := dk_172 (dk_at dksX5_rest_0 9 rfl rfl)
theorem dX5_rest_10 : decode cX5_rest 10 = .ok (.aload_n 0, 1) := dk_42 (dk_at dksX5_rest_0 10 rfl rfl)
theorem dX5_rest_11 : decode cX5_rest 11 = .ok (.getfield 261, 3) := dk_180 1 5 (dk_at dksX5_rest_0 11 rfl rfl)
theorem dX5_rest_14 : decode cX5_rest 14 = .ok (.sipush 200, 3) := dk_17 0 200 (dk_at dksX5_rest_0 14 rfl rfl)
theorem dX5_rest_17 : decode cX5_rest 17 = .ok (.if_icmp .ne 10, 3) := dk_160 0 10 (dk_at dksX5_rest_0 17 rfl rfl)
theorem dX5_rest_20 : decode cX5_rest 20 = .ok (.aload_n 0, 1) := dk_42 (dk_at dksX5_rest_0 20 rfl rfl)
theorem dX5_rest_21 : decode cX5_rest 21 = .ok (.iconst 2, 1) := dk_5 (dk_at dksX5_rest_0 21 rfl rfl)
theorem dX5_rest_22 : decode cX5_rest 22 = .ok (.putfield 255, 3) := dk_181 0 255 (dk_at dksX5_rest_1 0 rfl rfl)
theorem dX5_rest_25 : decode cX5_rest 25 = .ok (.iconst 0, 1) := dk_3 (dk_at dksX5_rest_1 3 rfl rfl)
theorem dX5_rest_26 : decode cX5_rest 26 = .ok (.ireturn, 1) := dk_172 (dk_at dksX5_rest_1 4 rfl rfl)
theorem dX5_rest_27 : decode cX5_rest 27 = .ok (.aload_n 0, 1) := dk_42 (dk_at dksX5_rest_1 5 rfl rfl)
theorem dX5_rest_28 : decode cX5_rest 28 = .ok (.getfield 41, 3) := dk_180 0 41 (dk_at dksX5_rest_1 6 rfl rfl)
theorem dX5_rest_31 : decode cX5_rest 31 = .ok (.iload_n 1, 1) := dk_27 (dk_at dksX5_rest_1 9 rfl rfl)
theorem dX5_rest_32 : decode cX5_rest 32 = .ok (.iaload, 1) := dk_46 (dk_at dksX5_rest_1 10 rfl rfl)
theorem dX5_rest_33 : decode cX5_rest 33 = .ok (.istore_n 3, 1) := dk_62 (dk_at dksX5_rest_1 11 rfl rfl)
theorem dX5_rest_34 : decode cX5_rest 34 = .ok (.aload_n 0, 1) := dk_42 (dk_at dksX5_rest_1 12 rfl rfl)
theorem dX5_rest_35 : decode cX5_rest 35 = .ok (.getfield 261, 3) := dk_180 1 5 (dk_at dksX5_rest_1 13 rfl rfl)
theorem dX5_rest_38 : decode cX5_rest 38 = .ok (.bipush 30, 2) := dk_16 30 (dk_at dksX5_rest_1 16 rfl rfl)
theorem dX5_rest_40 : decode cX5_rest 40 = .ok (.if_icmp .ge 13, 3) := dk_162 0 13 (dk_at dksX5_rest_1 18 rfl rfl)
theorem dX5_rest_43 : decode cX5_rest 43 = .ok (.aload_n 0, 1) := dk_42 (dk_at dksX5_rest_1 21 rfl rfl)
theorem dX5_rest_44 : decode cX5_rest 44 = .ok (.getfield 44, 3) := dk_180 0 44 (dk_at dksX5_rest_2 0 rfl rfl)
theorem dX5_rest_47 : decode cX5_rest 47 = .ok (.aload_n 0, 1) := dk_42 (dk_at dksX5_rest_2 3 rfl rfl)
theorem dX5_rest_48 : decode cX5_rest 48 = .ok (.getfield 261, 3) := dk_180 1 5 (dk_at dksX5_rest_2 4 rfl rfl)
theorem dX5_rest_51 : decode cX5_rest 51 = .ok (.iload_n 3, 1) := dk_29 (dk_at dksX5_rest_2 7 rfl rfl)
theorem dX5_rest_52 : decode cX5_rest 52 = .ok (.iastore, 1) := dk_79 (dk_at dksX5_rest_2 8 rfl rfl)
theorem dX5_rest_53 : decode cX5_rest 53 = .ok (.aload_n 0, 1) := dk_42 (dk_at dksX5_rest_2 9 rfl rfl)
theorem dX5_rest_54 : decode cX5_rest 54 = .ok (.dup, 1) := dk_89 (dk_at dksX5_rest_2 10 rfl rfl)
theorem dX5_rest_55 : decode cX5_rest 55 = .ok (.getfield 261, 3) := dk_180 1 5 (dk_at dksX5_rest_2 11 rfl rfl)
theorem dX5_rest_58 : decode cX5_rest 58 = .ok (.iconst 1, 1) := dk_4 (dk_at dksX5_rest_2 14 rfl rfl)
theorem dX5_rest_59 : decode cX5_rest 59 = .ok (.iadd, 1) := dk_96 (dk_at dksX5_rest_2 15 rfl rfl)
theorem dX5_rest_60 : decode cX5_rest 60 = .ok (.putfield 261, 3) := dk_181 1 5 (dk_at dksX5_rest_2 16 rfl rfl)
theorem dX5_rest_63 : decode cX5_rest 63 = .ok (.aload_n 0, 1) := dk_42 (dk_at dksX5_rest_2 19 rfl rfl)
theorem dX5_rest_64 : decode cX5_rest 64 = .ok (.iconst 4, 1) := dk_7 (dk_at dksX5_rest_2 20 rfl rfl)
theorem dX5_rest_65 : decode cX5_rest 65 = .ok (.iload_n 3, 1) := dk_29 (dk_at dksX5_rest_2 21 rfl rfl)
theorem dX5_rest_66 : decode cX5_rest 66 = .ok (.invokevirtual 242, 3) := dk_182 0 242 (dk_at dksX5_rest_3 0 rfl rfl)
theorem dX5_rest_69 : decode cX5_rest 69 = .ok (.istore 4, 2) := dk_54 4 (dk_at dksX5_rest_3 3 rfl rfl)
theorem dX5_rest_71 : decode cX5_rest 71 = .ok (.aload_n 0, 1) := dk_42 (dk_at dksX5_rest_3 5 rfl rfl)
theorem dX5_rest_72 : decode cX5_rest 72 = .ok (.iconst 3, 1) := dk_6 (dk_at dksX5_rest_3 6 rfl rfl)
theorem dX5_rest_73 : decode cX5_rest 73 = .ok (.iload_n 3, 1) := dk_29 (dk_at dksX5_rest_3 7 rfl rfl)
theorem dX5_rest_74 : decode cX5_rest 74 = .ok (.invokevirtual 242, 3) := dk_182 0 242 (dk_at dksX5_rest_3 8 rfl rfl)
theorem dX5_rest_77 : decode cX5_rest 77 = .ok (.tableswitch 207 0 7 #[47, 59, 71, 102, 127, 142, 160, 184], 47) := by decide +kernel
theorem dX5_rest_124 : decode cX5_rest 124 = .ok (.aload_n 0, 1) := dk_42 (dk_at dksX5_rest_5 0 rfl rfl)
theorem dX5_rest_125 : decode cX5_rest 125 = .ok (.iload_n 1, 1) := dk_27 (dk_at dksX5_rest_5 1 rfl rfl)
theorem dX5_rest_126 : decode cX5_rest 126 = .ok (.iconst 1, 1) := dk_4 (dk_at dksX5_rest_5 2 rfl rfl)
theorem dX5_rest_127 : decode cX5_rest 127 = .ok (.iadd, 1) := dk_96 (dk_at dksX5_rest_5 3 rfl rfl)
theorem dX5_rest_128 : decode cX5_rest 128 = .ok (.iload_n 2, 1) := dk_28 (dk_at dksX5_rest_5 4 rfl rfl)
theorem dX5_rest_129 : decode cX5_rest 129 = .ok (.iload 4, 2) := dk_21 4 (dk_at dksX5_rest_5 5 rfl rfl)
theorem dX5_rest_131 : decode cX5_rest 131 = .ok (.iadd, 1) := dk_96 (dk_at dksX5_rest_5 7 rfl rfl)
theorem dX5_rest_132 : decode cX5_rest 132 = .ok (.invokevirtual 264, 3) := dk_182 1 8 (dk_at dksX5_rest_5 8 rfl rfl)
theorem dX5_rest_135 : decode cX5_rest 135 = .ok (.ireturn, 1) := dk_172 (dk_at dksX5_rest_5 11 rfl rfl)
theorem dX5_rest_136 : decode cX5_rest 136 = .ok (.aload_n 0, 1) := dk_42 (dk_at dksX5_rest_5 12 rfl rfl)
theorem dX5_rest_137 : decode cX5_rest 137 = .ok (.iload_n 1, 1) := dk_27 (dk_at dksX5_rest_5 13 rfl rfl)
theorem dX5_rest_138 : decode cX5_rest 138 = .ok (.iconst 1, 1) := dk_4 (dk_at dksX5_rest_5 14 rfl rfl)
theorem dX5_rest_139 : decode cX5_rest 139 = .ok (.iadd, 1) := dk_96 (dk_at dksX5_rest_5 15 rfl rfl)
theorem dX5_rest_140 : decode cX5_rest 140 = .ok (.iload_n 2, 1) := dk_28 (dk_at dksX5_rest_5 16 rfl rfl)
theorem dX5_rest_141 : decode cX5_rest 141 = .ok (.invokevirtual 264, 3) := dk_182 1 8 (dk_at dksX5_rest_5 17 rfl rfl)
theorem dX5_rest_144 : decode cX5_rest 144 = .ok (.iload 4, 2) := dk_21 4 (dk_at dksX5_rest_5 20 rfl rfl)
theorem dX5_rest_146 : decode cX5_rest 146 = .ok (.imul, 1) := dk_104 (dk_at dksX5_rest_5 22 rfl rfl)
theorem dX5_rest_147 : decode cX5_rest 147 = .ok (.ireturn, 1) := dk_172 (dk_at dksX5_rest_5 23 rfl rfl)
theorem dX5_rest_148 : decode cX5_rest 148 = .ok (.aload_n 0, 1) := dk_42 (dk_at dksX5_rest_6 0 rfl rfl)
theorem dX5_rest_149 : decode cX5_rest 149 = .ok (.iload_n 1, 1) := dk_27 (dk_at dksX5_rest_6 1 rfl rfl)
theorem dX5_rest_150 : decode cX5_rest 150 = .ok (.iconst 1, 1) := dk_4 (dk_at dksX5_rest_6 2 rfl rfl)
theorem dX5_rest_151 : decode cX5_rest 151 = .ok (.iadd, 1) := dk_96 (dk_at dksX5_rest_6 3 rfl rfl)
theorem dX5_rest_152 : decode cX5_rest 152 = .ok (.iload_n 2, 1) := dk_28 (dk_at dksX5_rest_6 4 rfl rfl)
theorem dX5_rest_153 : decode cX5_rest 153 = .ok (.invokevirtual 264, 3) := dk_182 1 8 (dk_at dksX5_rest_6 5 rfl rfl)
theorem dX5_rest_156 : decode cX5_rest 156 = .ok (.istore 5, 2) := dk_54 5 (dk_at dksX5_rest_6 8 rfl rfl)
theorem dX5_rest_158 : decode cX5_rest 158 = .ok (.aload_n 0, 1) := dk_42 (dk_at dksX5_rest_6 10 rfl rfl)
theorem dX5_rest_159 : decode cX5_rest 159 = .ok (.getfield 255, 3) := dk_180 0 255 (dk_at dksX5_rest_6 11 rfl rfl)
theorem dX5_rest_162 : decode cX5_rest 162 = .ok (.ifCond .ne 15, 3) := dk_154 0 15 (dk_at dksX5_rest_6 14 rfl rfl)
theorem dX5_rest_165 : decode cX5_rest 165 = .ok (.aload_n 0, 1) := dk_42 (dk_at dksX5_rest_6 17 rfl rfl)
theorem dX5_rest_166 : decode cX5_rest 166 = .ok (.iload_n 1, 1) := dk_27 (dk_at dksX5_rest_6 18 rfl rfl)
theorem dX5_rest_167 : decode cX5_rest 167 = .ok (.iconst 1, 1) := dk_4 (dk_at dksX5_rest_6 19 rfl rfl)
theorem dX5_rest_168 : decode cX5_rest 168 = .ok (.iadd, 1) := dk_96 (dk_at dksX5_rest_6 20 rfl rfl)
theorem dX5_rest_169 : decode cX5_rest 169 = .ok (.iload 5, 2) := dk_21 5 (dk_at dksX5_rest_6 21 rfl rfl)
theorem dX5_rest_171 : decode cX5_rest 171 = .ok (.invokevirtual 264, 3) := dk_182 1 8 (dk_at dksX5_rest_7 0 rfl rfl)
theorem dX5_rest_174 : decode cX5_rest 174 = .ok (.goto 4, 3) := dk_167 0 4 (dk_at dksX5_rest_7 3 rfl rfl)
theorem dX5_rest_177 : decode cX5_rest 177 = .ok (.iconst 0, 1) := dk_3 (dk_at dksX5_rest_7 6 rfl rfl)
theorem dX5_rest_178 : decode cX5_rest 178 = .ok (.ireturn, 1) := dk_172 (dk_at dksX5_rest_7 7 rfl rfl)
theorem dX5_rest_179 : decode cX5_rest 179 = .ok (.iload_n 2, 1) := dk_28 (dk_at dksX5_rest_7 8 rfl rfl)
theorem dX5_rest_180 : decode cX5_rest 180 = .ok (.invokestatic 267, 3) := dk_184 1 11 (dk_at dksX5_rest_7 9 rfl rfl)
theorem dX5_rest_183 : decode cX5_rest 183 = .ok (.iload 4, 2) := dk_21 4 (dk_at dksX5_rest_7 12 rfl rfl)
theorem dX5_rest_185 : decode cX5_rest 185 = .ok (.invokestatic 267, 3) := dk_184 1 11 (dk_at dksX5_rest_7 14 rfl rfl)
theorem dX5_rest_188 : decode cX5_rest 188 = .ok (.if_icmp .ne 7, 3) := dk_160 0 7 (dk_at dksX5_rest_7 17 rfl rfl)
theorem dX5_rest_191 : decode cX5_rest 191 = .ok (.iload_n 2, 1) := dk_28 (dk_at dksX5_rest_7 20 rfl rfl)
theorem dX5_rest_192 : decode cX5_rest 192 = .ok (.goto 11, 3) := dk_167 0 11 (dk_at dksX5_rest_7 21 rfl rfl)
theorem dX5_rest_195 : decode cX5_rest 195 = .ok (.aload_n 0, 1) := dk_42 (dk_at dksX5_rest_8 0 rfl rfl)
theorem dX5_rest_196 : decode cX5_rest 196 = .ok (.iload_n 1, 1) := dk_27 (dk_at dksX5_rest_8 1 rfl rfl)
theorem dX5_rest_197 : decode cX5_rest 197 = .ok (.iconst 1, 1) := dk_4 (dk_at dksX5_rest_8 2 rfl rfl)
theorem dX5_rest_198 : decode cX5_rest 198 = .ok (.iadd, 1) := dk_96 (dk_at dksX5_rest_8 3 rfl rfl)
theorem dX5_rest_199 : decode cX5_rest 199 = .ok (.iload_n 2, 1) := dk_28 (dk_at dksX5_rest_8 4 rfl rfl)
theorem dX5_rest_200 : decode cX5_rest 200 = .ok (.invokevirtual 264, 3) := dk_182 1 8 (dk_at dksX5_rest_8 5 rfl rfl)
theorem dX5_rest_203 : decode cX5_rest 203 = .ok (.ireturn, 1) := dk_172 (dk_at dksX5_rest_8 8 rfl rfl)
theorem dX5_rest_204 : decode cX5_rest 204 = .ok (.aload_n 0, 1) := dk_42 (dk_at dksX5_rest_8 9 rfl rfl)
theorem dX5_rest_205 : decode cX5_rest 205 = .ok (.iload_n 1, 1) := dk_27 (dk_at dksX5_rest_8 10 rfl rfl)
theorem dX5_rest_206 : decode cX5_rest 206 = .ok (.iconst 1, 1) := dk_4 (dk_at dksX5_rest_8 11 rfl rfl)
theorem dX5_rest_207 : decode cX5_rest 207 = .ok (.iadd, 1) := dk_96 (dk_at dksX5_rest_8 12 rfl rfl)
theorem dX5_rest_208 : decode cX5_rest 208 = .ok (.iload_n 2, 1) := dk_28 (dk_at dksX5_rest_8 13 rfl rfl)
theorem dX5_rest_209 : decode cX5_rest 209 = .ok (.iload 4, 2) := dk_21 4 (dk_at dksX5_rest_8 14 rfl rfl)
theorem dX5_rest_211 : decode cX5_rest 211 = .ok (.ixor, 1) := dk_130 (dk_at dksX5_rest_8 16 rfl rfl)
theorem dX5_rest_212 : decode cX5_rest 212 = .ok (.invokevirtual 264, 3) := dk_182 1 8 (dk_at dksX5_rest_8 17 rfl rfl)
theorem dX5_rest_215 : decode cX5_rest 215 = .ok (.iload 4, 2) := dk_21 4 (dk_at dksX5_rest_8 20 rfl rfl)
theorem dX5_rest_217 : decode cX5_rest 217 = .ok (.ixor, 1) := dk_130 (dk_at dksX5_rest_8 22 rfl rfl)
theorem dX5_rest_218 : decode cX5_rest 218 = .ok (.ireturn, 1) := dk_172 (dk_at dksX5_rest_8 23 rfl rfl)
theorem dX5_rest_219 : decode cX5_rest 219 = .ok (.aload_n 0, 1) := dk_42 (dk_at dksX5_rest_9 0 rfl rfl)
theorem dX5_rest_220 : decode cX5_rest 220 = .ok (.iload_n 1, 1) := dk_27 (dk_at dksX5_rest_9 1 rfl rfl)
theorem dX5_rest_221 : decode cX5_rest 221 = .ok (.iconst 1, 1) := dk_4 (dk_at dksX5_rest_9 2 rfl rfl)
theorem dX5_rest_222 : decode cX5_rest 222 = .ok (.iadd, 1) := dk_96 (dk_at dksX5_rest_9 3 rfl rfl)
theorem dX5_rest_223 : decode cX5_rest 223 = .ok (.iload_n 2, 1) := dk_28 (dk_at dksX5_rest_9 4 rfl rfl)
theorem dX5_rest_224 : decode cX5_rest 224 = .ok (.invokevirtual 264, 3) := dk_182 1 8 (dk_at dksX5_rest_9 5 rfl rfl)
theorem dX5_rest_227 : decode cX5_rest 227 = .ok (.istore 5, 2) := dk_54 5 (dk_at dksX5_rest_9 8 rfl rfl)
theorem dX5_rest_229 : decode cX5_rest 229 = .ok (.iload 5, 2) := dk_21 5 (dk_at dksX5_rest_9 10 rfl rfl)
theorem dX5_rest_231 : decode cX5_rest 231 = .ok (.aload_n 0, 1) := dk_42 (dk_at dksX5_rest_9 12 rfl rfl)
theorem dX5_rest_232 : decode cX5_rest 232 = .ok (.getfield 261, 3) := dk_180 1 5 (dk_at dksX5_rest_9 13 rfl rfl)
theorem dX5_rest_235 : decode cX5_rest 235 = .ok (.iadd, 1) := dk_96 (dk_at dksX5_rest_9 16 rfl rfl)
theorem dX5_rest_236 : decode cX5_rest 236 = .ok (.ireturn, 1) := dk_172 (dk_at dksX5_rest_9 17 rfl rfl)
theorem dX5_rest_237 : decode cX5_rest 237 = .ok (.aload_n 0, 1) := dk_42 (dk_at dksX5_rest_9 18 rfl rfl)
theorem dX5_rest_238 : decode cX5_rest 238 = .ok (.getfield 47, 3) := dk_180 0 47 (dk_at dksX5_rest_9 19 rfl rfl)
theorem dX5_rest_241 : decode cX5_rest 241 = .ok (.aload_n 0, 1) := dk_42 (dk_at dksX5_rest_9 22 rfl rfl)
theorem dX5_rest_242 : decode cX5_rest 242 = .ok (.iconst 0, 1) := dk_3 (dk_at dksX5_rest_9 23 rfl rfl)
theorem dX5_rest_243 : decode cX5_rest 243 = .ok (.iload_n 3, 1) := dk_29 (dk_at dksX5_rest_10 0 rfl rfl)
theorem dX5_rest_244 : decode cX5_rest 244 = .ok (.invokevirtual 242, 3) := dk_182 0 242 (dk_at dksX5_rest_10 1 rfl rfl)
theorem dX5_rest_247 : decode cX5_rest 247 = .ok (.dup2, 1) := dk_92 (dk_at dksX5_rest_10 4 rfl rfl)
theorem dX5_rest_248 : decode cX5_rest 248 = .ok (.iaload, 1) := dk_46 (dk_at dksX5_rest_10 5 rfl rfl)
theorem dX5_rest_249 : decode cX5_rest 249 = .ok (.iload_n 2, 1) := dk_28 (dk_at dksX5_rest_10 6 rfl rfl)
theorem dX5_rest_250 : decode cX5_rest 250 = .ok (.iadd, 1) := dk_96 (dk_at dksX5_rest_10 7 rfl rfl)
theorem dX5_rest_251 : decode cX5_rest 251 = .ok (.iastore, 1) := dk_79 (dk_at dksX5_rest_10 8 rfl rfl)
theorem dX5_rest_252 : decode cX5_rest 252 = .ok (.aload_n 0, 1) := dk_42 (dk_at dksX5_rest_10 9 rfl rfl)
theorem dX5_rest_253 : decode cX5_rest 253 = .ok (.iload_n 1, 1) := dk_27 (dk_at dksX5_rest_10 10 rfl rfl)
theorem dX5_rest_254 : decode cX5_rest 254 = .ok (.iconst 1, 1) := dk_4 (dk_at dksX5_rest_10 11 rfl rfl)
theorem dX5_rest_255 : decode cX5_rest 255 = .ok (.iadd, 1) := dk_96 (dk_at dksX5_rest_10 12 rfl rfl)
theorem dX5_rest_256 : decode cX5_rest 256 = .ok (.iload_n 2, 1) := dk_28 (dk_at dksX5_rest_10 13 rfl rfl)
theorem dX5_rest_257 : decode cX5_rest 257 = .ok (.invokevirtual 264, 3) := dk_182 1 8 (dk_at dksX5_rest_10 14 rfl rfl)
theorem dX5_rest_260 : decode cX5_rest 260 = .ok (.ireturn, 1) := dk_172 (dk_at dksX5_rest_10 17 rfl rfl)
theorem dX5_rest_261 : decode cX5_rest 261 = .ok (.iload_n 2, 1) := dk_28 (dk_at dksX5_rest_10 18 rfl rfl)
theorem dX5_rest_262 : decode cX5_rest 262 = .ok (.iload 4, 2) := dk_21 4 (dk_at dksX5_rest_10 19 rfl rfl)
theorem dX5_rest_264 : decode cX5_rest 264 = .ok (.if_icmp .ge 11, 3) := dk_162 0 11 (dk_at dksX5_rest_10 21 rfl rfl)
theorem dX5_rest_267 : decode cX5_rest 267 = .ok (.aload_n 0, 1) := dk_42 (dk_at dksX5_rest_11 0 rfl rfl)
theorem dX5_rest_268 : decode cX5_rest 268 = .ok (.iload_n 2, 1) := dk_28 (dk_at dksX5_rest_11 1 rfl rfl)
theorem dX5_rest_269 : decode cX5_rest 269 = .ok (.invokevirtual 270, 3) := dk_182 1 14 (dk_at dksX5_rest_11 2 rfl rfl)
theorem dX5_rest_272 : decode cX5_rest 272 = .ok (.goto 11, 3) := dk_167 0 11 (dk_at dksX5_rest_11 5 rfl rfl)
theorem dX5_rest_275 : decode cX5_rest 275 = .ok (.aload_n 0, 1) := dk_42 (dk_at dksX5_rest_11 8 rfl rfl)
theorem dX5_rest_276 : decode cX5_rest 276 = .ok (.iload_n 1, 1) := dk_27 (dk_at dksX5_rest_11 9 rfl rfl)
theorem dX5_rest_277 : decode cX5_rest 277 = .ok (.iconst 1, 1) := dk_4 (dk_at dksX5_rest_11 10 rfl rfl)
theorem dX5_rest_278 : decode cX5_rest 278 = .ok (.iadd, 1) := dk_96 (dk_at dksX5_rest_11 11 rfl rfl)
theorem dX5_rest_279 : decode cX5_rest 279 = .ok (.iload_n 2, 1) := dk_28 (dk_at dksX5_rest_11 12 rfl rfl)
theorem dX5_rest_280 : decode cX5_rest 280 = .ok (.invokevirtual 264, 3) := dk_182 1 8 (dk_at dksX5_rest_11 13 rfl rfl)
theorem dX5_rest_283 : decode cX5_rest 283 = .ok (.ireturn, 1) := dk_172 (dk_at dksX5_rest_11 16 rfl rfl)
theorem dX5_rest_284 : decode cX5_rest 284 = .ok (.aload_n 0, 1) := dk_42 (dk_at dksX5_rest_11 17 rfl rfl)
theorem dX5_rest_285 : decode cX5_rest 285 = .ok (.iload_n 1, 1) := dk_27 (dk_at dksX5_rest_11 18 rfl rfl)
theorem dX5_rest_286 : decode cX5_rest 286 = .ok (.iconst 1, 1) := dk_4 (dk_at dksX5_rest_11 19 rfl rfl)
theorem dX5_rest_287 : decode cX5_rest 287 = .ok (.iadd, 1) := dk_96 (dk_at dksX5_rest_11 20 rfl rfl)
theorem dX5_rest_288 : decode cX5_rest 288 = .ok (.iload_n 2, 1) := dk_28 (dk_at dksX5_rest_11 21 rfl rfl)
theorem dX5_rest_289 : decode cX5_rest 289 = .ok (.invokevirtual 264, 3) := dk_182 1 8 (dk_at dksX5_rest_12 0 rfl rfl)
theorem dX5_rest_292 : decode cX5_rest 292 = .ok (.istore 5, 2) := dk_54 5 (dk_at dksX5_rest_12 3 rfl rfl)
theorem dX5_rest_294 : decode cX5_rest 294 = .ok (.aload_n 0, 1) := dk_42 (dk_at dksX5_rest_12 5 rfl rfl)
theorem dX5_rest_295 : decode cX5_rest 295 = .ok (.getfield 255, 3) := dk_180 0 255 (dk_at dksX5_rest_12 6 rfl rfl)
theorem dX5_rest_298 : decode cX5_rest 298 = .ok (.iconst 1, 1) := dk_4 (dk_at dksX5_rest_12 9 rfl rfl)
theorem dX5_rest_299 : decode cX5_rest 299 = .ok (.if_icmp .eq 6, 3) := dk_159 0 6 (dk_at dksX5_rest_12 10 rfl rfl)
theorem dX5_rest_302 : decode cX5_rest 302 = .ok (.iload 5, 2) := dk_21 5 (dk_at dksX5_rest_12 13 rfl rfl)
theorem dX5_rest_304 : decode cX5_rest 304 = .ok (.ireturn, 1) := dk_172 (dk_at dksX5_rest_12 15 rfl rfl)
theorem dX5_rest_305 : decode cX5_rest 305 = .ok (.aload_n 0, 1) := dk_42 (dk_at dksX5_rest_12 16 rfl rfl)
theorem dX5_rest_306 : decode cX5_rest 306 = .ok (.iconst 0, 1) := dk_3 (dk_at dksX5_rest_12 17 rfl rfl)
theorem dX5_rest_307 : decode cX5_rest 307 = .ok (.putfield 255, 3) := dk_181 0 255 (dk_at dksX5_rest_12 18 rfl rfl)
theorem dX5_rest_310 : decode cX5_rest 310 = .ok (.aload_n 0, 1) := dk_42 (dk_at dksX5_rest_12 21 rfl rfl)
theorem dX5_rest_311 : decode cX5_rest 311 = .ok (.getfield 258, 3) := dk_180 1 2 (dk_at dksX5_rest_13 0 rfl rfl)
theorem dX5_rest_314 : decode cX5_rest 314 = .ok (.iload 4, 2) := dk_21 4 (dk_at dksX5_rest_13 3 rfl rfl)
theorem dX5_rest_316 : decode cX5_rest 316 = .ok (.iadd, 1) := dk_96 (dk_at dksX5_rest_13 5 rfl rfl)
theorem dX5_rest_317 : decode cX5_rest 317 = .ok (.ireturn, 1) := dk_172 (dk_at dksX5_rest_13 6 rfl rfl)
abbrev cX5_ten : ByteArray := prog_40_method_69_code
def yX5_ten : MethodName := ⟨RX5, "ten", "(I)I"⟩
def dkwX5_ten_0 : List UInt8 := [26, 16, 10, 112, 60, 27, 156, 0, 10, 27, 16, 10, 96, 167, 0, 4, 27, 172]
abbrev dktX5_ten_0 : List UInt8 := dkwX5_ten_0 ++ []
theorem dksX5_ten_0 : cX5_ten.data.toList.drop 0 = dktX5_ten_0 := by decide +kernel
theorem dX5_ten_0 : decode cX5_ten 0 = .ok (.iload_n 0, 1) := dk_26 (dk_at dksX5_ten_0 0 rfl rfl)
theorem dX5_ten_1 : decode cX5_ten 1 = .ok (.bipush 10, 2) := dk_16 10 (dk_at dksX5_ten_0 1 rfl rfl)
theorem dX5_ten_3 : decode cX5_ten 3 = .ok (.irem, 1) := dk_112 (dk_at dksX5_ten_0 3 rfl rfl)
theorem dX5_ten_4 : decode cX5_ten 4 = .ok (.istore_n 1, 1) := dk_60 (dk_at dksX5_ten_0 4 rfl rfl)
theorem dX5_ten_5 : decode cX5_ten 5 = .ok (.iload_n 1, 1) := dk_27 (dk_at dksX5_ten_0 5 rfl rfl)
theorem dX5_ten_6 : decode cX5_ten 6 = .ok (.ifCond .ge 10, 3) := dk_156 0 10 (dk_at dksX5_ten_0 6 rfl rfl)
theorem dX5_ten_9 : decode cX5_ten 9 = .ok (.iload_n 1, 1) := dk_27 (dk_at dksX5_ten_0 9 rfl rfl)
theorem dX5_ten_10 : decode cX5_ten 10 = .ok (.bipush 10, 2) := dk_16 10 (dk_at dksX5_ten_0 10 rfl rfl)
theorem dX5_ten_12 : decode cX5_ten 12 = .ok (.iadd, 1) := dk_96 (dk_at dksX5_ten_0 12 rfl rfl)
theorem dX5_ten_13 : decode cX5_ten 13 = .ok (.goto 4, 3) := dk_167 0 4 (dk_at dksX5_ten_0 13 rfl rfl)
theorem dX5_ten_16 : decode cX5_ten 16 = .ok (.iload_n 1, 1) := dk_27 (dk_at dksX5_ten_0 16 rfl rfl)
theorem dX5_ten_17 : decode cX5_ten 17 = .ok (.ireturn, 1) := dk_172 (dk_at dksX5_ten_0 17 rfl rfl)
abbrev cX5_throwsOne : ByteArray := prog_40_method_70_code
def yX5_throwsOne : MethodName := ⟨RX5, "throwsOne", "(I)I"⟩
def dkwX5_throwsOne_0 : List UInt8 := [42, 4, 181, 0, 255, 42, 27, 181, 1, 2, 3, 172]
abbrev dktX5_throwsOne_0 : List UInt8 := dkwX5_throwsOne_0 ++ []
theorem dksX5_throwsOne_0 : cX5_throwsOne.data.toList.drop 0 = dktX5_throwsOne_0 := by decide +kernel
theorem dX5_throwsOne_0 : decode cX5_throwsOne 0 = .ok (.aload_n 0, 1) := dk_42 (dk_at dksX5_throwsOne_0 0 rfl rfl)
theorem dX5_throwsOne_1 : decode cX5_throwsOne 1 = .ok (.iconst 1, 1) := dk_4 (dk_at dksX5_throwsOne_0 1 rfl rfl)
theorem dX5_throwsOne_2 : decode cX5_throwsOne 2 = .ok (.putfield 255, 3) := dk_181 0 255 (dk_at dksX5_throwsOne_0 2 rfl rfl)
theorem dX5_throwsOne_5 : decode cX5_throwsOne 5 = .ok (.aload_n 0, 1) := dk_42 (dk_at dksX5_throwsOne_0 5 rfl rfl)
theorem dX5_throwsOne_6 : decode cX5_throwsOne 6 = .ok (.iload_n 1, 1) := dk_27 (dk_at dksX5_throwsOne_0 6 rfl rfl)
theorem dX5_throwsOne_7 : decode cX5_throwsOne 7 = .ok (.putfield 258, 3) := dk_181 1 2 (dk_at dksX5_throwsOne_0 7 rfl rfl)
theorem dX5_throwsOne_10 : decode cX5_throwsOne 10 = .ok (.iconst 0, 1) := dk_3 (dk_at dksX5_throwsOne_0 10 rfl rfl)
theorem dX5_throwsOne_11 : decode cX5_throwsOne 11 = .ok (.ireturn, 1) := dk_172 (dk_at dksX5_throwsOne_0 11 rfl rfl)
abbrev cX5_given : ByteArray := prog_40_method_74_code
def yX5_given : MethodName := ⟨RX5, "given", "()I"⟩
theorem dX5_given_0 : decode cX5_given 0 = .ok (.aload_n 0, 1) := by decide +kernel
theorem dX5_given_1 : decode cX5_given 1 = .ok (.getfield 276, 3) := by decide +kernel
theorem dX5_given_4 : decode cX5_given 4 = .ok (.ireturn, 1) := by decide +kernel
abbrev cX5_pure : ByteArray := prog_40_method_75_code
def yX5_pure : MethodName := ⟨RX5, "pure", "(III)J"⟩
def dkwX5_pure_2 : List UInt8 := [42, 180, 0, 255, 133, 167, 0, 10, 20, 1, 26, 21, 4, 133, 97, 173]
abbrev dktX5_pure_2 : List UInt8 := dkwX5_pure_2 ++ []
def dkwX5_pure_1 : List UInt8 := [16, 251, 182, 0, 69, 133, 173, 42, 27, 2, 182, 0, 251, 42, 28, 182, 1, 17, 54, 4, 29, 154, 0, 11]
abbrev dktX5_pure_1 : List UInt8 := dkwX5_pure_1 ++ dktX5_pure_2
def dkwX5_pure_0 : List UInt8 := [27, 184, 0, 236, 154, 0, 10, 42, 2, 182, 0, 69, 133, 173, 29, 3, 4, 184, 0, 76, 154, 0, 11, 42]
abbrev dktX5_pure_0 : List UInt8 := dkwX5_pure_0 ++ dktX5_pure_1
theorem dksX5_pure_0 : cX5_pure.data.toList.drop 0 = dktX5_pure_0 := by decide +kernel
theorem dksX5_pure_1 : cX5_pure.data.toList.drop 24 = dktX5_pure_1 := dk_seg dksX5_pure_0 24 rfl rfl
theorem dksX5_pure_2 : cX5_pure.data.toList.drop 48 = dktX5_pure_2 := dk_seg dksX5_pure_1 24 rfl rfl
theorem dX5_pure_0 : decode cX5_pure 0 = .ok (.iload_n 1, 1) := dk_27 (dk_at dksX5_pure_0 0 rfl rfl)
theorem dX5_pure_1 : decode cX5_pure 1 = .ok (.invokestatic 236, 3) := dk_184 0 236 (dk_at dksX5_pure_0 1 rfl rfl)
theorem dX5_pure_4 : decode cX5_pure 4 = .ok (.ifCond .ne 10, 3) := dk_154 0 10 (dk_at dksX5_pure_0 4 rfl rfl)
theorem dX5_pure_7 : decode cX5_pure 7 = .ok (.aload_n 0, 1) := dk_42 (dk_at dksX5_pure_0 7 rfl rfl)
theorem dX5_pure_8 : decode cX5_pure 8 = .ok (.iconst (-1), 1) := dk_2 (dk_at dksX5_pure_0 8 rfl rfl)
theorem dX5_pure_9 : decode cX5_pure 9 = .ok (.invokevirtual 69, 3) := dk_182 0 69 (dk_at dksX5_pure_0 9 rfl rfl)
theorem dX5_pure_12 : decode cX5_pure 12 = .ok (.i2l, 1) := dk_133 (dk_at dksX5_pure_0 12 rfl rfl)
theorem dX5_pure_13 : decode cX5_pure 13 = .ok (.lreturn, 1) := dk_173 (dk_at dksX5_pure_0 13 rfl rfl)
theorem dX5_pure_14 : decode cX5_pure 14 = .ok (.iload_n 3, 1) := dk_29 (dk_at dksX5_pure_0 14 rfl rfl)
theorem dX5_pure_15 : decode cX5_pure 15 = .ok (.iconst 0, 1) := dk_3 (dk_at dksX5_pure_0 15 rfl rfl)
theorem dX5_pure_16 : decode cX5_pure 16 = .ok (.iconst 1, 1) := dk_4 (dk_at dksX5_pure_0 16 rfl rfl)
theorem dX5_pure_17 : decode cX5_pure 17 = .ok (.invokestatic 76, 3) := dk_184 0 76 (dk_at dksX5_pure_0 17 rfl rfl)
theorem dX5_pure_20 : decode cX5_pure 20 = .ok (.ifCond .ne 11, 3) := dk_154 0 11 (dk_at dksX5_pure_0 20 rfl rfl)
theorem dX5_pure_23 : decode cX5_pure 23 = .ok (.aload_n 0, 1) := dk_42 (dk_at dksX5_pure_0 23 rfl rfl)
theorem dX5_pure_24 : decode cX5_pure 24 = .ok (.bipush (-5), 2) := dk_16 251 (dk_at dksX5_pure_1 0 rfl rfl)
theorem dX5_pure_26 : decode cX5_pure 26 = .ok (.invokevirtual 69, 3) := dk_182 0 69 (dk_at dksX5_pure_1 2 rfl rfl)
theorem dX5_pure_29 : decode cX5_pure 29 = .ok (.i2l, 1) := dk_133 (dk_at dksX5_pure_1 5 rfl rfl)
theorem dX5_pure_30 : decode cX5_pure 30 = .ok (.lreturn, 1) := dk_173 (dk_at dksX5_pure_1 6 rfl rfl)
theorem dX5_pure_31 : decode cX5_pure 31 = .ok (.aload_n 0, 1) := dk_42 (dk_at dksX5_pure_1 7 rfl rfl)
theorem dX5_pure_32 : decode cX5_pure 32 = .ok (.iload_n 1, 1) := dk_27 (dk_at dksX5_pure_1 8 rfl rfl)
theorem dX5_pure_33 : decode cX5_pure 33 = .ok (.iconst (-1), 1) := dk_2 (dk_at dksX5_pure_1 9 rfl rfl)
theorem dX5_pure_34 : decode cX5_pure 34 = .ok (.invokevirtual 251, 3) := dk_182 0 251 (dk_at dksX5_pure_1 10 rfl rfl)
theorem dX5_pure_37 : decode cX5_pure 37 = .ok (.aload_n 0, 1) := dk_42 (dk_at dksX5_pure_1 13 rfl rfl)
theorem dX5_pure_38 : decode cX5_pure 38 = .ok (.iload_n 2, 1) := dk_28 (dk_at dksX5_pure_1 14 rfl rfl)
theorem dX5_pure_39 : decode cX5_pure 39 = .ok (.invokevirtual 273, 3) := dk_182 1 17 (dk_at dksX5_pure_1 15 rfl rfl)
theorem dX5_pure_42 : decode cX5_pure 42 = .ok (.istore 4, 2) := dk_54 4 (dk_at dksX5_pure_1 18 rfl rfl)
theorem dX5_pure_44 : decode cX5_pure 44 = .ok (.iload_n 3, 1) := dk_29 (dk_at dksX5_pure_1 20 rfl rfl)
theorem dX5_pure_45 : decode cX5_pure 45 = .ok (.ifCond .ne 11, 3) := dk_154 0 11 (dk_at dksX5_pure_1 21 rfl rfl)
theorem dX5_pure_48 : decode cX5_pure 48 = .ok (.aload_n 0, 1) := dk_42 (dk_at dksX5_pure_2 0 rfl rfl)
theorem dX5_pure_49 : decode cX5_pure 49 = .ok (.getfield 255, 3) := dk_180 0 255 (dk_at dksX5_pure_2 1 rfl rfl)
theorem dX5_pure_52 : decode cX5_pure 52 = .ok (.i2l, 1) := dk_133 (dk_at dksX5_pure_2 4 rfl rfl)
theorem dX5_pure_53 : decode cX5_pure 53 = .ok (.goto 10, 3) := dk_167 0 10 (dk_at dksX5_pure_2 5 rfl rfl)
theorem dX5_pure_56 : decode cX5_pure 56 = .ok (.ldc2_w 282, 3) := dk_20 1 26 (dk_at dksX5_pure_2 8 rfl rfl)
theorem dX5_pure_59 : decode cX5_pure 59 = .ok (.iload 4, 2) := dk_21 4 (dk_at dksX5_pure_2 11 rfl rfl)
theorem dX5_pure_61 : decode cX5_pure 61 = .ok (.i2l, 1) := dk_133 (dk_at dksX5_pure_2 13 rfl rfl)
theorem dX5_pure_62 : decode cX5_pure 62 = .ok (.ladd, 1) := dk_97 (dk_at dksX5_pure_2 14 rfl rfl)
theorem dX5_pure_63 : decode cX5_pure 63 = .ok (.lreturn, 1) := dk_173 (dk_at dksX5_pure_2 15 rfl rfl)
abbrev cX5_matter : ByteArray := prog_40_method_76_code
def yX5_matter : MethodName := ⟨RX5, "matter", "(II)I"⟩
def dkwX5_matter_5 : List UInt8 := [4, 21, 7, 120, 128, 54, 6, 132, 7, 1, 167, 255, 197, 21, 6, 172]
abbrev dktX5_matter_5 : List UInt8 := dkwX5_matter_5 ++ []
def dkwX5_matter_4 : List UInt8 := [182, 0, 251, 42, 28, 182, 1, 17, 21, 4, 160, 0, 12, 42, 180, 0, 255, 21, 5, 159, 0, 12, 21, 6]
abbrev dktX5_matter_4 : List UInt8 := dkwX5_matter_4 ++ dktX5_matter_5
def dkwX5_matter_3 : List UInt8 := [42, 180, 0, 239, 162, 0, 56, 29, 21, 7, 122, 4, 126, 154, 0, 6, 167, 0, 38, 42, 27, 21, 7]
abbrev dktX5_matter_3 : List UInt8 := dkwX5_matter_3 ++ dktX5_matter_4
def dkwX5_matter_2 : List UInt8 := [167, 255, 232, 42, 28, 182, 1, 17, 54, 4, 42, 180, 0, 255, 54, 5, 3, 54, 6, 3, 54, 7, 21, 7]
abbrev dktX5_matter_2 : List UInt8 := dkwX5_matter_2 ++ dktX5_matter_3
def dkwX5_matter_1 : List UInt8 := [21, 4, 42, 180, 0, 245, 162, 0, 21, 29, 4, 42, 180, 0, 41, 21, 4, 46, 120, 128, 62, 132, 4, 1]
abbrev dktX5_matter_1 : List UInt8 := dkwX5_matter_1 ++ dktX5_matter_2
def dkwX5_matter_0 : List UInt8 := [27, 184, 0, 236, 154, 0, 9, 42, 2, 182, 0, 69, 172, 42, 27, 2, 182, 0, 251, 3, 62, 3, 54, 4]
abbrev dktX5_matter_0 : List UInt8 := dkwX5_matter_0 ++ dktX5_matter_1
theorem dksX5_matter_0 : cX5_matter.data.toList.drop 0 = dktX5_matter_0 := by decide +kernel
theorem dksX5_matter_1 : cX5_matter.data.toList.drop 24 = dktX5_matter_1 := dk_seg dksX5_matter_0 24 rfl rfl
theorem dksX5_matter_2 : cX5_matter.data.toList.drop 48 = dktX5_matter_2 := dk_seg dksX5_matter_1 24 rfl rfl
theorem dksX5_matter_3 : cX5_matter.data.toList.drop 72 = dktX5_matter_3 := dk_seg dksX5_matter_2 24 rfl rfl
theorem dksX5_matter_4 : cX5_matter.data.toList.drop 95 = dktX5_matter_4 := dk_seg dksX5_matter_3 23 rfl rfl
theorem dksX5_matter_5 : cX5_matter.data.toList.drop 119 = dktX5_matter_5 := dk_seg dksX5_matter_4 24 rfl rfl
theorem dX5_matter_0 : decode cX5_matter 0 = .ok (.iload_n 1, 1) := dk_27 (dk_at dksX5_matter_0 0 rfl rfl)
theorem dX5_matter_1 : decode cX5_matter 1 = .ok (.invokestatic 236, 3) := dk_184 0 236 (dk_at dksX5_matter_0 1 rfl rfl)
theorem dX5_matter_4 : decode cX5_matter 4 = .ok (.ifCond .ne 9, 3) := dk_154 0 9 (dk_at dksX5_matter_0 4 rfl rfl)
theorem dX5_matter_7 : decode cX5_matter 7 = .ok (.aload_n 0, 1) := dk_42 (dk_at dksX5_matter_0 7 rfl rfl)
theorem dX5_matter_8 : decode cX5_matter 8 = .ok (.iconst (-1), 1) := dk_2 (dk_at dksX5_matter_0 8 rfl rfl)
theorem dX5_matter_9 : decode cX5_matter 9 = .ok (.invokevirtual 69, 3) := dk_182 0 69 (dk_at dksX5_matter_0 9 rfl rfl)
theorem dX5_matter_12 : decode cX5_matter 12 = .ok (.ireturn, 1) := dk_172 (dk_at dksX5_matter_0 12 rfl rfl)
theorem dX5_matter_13 : decode cX5_matter 13 = .ok (.aload_n 0, 1) := dk_42 (dk_at dksX5_matter_0 13 rfl rfl)
theorem dX5_matter_14 : decode cX5_matter 14 = .ok (.iload_n 1, 1) := dk_27 (dk_at dksX5_matter_0 14 rfl rfl)
theorem dX5_matter_15 : decode cX5_matter 15 = .ok (.iconst (-1), 1) := dk_2 (dk_at dksX5_matter_0 15 rfl rfl)
theorem dX5_matter_16 : decode cX5_matter 16 = .ok (.invokevirtual 251, 3) := dk_182 0 251 (dk_at dksX5_matter_0 16 rfl rfl)
theorem dX5_matter_19 : decode cX5_matter 19 = .ok (.iconst 0, 1) := dk_3 (dk_at dksX5_matter_0 19 rfl rfl)
theorem dX5_matter_20 : decode cX5_matter 20 = .ok (.istore_n 3, 1) := dk_62 (dk_at dksX5_matter_0 20 rfl rfl)
theorem dX5_matter_21 : decode cX5_matter 21 = .ok (.iconst 0, 1) := dk_3 (dk_at dksX5_matter_0 21 rfl rfl)
theorem dX5_matter_22 : decode cX5_matter 22 = .ok (.istore 4, 2) := dk_54 4 (dk_at dksX5_matter_0 22 rfl rfl)
theorem dX5_matter_24 : decode cX5_matter 24 = .ok (.iload 4, 2) := dk_21 4 (dk_at dksX5_matter_1 0 rfl rfl)
theorem dX5_matter_26 : decode cX5_matter 26 = .ok (.aload_n 0, 1) := dk_42 (dk_at dksX5_matter_1 2 rfl rfl)
theorem dX5_matter_27 : decode cX5_matter 27 = .ok (.getfield 245, 3) := dk_180 0 245 (dk_at dksX5_matter_1 3 rfl rfl)
theorem dX5_matter_30 : decode cX5_matter 30 = .ok (.if_icmp .ge 21, 3) := dk_162 0 21 (dk_at dksX5_matter_1 6 rfl rfl)
theorem dX5_matter_33 : decode cX5_matter 33 = .ok (.iload_n 3, 1) := dk_29 (dk_at dksX5_matter_1 9 rfl rfl)
theorem dX5_matter_34 : decode cX5_matter 34 = .ok (.iconst 1, 1) := dk_4 (dk_at dksX5_matter_1 10 rfl rfl)
theorem dX5_matter_35 : decode cX5_matter 35 = .ok (.aload_n 0, 1) := dk_42 (dk_at dksX5_matter_1 11 rfl rfl)
theorem dX5_matter_36 : decode cX5_matter 36 = .ok (.getfield 41, 3) := dk_180 0 41 (dk_at dksX5_matter_1 12 rfl rfl)
theorem dX5_matter_39 : decode cX5_matter 39 = .ok (.iload 4, 2) := dk_21 4 (dk_at dksX5_matter_1 15 rfl rfl)
theorem dX5_matter_41 : decode cX5_matter 41 = .ok (.iaload, 1) := dk_46 (dk_at dksX5_matter_1 17 rfl rfl)
theorem dX5_matter_42 : decode cX5_matter 42 = .ok (.ishl, 1) := dk_120 (dk_at dksX5_matter_1 18 rfl rfl)
theorem dX5_matter_43 : decode cX5_matter 43 = .ok (.ior, 1) := dk_128 (dk_at dksX5_matter_1 19 rfl rfl)
theorem dX5_matter_44 : decode cX5_matter 44 = .ok (.istore_n 3, 1) := dk_62 (dk_at dksX5_matter_1 20 rfl rfl)
theorem dX5_matter_45 : decode cX5_matter 45 = .ok (.iinc 4 1, 3) := dk_132 4 1 (dk_at dksX5_matter_1 21 rfl rfl)
theorem dX5_matter_48 : decode cX5_matter 48 = .ok (.goto (-24), 3) := dk_167 255 232 (dk_at dksX5_matter_2 0 rfl rfl)
theorem dX5_matter_51 : decode cX5_matter 51 = .ok (.aload_n 0, 1) := dk_42 (dk_at dksX5_matter_2 3 rfl rfl)
theorem dX5_matter_52 : decode cX5_matter 52 = .ok (.iload_n 2, 1) := dk_28 (dk_at dksX5_matter_2 4 rfl rfl)
theorem dX5_matter_53 : decode cX5_matter 53 = .ok (.invokevirtual 273, 3) := dk_182 1 17 (dk_at dksX5_matter_2 5 rfl rfl)
theorem dX5_matter_56 : decode cX5_matter 56 = .ok (.istore 4, 2) := dk_54 4 (dk_at dksX5_matter_2 8 rfl rfl)
theorem dX5_matter_58 : decode cX5_matter 58 = .ok (.aload_n 0, 1) := dk_42 (dk_at dksX5_matter_2 10 rfl rfl)
theorem dX5_matter_59 : decode cX5_matter 59 = .ok (.getfield 255, 3) := dk_180 0 255 (dk_at dksX5_matter_2 11 rfl rfl)
theorem dX5_matter_62 : decode cX5_matter 62 = .ok (.istore 5, 2) := dk_54 5 (dk_at dksX5_matter_2 14 rfl rfl)
theorem dX5_matter_64 : decode cX5_matter 64 = .ok (.iconst 0, 1) := dk_3 (dk_at dksX5_matter_2 16 rfl rfl)
theorem dX5_matter_65 : decode cX5_matter 65 = .ok (.istore 6, 2) := dk_54 6 (dk_at dksX5_matter_2 17 rfl rfl)
theorem dX5_matter_67 : decode cX5_matter 67 = .ok (.iconst 0, 1) := dk_3 (dk_at dksX5_matter_2 19 rfl rfl)
theorem dX5_matter_68 : decode cX5_matter 68 = .ok (.istore 7, 2) := dk_54 7 (dk_at dksX5_matter_2 20 rfl rfl)
theorem dX5_matter_70 : decode cX5_matter 70 = .ok (.iload 7, 2) := dk_21 7 (dk_at dksX5_matter_2 22 rfl rfl)
theorem dX5_matter_72 : decode cX5_matter 72 = .ok (.aload_n 0, 1) := dk_42 (dk_at dksX5_matter_3 0 rfl rfl)
theorem dX5_matter_73 : decode cX5_matter 73 = .ok (.getfield 239, 3) := dk_180 0 239 (dk_at dksX5_matter_3 1 rfl rfl)
theorem dX5_matter_76 : decode cX5_matter 76 = .ok (.if_icmp .ge 56, 3) := dk_162 0 56 (dk_at dksX5_matter_3 4 rfl rfl)
theorem dX5_matter_79 : decode cX5_matter 79 = .ok (.iload_n 3, 1) := dk_29 (dk_at dksX5_matter_3 7 rfl rfl)
theorem dX5_matter_80 : decode cX5_matter 80 = .ok (.iload 7, 2) := dk_21 7 (dk_at dksX5_matter_3 8 rfl rfl)
theorem dX5_matter_82 : decode cX5_matter 82 = .ok (.ishr, 1) := dk_122 (dk_at dksX5_matter_3 10 rfl rfl)
theorem dX5_matter_83 : decode cX5_matter 83 = .ok (.iconst 1, 1) := dk_4 (dk_at dksX5_matter_3 11 rfl rfl)
theorem dX5_matter_84 : decode cX5_matter 84 = .ok (.iand, 1) := dk_126 (dk_at dksX5_matter_3 12 rfl rfl)
theorem dX5_matter_85 : decode cX5_matter 85 = .ok (.ifCond .ne 6, 3) := dk_154 0 6 (dk_at dksX5_matter_3 13 rfl rfl)
theorem dX5_matter_88 : decode cX5_matter 88 = .ok (.goto 38, 3) := dk_167 0 38 (dk_at dksX5_matter_3 16 rfl rfl)
theorem dX5_matter_91 : decode cX5_matter 91 = .ok (.aload_n 0, 1) := dk_42 (dk_at dksX5_matter_3 19 rfl rfl)
theorem dX5_matter_92 : decode cX5_matter 92 = .ok (.iload_n 1, 1) := dk_27 (dk_at dksX5_matter_3 20 rfl rfl)
theorem dX5_matter_93 : decode cX5_matter 93 = .ok (.iload 7, 2) := dk_21 7 (dk_at dksX5_matter_3 21 rfl rfl)
theorem dX5_matter_95 : decode cX5_matter 95 = .ok (.invokevirtual 251, 3) := dk_182 0 251 (dk_at dksX5_matter_4 0 rfl rfl)
theorem dX5_matter_98 : decode cX5_matter 98 = .ok (.aload_n 0, 1) := dk_42 (dk_at dksX5_matter_4 3 rfl rfl)
theorem dX5_matter_99 : decode cX5_matter 99 = .ok (.iload_n 2, 1) := dk_28 (dk_at dksX5_matter_4 4 rfl rfl)
theorem dX5_matter_100 : decode cX5_matter 100 = .ok (.invokevirtual 273, 3) := dk_182 1 17 (dk_at dksX5_matter_4 5 rfl rfl)
theorem dX5_matter_103 : decode cX5_matter 103 = .ok (.iload 4, 2) := dk_21 4 (dk_at dksX5_matter_4 8 rfl rfl)
theorem dX5_matter_105 : decode cX5_matter 105 = .ok (.if_icmp .ne 12, 3) := dk_160 0 12 (dk_at dksX5_matter_4 10 rfl rfl)
theorem dX5_matter_108 : decode cX5_matter 108 = .ok (.aload_n 0, 1) := dk_42 (dk_at dksX5_matter_4 13 rfl rfl)
theorem dX5_matter_109 : decode cX5_matter 109 = .ok (.getfield 255, 3) := dk_180 0 255 (dk_at dksX5_matter_4 14 rfl rfl)
theorem dX5_matter_112 : decode cX5_matter 112 = .ok (.iload 5, 2) := dk_21 5 (dk_at dksX5_matter_4 17 rfl rfl)
theorem dX5_matter_114 : decode cX5_matter 114 = .ok (.if_icmp .eq 12, 3) := dk_159 0 12 (dk_at dksX5_matter_4 19 rfl rfl)
theorem dX5_matter_117 : decode cX5_matter 117 = .ok (.iload 6, 2) := dk_21 6 (dk_at dksX5_matter_4 22 rfl rfl)
theorem dX5_matter_119 : decode cX5_matter 119 = .ok (.iconst 1, 1) := dk_4 (dk_at dksX5_matter_5 0 rfl rfl)
theorem dX5_matter_120 : decode cX5_matter 120 = .ok (.iload 7, 2) := dk_21 7 (dk_at dksX5_matter_5 1 rfl rfl)
theorem dX5_matter_122 : decode cX5_matter 122 = .ok (.ishl, 1) := dk_120 (dk_at dksX5_matter_5 3 rfl rfl)
theorem dX5_matter_123 : decode cX5_matter 123 = .ok (.ior, 1) := dk_128 (dk_at dksX5_matter_5 4 rfl rfl)
theorem dX5_matter_124 : decode cX5_matter 124 = .ok (.istore 6, 2) := dk_54 6 (dk_at dksX5_matter_5 5 rfl rfl)
theorem dX5_matter_126 : decode cX5_matter 126 = .ok (.iinc 7 1, 3) := dk_132 7 1 (dk_at dksX5_matter_5 7 rfl rfl)
theorem dX5_matter_129 : decode cX5_matter 129 = .ok (.goto (-59), 3) := dk_167 255 197 (dk_at dksX5_matter_5 10 rfl rfl)
theorem dX5_matter_132 : decode cX5_matter 132 = .ok (.iload 6, 2) := dk_21 6 (dk_at dksX5_matter_5 13 rfl rfl)
theorem dX5_matter_134 : decode cX5_matter 134 = .ok (.ireturn, 1) := dk_172 (dk_at dksX5_matter_5 15 rfl rfl)
abbrev cX5_source : ByteArray := prog_40_method_77_code
def yX5_source : MethodName := ⟨RX5, "source", "(IIII)J"⟩
def dkwX5_source_3 : List UInt8 := [180, 0, 255, 154, 0, 10, 20, 1, 26, 22, 5, 97, 173, 22, 5, 10, 97, 55, 5, 167, 255, 216, 9, 173]
abbrev dktX5_source_3 : List UInt8 := dkwX5_source_3 ++ []
def dkwX5_source_2 : List UInt8 := [133, 55, 5, 22, 5, 21, 4, 133, 148, 157, 0, 37, 42, 22, 5, 136, 182, 1, 17, 28, 160, 0, 17, 42]
abbrev dktX5_source_2 : List UInt8 := dkwX5_source_2 ++ dktX5_source_3
def dkwX5_source_1 : List UInt8 := [133, 101, 20, 1, 28, 148, 155, 0, 11, 42, 16, 250, 182, 0, 69, 133, 173, 42, 27, 2, 182, 0, 251, 29]
abbrev dktX5_source_1 : List UInt8 := dkwX5_source_1 ++ dktX5_source_2
def dkwX5_source_0 : List UInt8 := [27, 184, 0, 236, 154, 0, 10, 42, 2, 182, 0, 69, 133, 173, 29, 21, 4, 163, 0, 16, 21, 4, 133, 29]
abbrev dktX5_source_0 : List UInt8 := dkwX5_source_0 ++ dktX5_source_1
theorem dksX5_source_0 : cX5_source.data.toList.drop 0 = dktX5_source_0 := by decide +kernel
theorem dksX5_source_1 : cX5_source.data.toList.drop 24 = dktX5_source_1 := dk_seg dksX5_source_0 24 rfl rfl
theorem dksX5_source_2 : cX5_source.data.toList.drop 48 = dktX5_source_2 := dk_seg dksX5_source_1 24 rfl rfl
theorem dksX5_source_3 : cX5_source.data.toList.drop 72 = dktX5_source_3 := dk_seg dksX5_source_2 24 rfl rfl
theorem dX5_source_0 : decode cX5_source 0 = .ok (.iload_n 1, 1) := dk_27 (dk_at dksX5_source_0 0 rfl rfl)
theorem dX5_source_1 : decode cX5_source 1 = .ok (.invokestatic 236, 3) := dk_184 0 236 (dk_at dksX5_source_0 1 rfl rfl)
theorem dX5_source_4 : decode cX5_source 4 = .ok (.ifCond .ne 10, 3) := dk_154 0 10 (dk_at dksX5_source_0 4 rfl rfl)
theorem dX5_source_7 : decode cX5_source 7 = .ok (.aload_n 0, 1) := dk_42 (dk_at dksX5_source_0 7 rfl rfl)
theorem dX5_source_8 : decode cX5_source 8 = .ok (.iconst (-1), 1) := dk_2 (dk_at dksX5_source_0 8 rfl rfl)
theorem dX5_source_9 : decode cX5_source 9 = .ok (.invokevirtual 69, 3) := dk_182 0 69 (dk_at dksX5_source_0 9 rfl rfl)
theorem dX5_source_12 : decode cX5_source 12 = .ok (.i2l, 1) := dk_133 (dk_at dksX5_source_0 12 rfl rfl)
theorem dX5_source_13 : decode cX5_source 13 = .ok (.lreturn, 1) := dk_173 (dk_at dksX5_source_0 13 rfl rfl)
theorem dX5_source_14 : decode cX5_source 14 = .ok (.iload_n 3, 1) := dk_29 (dk_at dksX5_source_0 14 rfl rfl)
theorem dX5_source_15 : decode cX5_source 15 = .ok (.iload 4, 2) := dk_21 4 (dk_at dksX5_source_0 15 rfl rfl)
theorem dX5_source_17 : decode cX5_source 17 = .ok (.if_icmp .gt 16, 3) := dk_163 0 16 (dk_at dksX5_source_0 17 rfl rfl)
theorem dX5_source_20 : decode cX5_source 20 = .ok (.iload 4, 2) := dk_21 4 (dk_at dksX5_source_0 20 rfl rfl)
theorem dX5_source_22 : decode cX5_source 22 = .ok (.i2l, 1) := dk_133 (dk_at dksX5_source_0 22 rfl rfl)
theorem dX5_source_23 : decode cX5_source 23 = .ok (.iload_n 3, 1) := dk_29 (dk_at dksX5_source_0 23 rfl rfl)
theorem dX5_source_24 : decode cX5_source 24 = .ok (.i2l, 1) := dk_133 (dk_at dksX5_source_1 0 rfl rfl)
theorem dX5_source_25 : decode cX5_source 25 = .ok (.lsub, 1) := dk_101 (dk_at dksX5_source_1 1 rfl rfl)
theorem dX5_source_26 : decode cX5_source 26 = .ok (.ldc2_w 284, 3) := dk_20 1 28 (dk_at dksX5_source_1 2 rfl rfl)
theorem dX5_source_29 : decode cX5_source 29 = .ok (.lcmp, 1) := dk_148 (dk_at dksX5_source_1 5 rfl rfl)
theorem dX5_source_30 : decode cX5_source 30 = .ok (.ifCond .lt 11, 3) := dk_155 0 11 (dk_at dksX5_source_1 6 rfl rfl)
theorem dX5_source_33 : decode cX5_source 33 = .ok (.aload_n 0, 1) := dk_42 (dk_at dksX5_source_1 9 rfl rfl)
theorem dX5_source_34 : decode cX5_source 34 = .ok (.bipush (-6), 2) := dk_16 250 (dk_at dksX5_source_1 10 rfl rfl)
theorem dX5_source_36 : decode cX5_source 36 = .ok (.invokevirtual 69, 3) := dk_182 0 69 (dk_at dksX5_source_1 12 rfl rfl)
theorem dX5_source_39 : decode cX5_source 39 = .ok (.i2l, 1) := dk_133 (dk_at dksX5_source_1 15 rfl rfl)
theorem dX5_source_40 : decode cX5_source 40 = .ok (.lreturn, 1) := dk_173 (dk_at dksX5_source_1 16 rfl rfl)
theorem dX5_source_41 : decode cX5_source 41 = .ok (.aload_n 0, 1) := dk_42 (dk_at dksX5_source_1 17 rfl rfl)
theorem dX5_source_42 : decode cX5_source 42 = .ok (.iload_n 1, 1) := dk_27 (dk_at dksX5_source_1 18 rfl rfl)
theorem dX5_source_43 : decode cX5_source 43 = .ok (.iconst (-1), 1) := dk_2 (dk_at dksX5_source_1 19 rfl rfl)
theorem dX5_source_44 : decode cX5_source 44 = .ok (.invokevirtual 251, 3) := dk_182 0 251 (dk_at dksX5_source_1 20 rfl rfl)
theorem dX5_source_47 : decode cX5_source 47 = .ok (.iload_n 3, 1) := dk_29 (dk_at dksX5_source_1 23 rfl rfl)
theorem dX5_source_48 : decode cX5_source 48 = .ok (.i2l, 1) := dk_133 (dk_at dksX5_source_2 0 rfl rfl)
theorem dX5_source_49 : decode cX5_source 49 = .ok (.lstore 5, 2) := dk_55 5 (dk_at dksX5_source_2 1 rfl rfl)
theorem dX5_source_51 : decode cX5_source 51 = .ok (.lload 5, 2) := dk_22 5 (dk_at dksX5_source_2 3 rfl rfl)
theorem dX5_source_53 : decode cX5_source 53 = .ok (.iload 4, 2) := dk_21 4 (dk_at dksX5_source_2 5 rfl rfl)
theorem dX5_source_55 : decode cX5_source 55 = .ok (.i2l, 1) := dk_133 (dk_at dksX5_source_2 7 rfl rfl)
theorem dX5_source_56 : decode cX5_source 56 = .ok (.lcmp, 1) := dk_148 (dk_at dksX5_source_2 8 rfl rfl)
theorem dX5_source_57 : decode cX5_source 57 = .ok (.ifCond .gt 37, 3) := dk_157 0 37 (dk_at dksX5_source_2 9 rfl rfl)
theorem dX5_source_60 : decode cX5_source 60 = .ok (.aload_n 0, 1) := dk_42 (dk_at dksX5_source_2 12 rfl rfl)
theorem dX5_source_61 : decode cX5_source 61 = .ok (.lload 5, 2) := dk_22 5 (dk_at dksX5_source_2 13 rfl rfl)
theorem dX5_source_63 : decode cX5_source 63 = .ok (.l2i, 1) := dk_136 (dk_at dksX5_source_2 15 rfl rfl)
theorem dX5_source_64 : decode cX5_source 64 = .ok (.invokevirtual 273, 3) := dk_182 1 17 (dk_at dksX5_source_2 16 rfl rfl)
theorem dX5_source_67 : decode cX5_source 67 = .ok (.iload_n 2, 1) := dk_28 (dk_at dksX5_source_2 19 rfl rfl)
theorem dX5_source_68 : decode cX5_source 68 = .ok (.if_icmp .ne 17, 3) := dk_160 0 17 (dk_at dksX5_source_2 20 rfl rfl)
theorem dX5_source_71 : decode cX5_source 71 = .ok (.aload_n 0, 1) := dk_42 (dk_at dksX5_source_2 23 rfl rfl)
theorem dX5_source_72 : decode cX5_source 72 = .ok (.getfield 255, 3) := dk_180 0 255 (dk_at dksX5_source_3 0 rfl rfl)
theorem dX5_source_75 : decode cX5_source 75 = .ok (.ifCond .ne 10, 3) := dk_154 0 10 (dk_at dksX5_source_3 3 rfl rfl)
theorem dX5_source_78 : decode cX5_source 78 = .ok (.ldc2_w 282, 3) := dk_20 1 26 (dk_at dksX5_source_3 6 rfl rfl)
theorem dX5_source_81 : decode cX5_source 81 = .ok (.lload 5, 2) := dk_22 5 (dk_at dksX5_source_3 9 rfl rfl)
theorem dX5_source_83 : decode cX5_source 83 = .ok (.ladd, 1) := dk_97 (dk_at dksX5_source_3 11 rfl rfl)
theorem dX5_source_84 : decode cX5_source 84 = .ok (.lreturn, 1) := dk_173 (dk_at dksX5_source_3 12 rfl rfl)
theorem dX5_source_85 : decode cX5_source 85 = .ok (.lload 5, 2) := dk_22 5 (dk_at dksX5_source_3 13 rfl rfl)
theorem dX5_source_87 : decode cX5_source 87 = .ok (.lconst 1, 1) := dk_10 (dk_at dksX5_source_3 15 rfl rfl)
theorem dX5_source_88 : decode cX5_source 88 = .ok (.ladd, 1) := dk_97 (dk_at dksX5_source_3 16 rfl rfl)
theorem dX5_source_89 : decode cX5_source 89 = .ok (.lstore 5, 2) := dk_55 5 (dk_at dksX5_source_3 17 rfl rfl)
theorem dX5_source_91 : decode cX5_source 91 = .ok (.goto (-40), 3) := dk_167 255 216 (dk_at dksX5_source_3 19 rfl rfl)
theorem dX5_source_94 : decode cX5_source 94 = .ok (.lconst 0, 1) := dk_9 (dk_at dksX5_source_3 22 rfl rfl)
theorem dX5_source_95 : decode cX5_source 95 = .ok (.lreturn, 1) := dk_173 (dk_at dksX5_source_3 23 rfl rfl)
abbrev cX5_judge : ByteArray := prog_40_method_79_code
def yX5_judge : MethodName := ⟨RX5, "judge", "(III)I"⟩
def dkwX5_judge_5 : List UInt8 := [180, 0, 255, 153, 0, 6, 21, 5, 172, 132, 5, 1, 167, 255, 210, 2, 172]
abbrev dktX5_judge_5 : List UInt8 := dkwX5_judge_5 ++ []
def dkwX5_judge_4 : List UInt8 := [21, 5, 104, 182, 1, 32, 182, 1, 17, 42, 27, 5, 21, 5, 104, 4, 96, 182, 1, 32, 160, 0, 10, 42]
abbrev dktX5_judge_4 : List UInt8 := dkwX5_judge_4 ++ dktX5_judge_5
def dkwX5_judge_3 : List UInt8 := [182, 0, 154, 172, 42, 28, 2, 182, 0, 251, 3, 54, 5, 21, 5, 29, 162, 0, 46, 42, 42, 27, 5]
abbrev dktX5_judge_3 : List UInt8 := dkwX5_judge_3 ++ dktX5_judge_4
def dkwX5_judge_2 : List UInt8 := [182, 0, 154, 172, 20, 1, 30, 29, 133, 105, 42, 180, 0, 19, 27, 46, 133, 148, 158, 0, 10, 42, 16, 251]
abbrev dktX5_judge_2 : List UInt8 := dkwX5_judge_2 ++ dktX5_judge_3
def dkwX5_judge_1 : List UInt8 := [182, 0, 154, 172, 21, 4, 156, 0, 10, 42, 21, 4, 182, 0, 154, 172, 29, 156, 0, 10, 42, 16, 252]
abbrev dktX5_judge_1 : List UInt8 := dkwX5_judge_1 ++ dktX5_judge_2
def dkwX5_judge_0 : List UInt8 := [42, 27, 182, 0, 88, 54, 4, 21, 4, 2, 159, 0, 10, 28, 184, 0, 236, 154, 0, 9, 42, 2]
abbrev dktX5_judge_0 : List UInt8 := dkwX5_judge_0 ++ dktX5_judge_1
theorem dksX5_judge_0 : cX5_judge.data.toList.drop 0 = dktX5_judge_0 := by decide +kernel
theorem dksX5_judge_1 : cX5_judge.data.toList.drop 22 = dktX5_judge_1 := dk_seg dksX5_judge_0 22 rfl rfl
theorem dksX5_judge_2 : cX5_judge.data.toList.drop 45 = dktX5_judge_2 := dk_seg dksX5_judge_1 23 rfl rfl
theorem dksX5_judge_3 : cX5_judge.data.toList.drop 69 = dktX5_judge_3 := dk_seg dksX5_judge_2 24 rfl rfl
theorem dksX5_judge_4 : cX5_judge.data.toList.drop 92 = dktX5_judge_4 := dk_seg dksX5_judge_3 23 rfl rfl
theorem dksX5_judge_5 : cX5_judge.data.toList.drop 116 = dktX5_judge_5 := dk_seg dksX5_judge_4 24 rfl rfl
theorem dX5_judge_0 : decode cX5_judge 0 = .ok (.aload_n 0, 1) := dk_42 (dk_at dksX5_judge_0 0 rfl rfl)
theorem dX5_judge_1 : decode cX5_judge 1 = .ok (.iload_n 1, 1) := dk_27 (dk_at dksX5_judge_0 1 rfl rfl)
theorem dX5_judge_2 : decode cX5_judge 2 = .ok (.invokevirtual 88, 3) := dk_182 0 88 (dk_at dksX5_judge_0 2 rfl rfl)
theorem dX5_judge_5 : decode cX5_judge 5 = .ok (.istore 4, 2) := dk_54 4 (dk_at dksX5_judge_0 5 rfl rfl)
theorem dX5_judge_7 : decode cX5_judge 7 = .ok (.iload 4, 2) := dk_21 4 (dk_at dksX5_judge_0 7 rfl rfl)
theorem dX5_judge_9 : decode cX5_judge 9 = .ok (.iconst (-1), 1) := dk_2 (dk_at dksX5_judge_0 9 rfl rfl)
theorem dX5_judge_10 : decode cX5_judge 10 = .ok (.if_icmp .eq 10, 3) := dk_159 0 10 (dk_at dksX5_judge_0 10 rfl rfl)
theorem dX5_judge_13 : decode cX5_judge 13 = .ok (.iload_n 2, 1) := dk_28 (dk_at dksX5_judge_0 13 rfl rfl)
theorem dX5_judge_14 : decode cX5_judge 14 = .ok (.invokestatic 236, 3) := dk_184 0 236 (dk_at dksX5_judge_0 14 rfl rfl)
theorem dX5_judge_17 : decode cX5_judge 17 = .ok (.ifCond .ne 9, 3) := dk_154 0 9 (dk_at dksX5_judge_0 17 rfl rfl)
theorem dX5_judge_20 : decode cX5_judge 20 = .ok (.aload_n 0, 1) := dk_42 (dk_at dksX5_judge_0 20 rfl rfl)
theorem dX5_judge_21 : decode cX5_judge 21 = .ok (.iconst (-1), 1) := dk_2 (dk_at dksX5_judge_0 21 rfl rfl)
theorem dX5_judge_22 : decode cX5_judge 22 = .ok (.invokevirtual 154, 3) := dk_182 0 154 (dk_at dksX5_judge_1 0 rfl rfl)
theorem dX5_judge_25 : decode cX5_judge 25 = .ok (.ireturn, 1) := dk_172 (dk_at dksX5_judge_1 3 rfl rfl)
theorem dX5_judge_26 : decode cX5_judge 26 = .ok (.iload 4, 2) := dk_21 4 (dk_at dksX5_judge_1 4 rfl rfl)
theorem dX5_judge_28 : decode cX5_judge 28 = .ok (.ifCond .ge 10, 3) := dk_156 0 10 (dk_at dksX5_judge_1 6 rfl rfl)
theorem dX5_judge_31 : decode cX5_judge 31 = .ok (.aload_n 0, 1) := dk_42 (dk_at dksX5_judge_1 9 rfl rfl)
theorem dX5_judge_32 : decode cX5_judge 32 = .ok (.iload 4, 2) := dk_21 4 (dk_at dksX5_judge_1 10 rfl rfl)
theorem dX5_judge_34 : decode cX5_judge 34 = .ok (.invokevirtual 154, 3) := dk_182 0 154 (dk_at dksX5_judge_1 12 rfl rfl)
theorem dX5_judge_37 : decode cX5_judge 37 = .ok (.ireturn, 1) := dk_172 (dk_at dksX5_judge_1 15 rfl rfl)
theorem dX5_judge_38 : decode cX5_judge 38 = .ok (.iload_n 3, 1) := dk_29 (dk_at dksX5_judge_1 16 rfl rfl)
theorem dX5_judge_39 : decode cX5_judge 39 = .ok (.ifCond .ge 10, 3) := dk_156 0 10 (dk_at dksX5_judge_1 17 rfl rfl)
theorem dX5_judge_42 : decode cX5_judge 42 = .ok (.aload_n 0, 1) := dk_42 (dk_at dksX5_judge_1 20 rfl rfl)
theorem dX5_judge_43 : decode cX5_judge 43 = .ok (.bipush (-4), 2) := dk_16 252 (dk_at dksX5_judge_1 21 rfl rfl)
theorem dX5_judge_45 : decode cX5_judge 45 = .ok (.invokevirtual 154, 3) := dk_182 0 154 (dk_at dksX5_judge_2 0 rfl rfl)
theorem dX5_judge_48 : decode cX5_judge 48 = .ok (.ireturn, 1) := dk_172 (dk_at dksX5_judge_2 3 rfl rfl)
theorem dX5_judge_49 : decode cX5_judge 49 = .ok (.ldc2_w 286, 3) := dk_20 1 30 (dk_at dksX5_judge_2 4 rfl rfl)
theorem dX5_judge_52 : decode cX5_judge 52 = .ok (.iload_n 3, 1) := dk_29 (dk_at dksX5_judge_2 7 rfl rfl)
theorem dX5_judge_53 : decode cX5_judge 53 = .ok (.i2l, 1) := dk_133 (dk_at dksX5_judge_2 8 rfl rfl)
theorem dX5_judge_54 : decode cX5_judge 54 = .ok (.lmul, 1) := dk_105 (dk_at dksX5_judge_2 9 rfl rfl)
theorem dX5_judge_55 : decode cX5_judge 55 = .ok (.aload_n 0, 1) := dk_42 (dk_at dksX5_judge_2 10 rfl rfl)
theorem dX5_judge_56 : decode cX5_judge 56 = .ok (.getfield 19, 3) := dk_180 0 19 (dk_at dksX5_judge_2 11 rfl rfl)
theorem dX5_judge_59 : decode cX5_judge 59 = .ok (.iload_n 1, 1) := dk_27 (dk_at dksX5_judge_2 14 rfl rfl)
theorem dX5_judge_60 : decode cX5_judge 60 = .ok (.iaload, 1) := dk_46 (dk_at dksX5_judge_2 15 rfl rfl)
theorem dX5_judge_61 : decode cX5_judge 61 = .ok (.i2l, 1) := dk_133 (dk_at dksX5_judge_2 16 rfl rfl)
theorem dX5_judge_62 : decode cX5_judge 62 = .ok (.lcmp, 1) := dk_148 (dk_at dksX5_judge_2 17 rfl rfl)
theorem dX5_judge_63 : decode cX5_judge 63 = .ok (.ifCond .le 10, 3) := dk_158 0 10 (dk_at dksX5_judge_2 18 rfl rfl)
theorem dX5_judge_66 : decode cX5_judge 66 = .ok (.aload_n 0, 1) := dk_42 (dk_at dksX5_judge_2 21 rfl rfl)
theorem dX5_judge_67 : decode cX5_judge 67 = .ok (.bipush (-5), 2) := dk_16 251 (dk_at dksX5_judge_2 22 rfl rfl)
theorem dX5_judge_69 : decode cX5_judge 69 = .ok (.invokevirtual 154, 3) := dk_182 0 154 (dk_at dksX5_judge_3 0 rfl rfl)
theorem dX5_judge_72 : decode cX5_judge 72 = .ok (.ireturn, 1) := dk_172 (dk_at dksX5_judge_3 3 rfl rfl)
theorem dX5_judge_73 : decode cX5_judge 73 = .ok (.aload_n 0, 1) := dk_42 (dk_at dksX5_judge_3 4 rfl rfl)
theorem dX5_judge_74 : decode cX5_judge 74 = .ok (.iload_n 2, 1) := dk_28 (dk_at dksX5_judge_3 5 rfl rfl)
theorem dX5_judge_75 : decode cX5_judge 75 = .ok (.iconst (-1), 1) := dk_2 (dk_at dksX5_judge_3 6 rfl rfl)
theorem dX5_judge_76 : decode cX5_judge 76 = .ok (.invokevirtual 251, 3) := dk_182 0 251 (dk_at dksX5_judge_3 7 rfl rfl)
theorem dX5_judge_79 : decode cX5_judge 79 = .ok (.iconst 0, 1) := dk_3 (dk_at dksX5_judge_3 10 rfl rfl)
theorem dX5_judge_80 : decode cX5_judge 80 = .ok (.istore 5, 2) := dk_54 5 (dk_at dksX5_judge_3 11 rfl rfl)
theorem dX5_judge_82 : decode cX5_judge 82 = .ok (.iload 5, 2) := dk_21 5 (dk_at dksX5_judge_3 13 rfl rfl)
theorem dX5_judge_84 : decode cX5_judge 84 = .ok (.iload_n 3, 1) := dk_29 (dk_at dksX5_judge_3 15 rfl rfl)
theorem dX5_judge_85 : decode cX5_judge 85 = .ok (.if_icmp .ge 46, 3) := dk_162 0 46 (dk_at dksX5_judge_3 16 rfl rfl)
theorem dX5_judge_88 : decode cX5_judge 88 = .ok (.aload_n 0, 1) := dk_42 (dk_at dksX5_judge_3 19 rfl rfl)
theorem dX5_judge_89 : decode cX5_judge 89 = .ok (.aload_n 0, 1) := dk_42 (dk_at dksX5_judge_3 20 rfl rfl)
theorem dX5_judge_90 : decode cX5_judge 90 = .ok (.iload_n 1, 1) := dk_27 (dk_at dksX5_judge_3 21 rfl rfl)
theorem dX5_judge_91 : decode cX5_judge 91 = .ok (.iconst 2, 1) := dk_5 (dk_at dksX5_judge_3 22 rfl rfl)
theorem dX5_judge_92 : decode cX5_judge 92 = .ok (.iload 5, 2) := dk_21 5 (dk_at dksX5_judge_4 0 rfl rfl)
theorem dX5_judge_94 : decode cX5_judge 94 = .ok (.imul, 1) := dk_104 (dk_at dksX5_judge_4 2 rfl rfl)
theorem dX5_judge_95 : decode cX5_judge 95 = .ok (.invokevirtual 288, 3) := dk_182 1 32 (dk_at dksX5_judge_4 3 rfl rfl)
theorem dX5_judge_98 : decode cX5_judge 98 = .ok (.invokevirtual 273, 3) := dk_182 1 17 (dk_at dksX5_judge_4 6 rfl rfl)
theorem dX5_judge_101 : decode cX5_judge 101 = .ok (.aload_n 0, 1) := dk_42 (dk_at dksX5_judge_4 9 rfl rfl)
theorem dX5_judge_102 : decode cX5_judge 102 = .ok (.iload_n 1, 1) := dk_27 (dk_at dksX5_judge_4 10 rfl rfl)
theorem dX5_judge_103 : decode cX5_judge 103 = .ok (.iconst 2, 1) := dk_5 (dk_at dksX5_judge_4 11 rfl rfl)
theorem dX5_judge_104 : decode cX5_judge 104 = .ok (.iload 5, 2) := dk_21 5 (dk_at dksX5_judge_4 12 rfl rfl)
theorem dX5_judge_106 : decode cX5_judge 106 = .ok (.imul, 1) := dk_104 (dk_at dksX5_judge_4 14 rfl rfl)
theorem dX5_judge_107 : decode cX5_judge 107 = .ok (.iconst 1, 1) := dk_4 (dk_at dksX5_judge_4 15 rfl rfl)
theorem dX5_judge_108 : decode cX5_judge 108 = .ok (.iadd, 1) := dk_96 (dk_at dksX5_judge_4 16 rfl rfl)
theorem dX5_judge_109 : decode cX5_judge 109 = .ok (.invokevirtual 288, 3) := dk_182 1 32 (dk_at dksX5_judge_4 17 rfl rfl)
theorem dX5_judge_112 : decode cX5_judge 112 = .ok (.if_icmp .ne 10, 3) := dk_160 0 10 (dk_at dksX5_judge_4 20 rfl rfl)
theorem dX5_judge_115 : decode cX5_judge 115 = .ok (.aload_n 0, 1) := dk_42 (dk_at dksX5_judge_4 23 rfl rfl)
theorem dX5_judge_116 : decode cX5_judge 116 = .ok (.getfield 255, 3) := dk_180 0 255 (dk_at dksX5_judge_5 0 rfl rfl)
theorem dX5_judge_119 : decode cX5_judge 119 = .ok (.ifCond .eq 6, 3) := dk_153 0 6 (dk_at dksX5_judge_5 3 rfl rfl)
theorem dX5_judge_122 : decode cX5_judge 122 = .ok (.iload 5, 2) := dk_21 5 (dk_at dksX5_judge_5 6 rfl rfl)
theorem dX5_judge_124 : decode cX5_judge 124 = .ok (.ireturn, 1) := dk_172 (dk_at dksX5_judge_5 8 rfl rfl)
theorem dX5_judge_125 : decode cX5_judge 125 = .ok (.iinc 5 1, 3) := dk_132 5 1 (dk_at dksX5_judge_5 9 rfl rfl)
theorem dX5_judge_128 : decode cX5_judge 128 = .ok (.goto (-46), 3) := dk_167 255 210 (dk_at dksX5_judge_5 12 rfl rfl)
theorem dX5_judge_131 : decode cX5_judge 131 = .ok (.iconst (-1), 1) := dk_2 (dk_at dksX5_judge_5 15 rfl rfl)
theorem dX5_judge_132 : decode cX5_judge 132 = .ok (.ireturn, 1) := dk_172 (dk_at dksX5_judge_5 16 rfl rfl)
abbrev cX5_read_2 : ByteArray := prog_40_method_78_code
def yX5_read_2 : MethodName := ⟨RX5, "read", "(II)I"⟩
def dkwX5_read_2_0 : List UInt8 := [42, 180, 0, 22, 17, 0, 160, 27, 104, 28, 96, 47, 136, 172]
abbrev dktX5_read_2_0 : List UInt8 := dkwX5_read_2_0 ++ []
theorem dksX5_read_2_0 : cX5_read_2.data.toList.drop 0 = dktX5_read_2_0 := by decide +kernel
theorem dX5_read_2_0 : decode cX5_read_2 0 = .ok (.aload_n 0, 1) := dk_42 (dk_at dksX5_read_2_0 0 rfl rfl)
theorem dX5_read_2_1 : decode cX5_read_2 1 = .ok (.getfield 22, 3) := dk_180 0 22 (dk_at dksX5_read_2_0 1 rfl rfl)
theorem dX5_read_2_4 : decode cX5_read_2 4 = .ok (.sipush 160, 3) := dk_17 0 160 (dk_at dksX5_read_2_0 4 rfl rfl)
theorem dX5_read_2_7 : decode cX5_read_2 7 = .ok (.iload_n 1, 1) := dk_27 (dk_at dksX5_read_2_0 7 rfl rfl)
theorem dX5_read_2_8 : decode cX5_read_2 8 = .ok (.imul, 1) := dk_104 (dk_at dksX5_read_2_0 8 rfl rfl)
theorem dX5_read_2_9 : decode cX5_read_2 9 = .ok (.iload_n 2, 1) := dk_28 (dk_at dksX5_read_2_0 9 rfl rfl)
theorem dX5_read_2_10 : decode cX5_read_2 10 = .ok (.iadd, 1) := dk_96 (dk_at dksX5_read_2_0 10 rfl rfl)
theorem dX5_read_2_11 : decode cX5_read_2 11 = .ok (.laload, 1) := dk_47 (dk_at dksX5_read_2_0 11 rfl rfl)
theorem dX5_read_2_12 : decode cX5_read_2 12 = .ok (.l2i, 1) := dk_136 (dk_at dksX5_read_2_0 12 rfl rfl)
theorem dX5_read_2_13 : decode cX5_read_2 13 = .ok (.ireturn, 1) := dk_172 (dk_at dksX5_read_2_0 13 rfl rfl)
abbrev cX5_trace : ByteArray := prog_40_method_80_code
def yX5_trace : MethodName := ⟨RX5, "trace", "(I)I"⟩
def dkwX5_trace_1 : List UInt8 := [46, 167, 0, 4, 2, 172]
abbrev dktX5_trace_1 : List UInt8 := dkwX5_trace_1 ++ []
def dkwX5_trace_0 : List UInt8 := [27, 3, 16, 30, 42, 180, 1, 23, 184, 1, 35, 4, 100, 184, 0, 76, 153, 0, 12, 42, 180, 0, 50, 27]
abbrev dktX5_trace_0 : List UInt8 := dkwX5_trace_0 ++ dktX5_trace_1
theorem dksX5_trace_0 : cX5_trace.data.toList.drop 0 = dktX5_trace_0 := by decide +kernel
theorem dksX5_trace_1 : cX5_trace.data.toList.drop 24 = dktX5_trace_1 := dk_seg dksX5_trace_0 24 rfl rfl
theorem dX5_trace_0 : decode cX5_trace 0 = .ok (.iload_n 1, 1) := dk_27 (dk_at dksX5_trace_0 0 rfl rfl)
theorem dX5_trace_1 : decode cX5_trace 1 = .ok (.iconst 0, 1) := dk_3 (dk_at dksX5_trace_0 1 rfl rfl)
theorem dX5_trace_2 : decode cX5_trace 2 = .ok (.bipush 30, 2) := dk_16 30 (dk_at dksX5_trace_0 2 rfl rfl)
theorem dX5_trace_4 : decode cX5_trace 4 = .ok (.aload_n 0, 1) := dk_42 (dk_at dksX5_trace_0 4 rfl rfl)
theorem dX5_trace_5 : decode cX5_trace 5 = .ok (.getfield 279, 3) := dk_180 1 23 (dk_at dksX5_trace_0 5 rfl rfl)
theorem dX5_trace_8 : decode cX5_trace 8 = .ok (.invokestatic 291, 3) := dk_184 1 35 (dk_at dksX5_trace_0 8 rfl rfl)
theorem dX5_trace_11 : decode cX5_trace 11 = .ok (.iconst 1, 1) := dk_4 (dk_at dksX5_trace_0 11 rfl rfl)
theorem dX5_trace_12 : decode cX5_trace 12 = .ok (.isub, 1) := dk_100 (dk_at dksX5_trace_0 12 rfl rfl)
theorem dX5_trace_13 : decode cX5_trace 13 = .ok (.invokestatic 76, 3) := dk_184 0 76 (dk_at dksX5_trace_0 13 rfl rfl)
theorem dX5_trace_16 : decode cX5_trace 16 = .ok (.ifCond .eq 12, 3) := dk_153 0 12 (dk_at dksX5_trace_0 16 rfl rfl)
theorem dX5_trace_19 : decode cX5_trace 19 = .ok (.aload_n 0, 1) := dk_42 (dk_at dksX5_trace_0 19 rfl rfl)
theorem dX5_trace_20 : decode cX5_trace 20 = .ok (.getfield 50, 3) := dk_180 0 50 (dk_at dksX5_trace_0 20 rfl rfl)
theorem dX5_trace_23 : decode cX5_trace 23 = .ok (.iload_n 1, 1) := dk_27 (dk_at dksX5_trace_0 23 rfl rfl)
theorem dX5_trace_24 : decode cX5_trace 24 = .ok (.iaload, 1) := dk_46 (dk_at dksX5_trace_1 0 rfl rfl)
theorem dX5_trace_25 : decode cX5_trace 25 = .ok (.goto 4, 3) := dk_167 0 4 (dk_at dksX5_trace_1 1 rfl rfl)
theorem dX5_trace_28 : decode cX5_trace 28 = .ok (.iconst (-1), 1) := dk_2 (dk_at dksX5_trace_1 4 rfl rfl)
theorem dX5_trace_29 : decode cX5_trace 29 = .ok (.ireturn, 1) := dk_172 (dk_at dksX5_trace_1 5 rfl rfl)
abbrev cX5_log : ByteArray := prog_40_method_81_code
def yX5_log : MethodName := ⟨RX5, "log", "(I)I"⟩
def dkwX5_log_2 : List UInt8 := [167, 0, 4, 2, 172]
abbrev dktX5_log_2 : List UInt8 := dkwX5_log_2 ++ []
def dkwX5_log_1 : List UInt8 := [180, 0, 176, 16, 40, 164, 0, 12, 42, 180, 0, 176, 27, 96, 167, 0, 4, 27, 16, 40, 112, 46]
abbrev dktX5_log_1 : List UInt8 := dkwX5_log_1 ++ dktX5_log_2
def dkwX5_log_0 : List UInt8 := [27, 3, 16, 40, 42, 180, 0, 176, 184, 1, 35, 4, 100, 184, 0, 76, 153, 0, 33, 42, 180, 0, 35, 42]
abbrev dktX5_log_0 : List UInt8 := dkwX5_log_0 ++ dktX5_log_1
theorem dksX5_log_0 : cX5_log.data.toList.drop 0 = dktX5_log_0 := by decide +kernel
theorem dksX5_log_1 : cX5_log.data.toList.drop 24 = dktX5_log_1 := dk_seg dksX5_log_0 24 rfl rfl
theorem dksX5_log_2 : cX5_log.data.toList.drop 46 = dktX5_log_2 := dk_seg dksX5_log_1 22 rfl rfl
theorem dX5_log_0 : decode cX5_log 0 = .ok (.iload_n 1, 1) := dk_27 (dk_at dksX5_log_0 0 rfl rfl)
theorem dX5_log_1 : decode cX5_log 1 = .ok (.iconst 0, 1) := dk_3 (dk_at dksX5_log_0 1 rfl rfl)
theorem dX5_log_2 : decode cX5_log 2 = .ok (.bipush 40, 2) := dk_16 40 (dk_at dksX5_log_0 2 rfl rfl)
theorem dX5_log_4 : decode cX5_log 4 = .ok (.aload_n 0, 1) := dk_42 (dk_at dksX5_log_0 4 rfl rfl)
theorem dX5_log_5 : decode cX5_log 5 = .ok (.getfield 176, 3) := dk_180 0 176 (dk_at dksX5_log_0 5 rfl rfl)
theorem dX5_log_8 : decode cX5_log 8 = .ok (.invokestatic 291, 3) := dk_184 1 35 (dk_at dksX5_log_0 8 rfl rfl)
theorem dX5_log_11 : decode cX5_log 11 = .ok (.iconst 1, 1) := dk_4 (dk_at dksX5_log_0 11 rfl rfl)
theorem dX5_log_12 : decode cX5_log 12 = .ok (.isub, 1) := dk_100 (dk_at dksX5_log_0 12 rfl rfl)
theorem dX5_log_13 : decode cX5_log 13 = .ok (.invokestatic 76, 3) := dk_184 0 76 (dk_at dksX5_log_0 13 rfl rfl)
theorem dX5_log_16 : decode cX5_log 16 = .ok (.ifCond .eq 33, 3) := dk_153 0 33 (dk_at dksX5_log_0 16 rfl rfl)
theorem dX5_log_19 : decode cX5_log 19 = .ok (.aload_n 0, 1) := dk_42 (dk_at dksX5_log_0 19 rfl rfl)
theorem dX5_log_20 : decode cX5_log 20 = .ok (.getfield 35, 3) := dk_180 0 35 (dk_at dksX5_log_0 20 rfl rfl)
theorem dX5_log_23 : decode cX5_log 23 = .ok (.aload_n 0, 1) := dk_42 (dk_at dksX5_log_0 23 rfl rfl)
theorem dX5_log_24 : decode cX5_log 24 = .ok (.getfield 176, 3) := dk_180 0 176 (dk_at dksX5_log_1 0 rfl rfl)
theorem dX5_log_27 : decode cX5_log 27 = .ok (.bipush 40, 2) := dk_16 40 (dk_at dksX5_log_1 3 rfl rfl)
theorem dX5_log_29 : decode cX5_log 29 = .ok (.if_icmp .le 12, 3) := dk_164 0 12 (dk_at dksX5_log_1 5 rfl rfl)
theorem dX5_log_32 : decode cX5_log 32 = .ok (.aload_n 0, 1) := dk_42 (dk_at dksX5_log_1 8 rfl rfl)
theorem dX5_log_33 : decode cX5_log 33 = .ok (.getfield 176, 3) := dk_180 0 176 (dk_at dksX5_log_1 9 rfl rfl)
theorem dX5_log_36 : decode cX5_log 36 = .ok (.iload_n 1, 1) := dk_27 (dk_at dksX5_log_1 12 rfl rfl)
theorem dX5_log_37 : decode cX5_log 37 = .ok (.iadd, 1) := dk_96 (dk_at dksX5_log_1 13 rfl rfl)
theorem dX5_log_38 : decode cX5_log 38 = .ok (.goto 4, 3) := dk_167 0 4 (dk_at dksX5_log_1 14 rfl rfl)
theorem dX5_log_41 : decode cX5_log 41 = .ok (.iload_n 1, 1) := dk_27 (dk_at dksX5_log_1 17 rfl rfl)
theorem dX5_log_42 : decode cX5_log 42 = .ok (.bipush 40, 2) := dk_16 40 (dk_at dksX5_log_1 18 rfl rfl)
theorem dX5_log_44 : decode cX5_log 44 = .ok (.irem, 1) := dk_112 (dk_at dksX5_log_1 20 rfl rfl)
theorem dX5_log_45 : decode cX5_log 45 = .ok (.iaload, 1) := dk_46 (dk_at dksX5_log_1 21 rfl rfl)
theorem dX5_log_46 : decode cX5_log 46 = .ok (.goto 4, 3) := dk_167 0 4 (dk_at dksX5_log_2 0 rfl rfl)
theorem dX5_log_49 : decode cX5_log 49 = .ok (.iconst (-1), 1) := dk_2 (dk_at dksX5_log_2 3 rfl rfl)
theorem dX5_log_50 : decode cX5_log 50 = .ok (.ireturn, 1) := dk_172 (dk_at dksX5_log_2 4 rfl rfl)
abbrev cX5_days : ByteArray := prog_40_method_84_code
def yX5_days : MethodName := ⟨RX5, "days", "(I)I"⟩
def dkwX5_days_5 : List UInt8 := [132, 2, 1, 167, 255, 169, 42, 4, 182, 1, 42, 172]
abbrev dktX5_days_5 : List UInt8 := dkwX5_days_5 ++ []
def dkwX5_days_4 : List UInt8 := [87, 21, 4, 5, 160, 0, 19, 42, 29, 182, 0, 115, 5, 160, 0, 10, 42, 180, 0, 7, 29, 3, 79]
abbrev dktX5_days_4 : List UInt8 := dkwX5_days_4 ++ dktX5_days_5
def dkwX5_days_3 : List UInt8 := [182, 0, 214, 87, 21, 4, 4, 160, 0, 18, 42, 29, 182, 0, 115, 4, 160, 0, 9, 42, 29, 182, 0, 226]
abbrev dktX5_days_3 : List UInt8 := dkwX5_days_3 ++ dktX5_days_4
def dkwX5_days_2 : List UInt8 := [6, 182, 1, 39, 54, 4, 21, 4, 154, 0, 18, 42, 29, 182, 0, 115, 4, 159, 0, 9, 42, 29]
abbrev dktX5_days_2 : List UInt8 := dkwX5_days_2 ++ dktX5_days_3
def dkwX5_days_1 : List UInt8 := [42, 16, 250, 182, 0, 69, 172, 3, 61, 28, 27, 162, 0, 88, 42, 42, 180, 0, 73, 182, 1, 39, 62, 42]
abbrev dktX5_days_1 : List UInt8 := dkwX5_days_1 ++ dktX5_days_2
def dkwX5_days_0 : List UInt8 := [42, 180, 0, 73, 154, 0, 10, 42, 16, 251, 182, 0, 69, 172, 27, 4, 16, 40, 184, 0, 76, 154, 0, 10]
abbrev dktX5_days_0 : List UInt8 := dkwX5_days_0 ++ dktX5_days_1
theorem dksX5_days_0 : cX5_days.data.toList.drop 0 = dktX5_days_0 := by decide +kernel
theorem dksX5_days_1 : cX5_days.data.toList.drop 24 = dktX5_days_1 := dk_seg dksX5_days_0 24 rfl rfl
theorem dksX5_days_2 : cX5_days.data.toList.drop 48 = dktX5_days_2 := dk_seg dksX5_days_1 24 rfl rfl
theorem dksX5_days_3 : cX5_days.data.toList.drop 70 = dktX5_days_3 := dk_seg dksX5_days_2 22 rfl rfl
theorem dksX5_days_4 : cX5_days.data.toList.drop 94 = dktX5_days_4 := dk_seg dksX5_days_3 24 rfl rfl
theorem dksX5_days_5 : cX5_days.data.toList.drop 117 = dktX5_days_5 := dk_seg dksX5_days_4 23 rfl rfl
theorem dX5_days_0 : decode cX5_days 0 = .ok (.aload_n 0, 1) := dk_42 (dk_at dksX5_days_0 0 rfl rfl)
theorem dX5_days_1 : decode cX5_days 1 = .ok (.getfield 73, 3) := dk_180 0 73 (dk_at dksX5_days_0 1 rfl rfl)
theorem dX5_days_4 : decode cX5_days 4 = .ok (.ifCond .ne 10, 3) := dk_154 0 10 (dk_at dksX5_days_0 4 rfl rfl)
theorem dX5_days_7 : decode cX5_days 7 = .ok (.aload_n 0, 1) := dk_42 (dk_at dksX5_days_0 7 rfl rfl)
theorem dX5_days_8 : decode cX5_days 8 = .ok (.bipush (-5), 2) := dk_16 251 (dk_at dksX5_days_0 8 rfl rfl)
theorem dX5_days_10 : decode cX5_days 10 = .ok (.invokevirtual 69, 3) := dk_182 0 69 (dk_at dksX5_days_0 10 rfl rfl)
theorem dX5_days_13 : decode cX5_days 13 = .ok (.ireturn, 1) := dk_172 (dk_at dksX5_days_0 13 rfl rfl)
theorem dX5_days_14 : decode cX5_days 14 = .ok (.iload_n 1, 1) := dk_27 (dk_at dksX5_days_0 14 rfl rfl)
theorem dX5_days_15 : decode cX5_days 15 = .ok (.iconst 1, 1) := dk_4 (dk_at dksX5_days_0 15 rfl rfl)
theorem dX5_days_16 : decode cX5_days 16 = .ok (.bipush 40, 2) := dk_16 40 (dk_at dksX5_days_0 16 rfl rfl)
theorem dX5_days_18 : decode cX5_days 18 = .ok (.invokestatic 76, 3) := dk_184 0 76 (dk_at dksX5_days_0 18 rfl rfl)
theorem dX5_days_21 : decode cX5_days 21 = .ok (.ifCond .ne 10, 3) := dk_154 0 10 (dk_at dksX5_days_0 21 rfl rfl)
theorem dX5_days_24 : decode cX5_days 24 = .ok (.aload_n 0, 1) := dk_42 (dk_at dksX5_days_1 0 rfl rfl)
theorem dX5_days_25 : decode cX5_days 25 = .ok (.bipush (-6), 2) := dk_16 250 (dk_at dksX5_days_1 1 rfl rfl)
theorem dX5_days_27 : decode cX5_days 27 = .ok (.invokevirtual 69, 3) := dk_182 0 69 (dk_at dksX5_days_1 3 rfl rfl)
theorem dX5_days_30 : decode cX5_days 30 = .ok (.ireturn, 1) := dk_172 (dk_at dksX5_days_1 6 rfl rfl)
theorem dX5_days_31 : decode cX5_days 31 = .ok (.iconst 0, 1) := dk_3 (dk_at dksX5_days_1 7 rfl rfl)
theorem dX5_days_32 : decode cX5_days 32 = .ok (.istore_n 2, 1) := dk_61 (dk_at dksX5_days_1 8 rfl rfl)
theorem dX5_days_33 : decode cX5_days 33 = .ok (.iload_n 2, 1) := dk_28 (dk_at dksX5_days_1 9 rfl rfl)
theorem dX5_days_34 : decode cX5_days 34 = .ok (.iload_n 1, 1) := dk_27 (dk_at dksX5_days_1 10 rfl rfl)
theorem dX5_days_35 : decode cX5_days 35 = .ok (.if_icmp .ge 88, 3) := dk_162 0 88 (dk_at dksX5_days_1 11 rfl rfl)
theorem dX5_days_38 : decode cX5_days 38 = .ok (.aload_n 0, 1) := dk_42 (dk_at dksX5_days_1 14 rfl rfl)
theorem dX5_days_39 : decode cX5_days 39 = .ok (.aload_n 0, 1) := dk_42 (dk_at dksX5_days_1 15 rfl rfl)
theorem dX5_days_40 : decode cX5_days 40 = .ok (.getfield 73, 3) := dk_180 0 73 (dk_at dksX5_days_1 16 rfl rfl)
theorem dX5_days_43 : decode cX5_days 43 = .ok (.invokevirtual 295, 3) := dk_182 1 39 (dk_at dksX5_days_1 19 rfl rfl)
theorem dX5_days_46 : decode cX5_days 46 = .ok (.istore_n 3, 1) := dk_62 (dk_at dksX5_days_1 22 rfl rfl)
theorem dX5_days_47 : decode cX5_days 47 = .ok (.aload_n 0, 1) := dk_42 (dk_at dksX5_days_1 23 rfl rfl)
theorem dX5_days_48 : decode cX5_days 48 = .ok (.iconst 3, 1) := dk_6 (dk_at dksX5_days_2 0 rfl rfl)
theorem dX5_days_49 : decode cX5_days 49 = .ok (.invokevirtual 295, 3) := dk_182 1 39 (dk_at dksX5_days_2 1 rfl rfl)
theorem dX5_days_52 : decode cX5_days 52 = .ok (.istore 4, 2) := dk_54 4 (dk_at dksX5_days_2 4 rfl rfl)
theorem dX5_days_54 : decode cX5_days 54 = .ok (.iload 4, 2) := dk_21 4 (dk_at dksX5_days_2 6 rfl rfl)
theorem dX5_days_56 : decode cX5_days 56 = .ok (.ifCond .ne 18, 3) := dk_154 0 18 (dk_at dksX5_days_2 8 rfl rfl)
theorem dX5_days_59 : decode cX5_days 59 = .ok (.aload_n 0, 1) := dk_42 (dk_at dksX5_days_2 11 rfl rfl)
theorem dX5_days_60 : decode cX5_days 60 = .ok (.iload_n 3, 1) := dk_29 (dk_at dksX5_days_2 12 rfl rfl)
theorem dX5_days_61 : decode cX5_days 61 = .ok (.invokevirtual 115, 3) := dk_182 0 115 (dk_at dksX5_days_2 13 rfl rfl)
theorem dX5_days_64 : decode cX5_days 64 = .ok (.iconst 1, 1) := dk_4 (dk_at dksX5_days_2 16 rfl rfl)
theorem dX5_days_65 : decode cX5_days 65 = .ok (.if_icmp .eq 9, 3) := dk_159 0 9 (dk_at dksX5_days_2 17 rfl rfl)
theorem dX5_days_68 : decode cX5_days 68 = .ok (.aload_n 0, 1) := dk_42 (dk_at dksX5_days_2 20 rfl rfl)
theorem dX5_days_69 : decode cX5_days 69 = .ok (.iload_n 3, 1) := dk_29 (dk_at dksX5_days_2 21 rfl rfl)
theorem dX5_days_70 : decode cX5_days 70 = .ok (.invokevirtual 214, 3) := dk_182 0 214 (dk_at dksX5_days_3 0 rfl rfl)
theorem dX5_days_73 : decode cX5_days 73 = .ok (.pop, 1) := dk_87 (dk_at dksX5_days_3 3 rfl rfl)
theorem dX5_days_74 : decode cX5_days 74 = .ok (.iload 4, 2) := dk_21 4 (dk_at dksX5_days_3 4 rfl rfl)
theorem dX5_days_76 : decode cX5_days 76 = .ok (.iconst 1, 1) := dk_4 (dk_at dksX5_days_3 6 rfl rfl)
theorem dX5_days_77 : decode cX5_days 77 = .ok (.if_icmp .ne 18, 3) := dk_160 0 18 (dk_at dksX5_days_3 7 rfl rfl)
theorem dX5_days_80 : decode cX5_days 80 = .ok (.aload_n 0, 1) := dk_42 (dk_at dksX5_days_3 10 rfl rfl)
theorem dX5_days_81 : decode cX5_days 81 = .ok (.iload_n 3, 1) := dk_29 (dk_at dksX5_days_3 11 rfl rfl)
theorem dX5_days_82 : decode cX5_days 82 = .ok (.invokevirtual 115, 3) := dk_182 0 115 (dk_at dksX5_days_3 12 rfl rfl)
theorem dX5_days_85 : decode cX5_days 85 = .ok (.iconst 1, 1) := dk_4 (dk_at dksX5_days_3 15 rfl rfl)
theorem dX5_days_86 : decode cX5_days 86 = .ok (.if_icmp .ne 9, 3) := dk_160 0 9 (dk_at dksX5_days_3 16 rfl rfl)
theorem dX5_days_89 : decode cX5_days 89 = .ok (.aload_n 0, 1) := dk_42 (dk_at dksX5_days_3 19 rfl rfl)
theorem dX5_days_90 : decode cX5_days 90 = .ok (.iload_n 3, 1) := dk_29 (dk_at dksX5_days_3 20 rfl rfl)
theorem dX5_days_91 : decode cX5_days 91 = .ok (.invokevirtual 226, 3) := dk_182 0 226 (dk_at dksX5_days_3 21 rfl rfl)
theorem dX5_days_94 : decode cX5_days 94 = .ok (.pop, 1) := dk_87 (dk_at dksX5_days_4 0 rfl rfl)
theorem dX5_days_95 : decode cX5_days 95 = .ok (.iload 4, 2) := dk_21 4 (dk_at dksX5_days_4 1 rfl rfl)
theorem dX5_days_97 : decode cX5_days 97 = .ok (.iconst 2, 1) := dk_5 (dk_at dksX5_days_4 3 rfl rfl)
theorem dX5_days_98 : decode cX5_days 98 = .ok (.if_icmp .ne 19, 3) := dk_160 0 19 (dk_at dksX5_days_4 4 rfl rfl)
theorem dX5_days_101 : decode cX5_days 101 = .ok (.aload_n 0, 1) := dk_42 (dk_at dksX5_days_4 7 rfl rfl)
theorem dX5_days_102 : decode cX5_days 102 = .ok (.iload_n 3, 1) := dk_29 (dk_at dksX5_days_4 8 rfl rfl)
theorem dX5_days_103 : decode cX5_days 103 = .ok (.invokevirtual 115, 3) := dk_182 0 115 (dk_at dksX5_days_4 9 rfl rfl)
theorem dX5_days_106 : decode cX5_days 106 = .ok (.iconst 2, 1) := dk_5 (dk_at dksX5_days_4 12 rfl rfl)
theorem dX5_days_107 : decode cX5_days 107 = .ok (.if_icmp .ne 10, 3) := dk_160 0 10 (dk_at dksX5_days_4 13 rfl rfl)
theorem dX5_days_110 : decode cX5_days 110 = .ok (.aload_n 0, 1) := dk_42 (dk_at dksX5_days_4 16 rfl rfl)
theorem dX5_days_111 : decode cX5_days 111 = .ok (.getfield 7, 3) := dk_180 0 7 (dk_at dksX5_days_4 17 rfl rfl)
theorem dX5_days_114 : decode cX5_days 114 = .ok (.iload_n 3, 1) := dk_29 (dk_at dksX5_days_4 20 rfl rfl)
theorem dX5_days_115 : decode cX5_days 115 = .ok (.iconst 0, 1) := dk_3 (dk_at dksX5_days_4 21 rfl rfl)
theorem dX5_days_116 : decode cX5_days 116 = .ok (.iastore, 1) := dk_79 (dk_at dksX5_days_4 22 rfl rfl)
theorem dX5_days_117 : decode cX5_days 117 = .ok (.iinc 2 1, 3) := dk_132 2 1 (dk_at dksX5_days_5 0 rfl rfl)
theorem dX5_days_120 : decode cX5_days 120 = .ok (.goto (-87), 3) := dk_167 255 169 (dk_at dksX5_days_5 3 rfl rfl)
theorem dX5_days_123 : decode cX5_days 123 = .ok (.aload_n 0, 1) := dk_42 (dk_at dksX5_days_5 6 rfl rfl)
theorem dX5_days_124 : decode cX5_days 124 = .ok (.iconst 1, 1) := dk_4 (dk_at dksX5_days_5 7 rfl rfl)
theorem dX5_days_125 : decode cX5_days 125 = .ok (.invokevirtual 298, 3) := dk_182 1 42 (dk_at dksX5_days_5 8 rfl rfl)
theorem dX5_days_128 : decode cX5_days 128 = .ok (.ireturn, 1) := dk_172 (dk_at dksX5_days_5 11 rfl rfl)
abbrev cX5_draw : ByteArray := prog_40_method_82_code
def yX5_draw : MethodName := ⟨RX5, "draw", "(I)I"⟩
def dkwX5_draw_1 : List UInt8 := [112, 172]
abbrev dktX5_draw_1 : List UInt8 := dkwX5_draw_1 ++ []
def dkwX5_draw_0 : List UInt8 := [42, 42, 180, 0, 62, 19, 1, 38, 104, 17, 48, 57, 96, 181, 0, 62, 42, 180, 0, 62, 16, 16, 124, 27]
abbrev dktX5_draw_0 : List UInt8 := dkwX5_draw_0 ++ dktX5_draw_1
theorem dksX5_draw_0 : cX5_draw.data.toList.drop 0 = dktX5_draw_0 := by decide +kernel
theorem dksX5_draw_1 : cX5_draw.data.toList.drop 24 = dktX5_draw_1 := dk_seg dksX5_draw_0 24 rfl rfl
theorem dX5_draw_0 : decode cX5_draw 0 = .ok (.aload_n 0, 1) := dk_42 (dk_at dksX5_draw_0 0 rfl rfl)
theorem dX5_draw_1 : decode cX5_draw 1 = .ok (.aload_n 0, 1) := dk_42 (dk_at dksX5_draw_0 1 rfl rfl)
theorem dX5_draw_2 : decode cX5_draw 2 = .ok (.getfield 62, 3) := dk_180 0 62 (dk_at dksX5_draw_0 2 rfl rfl)
theorem dX5_draw_5 : decode cX5_draw 5 = .ok (.ldc_w 294, 3) := dk_19 1 38 (dk_at dksX5_draw_0 5 rfl rfl)
theorem dX5_draw_8 : decode cX5_draw 8 = .ok (.imul, 1) := dk_104 (dk_at dksX5_draw_0 8 rfl rfl)
theorem dX5_draw_9 : decode cX5_draw 9 = .ok (.sipush 12345, 3) := dk_17 48 57 (dk_at dksX5_draw_0 9 rfl rfl)
theorem dX5_draw_12 : decode cX5_draw 12 = .ok (.iadd, 1) := dk_96 (dk_at dksX5_draw_0 12 rfl rfl)
theorem dX5_draw_13 : decode cX5_draw 13 = .ok (.putfield 62, 3) := dk_181 0 62 (dk_at dksX5_draw_0 13 rfl rfl)
theorem dX5_draw_16 : decode cX5_draw 16 = .ok (.aload_n 0, 1) := dk_42 (dk_at dksX5_draw_0 16 rfl rfl)
theorem dX5_draw_17 : decode cX5_draw 17 = .ok (.getfield 62, 3) := dk_180 0 62 (dk_at dksX5_draw_0 17 rfl rfl)
theorem dX5_draw_20 : decode cX5_draw 20 = .ok (.bipush 16, 2) := dk_16 16 (dk_at dksX5_draw_0 20 rfl rfl)
theorem dX5_draw_22 : decode cX5_draw 22 = .ok (.iushr, 1) := dk_124 (dk_at dksX5_draw_0 22 rfl rfl)
theorem dX5_draw_23 : decode cX5_draw 23 = .ok (.iload_n 1, 1) := dk_27 (dk_at dksX5_draw_0 23 rfl rfl)
theorem dX5_draw_24 : decode cX5_draw 24 = .ok (.irem, 1) := dk_112 (dk_at dksX5_draw_1 0 rfl rfl)
theorem dX5_draw_25 : decode cX5_draw 25 = .ok (.ireturn, 1) := dk_172 (dk_at dksX5_draw_1 1 rfl rfl)
abbrev cX5_inState : ByteArray := prog_40_method_83_code
def yX5_inState : MethodName := ⟨RX5, "inState", "(I)I"⟩
def dkwX5_inState_1 : List UInt8 := [132, 3, 1, 167, 255, 233, 28, 172]
abbrev dktX5_inState_1 : List UInt8 := dkwX5_inState_1 ++ []
def dkwX5_inState_0 : List UInt8 := [3, 61, 3, 62, 29, 42, 180, 0, 73, 162, 0, 21, 42, 29, 182, 0, 115, 27, 160, 0, 6, 132, 2, 1]
abbrev dktX5_inState_0 : List UInt8 := dkwX5_inState_0 ++ dktX5_inState_1
theorem dksX5_inState_0 : cX5_inState.data.toList.drop 0 = dktX5_inState_0 := by decide +kernel
theorem dksX5_inState_1 : cX5_inState.data.toList.drop 24 = dktX5_inState_1 := dk_seg dksX5_inState_0 24 rfl rfl
theorem dX5_inState_0 : decode cX5_inState 0 = .ok (.iconst 0, 1) := dk_3 (dk_at dksX5_inState_0 0 rfl rfl)
theorem dX5_inState_1 : decode cX5_inState 1 = .ok (.istore_n 2, 1) := dk_61 (dk_at dksX5_inState_0 1 rfl rfl)
theorem dX5_inState_2 : decode cX5_inState 2 = .ok (.iconst 0, 1) := dk_3 (dk_at dksX5_inState_0 2 rfl rfl)
theorem dX5_inState_3 : decode cX5_inState 3 = .ok (.istore_n 3, 1) := dk_62 (dk_at dksX5_inState_0 3 rfl rfl)
theorem dX5_inState_4 : decode cX5_inState 4 = .ok (.iload_n 3, 1) := dk_29 (dk_at dksX5_inState_0 4 rfl rfl)
theorem dX5_inState_5 : decode cX5_inState 5 = .ok (.aload_n 0, 1) := dk_42 (dk_at dksX5_inState_0 5 rfl rfl)
theorem dX5_inState_6 : decode cX5_inState 6 = .ok (.getfield 73, 3) := dk_180 0 73 (dk_at dksX5_inState_0 6 rfl rfl)
theorem dX5_inState_9 : decode cX5_inState 9 = .ok (.if_icmp .ge 21, 3) := dk_162 0 21 (dk_at dksX5_inState_0 9 rfl rfl)
theorem dX5_inState_12 : decode cX5_inState 12 = .ok (.aload_n 0, 1) := dk_42 (dk_at dksX5_inState_0 12 rfl rfl)
theorem dX5_inState_13 : decode cX5_inState 13 = .ok (.iload_n 3, 1) := dk_29 (dk_at dksX5_inState_0 13 rfl rfl)
theorem dX5_inState_14 : decode cX5_inState 14 = .ok (.invokevirtual 115, 3) := dk_182 0 115 (dk_at dksX5_inState_0 14 rfl rfl)
theorem dX5_inState_17 : decode cX5_inState 17 = .ok (.iload_n 1, 1) := dk_27 (dk_at dksX5_inState_0 17 rfl rfl)
theorem dX5_inState_18 : decode cX5_inState 18 = .ok (.if_icmp .ne 6, 3) := dk_160 0 6 (dk_at dksX5_inState_0 18 rfl rfl)
theorem dX5_inState_21 : decode cX5_inState 21 = .ok (.iinc 2 1, 3) := dk_132 2 1 (dk_at dksX5_inState_0 21 rfl rfl)
theorem dX5_inState_24 : decode cX5_inState 24 = .ok (.iinc 3 1, 3) := dk_132 3 1 (dk_at dksX5_inState_1 0 rfl rfl)
theorem dX5_inState_27 : decode cX5_inState 27 = .ok (.goto (-23), 3) := dk_167 255 233 (dk_at dksX5_inState_1 3 rfl rfl)
theorem dX5_inState_30 : decode cX5_inState 30 = .ok (.iload_n 2, 1) := dk_28 (dk_at dksX5_inState_1 6 rfl rfl)
theorem dX5_inState_31 : decode cX5_inState 31 = .ok (.ireturn, 1) := dk_172 (dk_at dksX5_inState_1 7 rfl rfl)
abbrev cX5_seed : ByteArray := prog_40_method_85_code
def yX5_seed : MethodName := ⟨RX5, "seed", "(I)I"⟩
def dkwX5_seed_0 : List UInt8 := [42, 180, 0, 62, 61, 42, 27, 181, 0, 62, 28, 172]
abbrev dktX5_seed_0 : List UInt8 := dkwX5_seed_0 ++ []
theorem dksX5_seed_0 : cX5_seed.data.toList.drop 0 = dktX5_seed_0 := by decide +kernel
theorem dX5_seed_0 : decode cX5_seed 0 = .ok (.aload_n 0, 1) := dk_42 (dk_at dksX5_seed_0 0 rfl rfl)
theorem dX5_seed_1 : decode cX5_seed 1 = .ok (.getfield 62, 3) := dk_180 0 62 (dk_at dksX5_seed_0 1 rfl rfl)
theorem dX5_seed_4 : decode cX5_seed 4 = .ok (.istore_n 2, 1) := dk_61 (dk_at dksX5_seed_0 4 rfl rfl)
theorem dX5_seed_5 : decode cX5_seed 5 = .ok (.aload_n 0, 1) := dk_42 (dk_at dksX5_seed_0 5 rfl rfl)
theorem dX5_seed_6 : decode cX5_seed 6 = .ok (.iload_n 1, 1) := dk_27 (dk_at dksX5_seed_0 6 rfl rfl)
theorem dX5_seed_7 : decode cX5_seed 7 = .ok (.putfield 62, 3) := dk_181 0 62 (dk_at dksX5_seed_0 7 rfl rfl)
theorem dX5_seed_10 : decode cX5_seed 10 = .ok (.iload_n 2, 1) := dk_28 (dk_at dksX5_seed_0 10 rfl rfl)
theorem dX5_seed_11 : decode cX5_seed 11 = .ok (.ireturn, 1) := dk_172 (dk_at dksX5_seed_0 11 rfl rfl)
abbrev cX5_image : ByteArray := prog_40_method_88_code
def yX5_image : MethodName := ⟨RX5, "image", "()I"⟩
def dkwX5_image_0 : List UInt8 := [42, 4, 181, 1, 45, 42, 42, 180, 0, 56, 182, 0, 229, 42, 180, 0, 73, 172]
abbrev dktX5_image_0 : List UInt8 := dkwX5_image_0 ++ []
theorem dksX5_image_0 : cX5_image.data.toList.drop 0 = dktX5_image_0 := by decide +kernel
theorem dX5_image_0 : decode cX5_image 0 = .ok (.aload_n 0, 1) := dk_42 (dk_at dksX5_image_0 0 rfl rfl)
theorem dX5_image_1 : decode cX5_image 1 = .ok (.iconst 1, 1) := dk_4 (dk_at dksX5_image_0 1 rfl rfl)
theorem dX5_image_2 : decode cX5_image 2 = .ok (.putfield 301, 3) := dk_181 1 45 (dk_at dksX5_image_0 2 rfl rfl)
theorem dX5_image_5 : decode cX5_image 5 = .ok (.aload_n 0, 1) := dk_42 (dk_at dksX5_image_0 5 rfl rfl)
theorem dX5_image_6 : decode cX5_image 6 = .ok (.aload_n 0, 1) := dk_42 (dk_at dksX5_image_0 6 rfl rfl)
theorem dX5_image_7 : decode cX5_image 7 = .ok (.getfield 56, 3) := dk_180 0 56 (dk_at dksX5_image_0 7 rfl rfl)
theorem dX5_image_10 : decode cX5_image 10 = .ok (.invokevirtual 229, 3) := dk_182 0 229 (dk_at dksX5_image_0 10 rfl rfl)
theorem dX5_image_13 : decode cX5_image 13 = .ok (.aload_n 0, 1) := dk_42 (dk_at dksX5_image_0 13 rfl rfl)
theorem dX5_image_14 : decode cX5_image 14 = .ok (.getfield 73, 3) := dk_180 0 73 (dk_at dksX5_image_0 14 rfl rfl)
theorem dX5_image_17 : decode cX5_image 17 = .ok (.ireturn, 1) := dk_172 (dk_at dksX5_image_0 17 rfl rfl)
abbrev cX5_restore : ByteArray := prog_40_method_89_code
def yX5_restore : MethodName := ⟨RX5, "restore", "()I"⟩
def dkwX5_restore_2 : List UInt8 := [161, 0, 10, 42, 180, 0, 16, 27, 2, 79, 132, 1, 1, 167, 255, 219, 42, 180, 0, 73, 172]
abbrev dktX5_restore_2 : List UInt8 := dkwX5_restore_2 ++ []
def dkwX5_restore_1 : List UInt8 := [27, 16, 8, 162, 0, 37, 42, 27, 182, 0, 84, 154, 0, 23, 42, 180, 0, 16, 27, 46, 42, 180, 0, 73]
abbrev dktX5_restore_1 : List UInt8 := dkwX5_restore_1 ++ dktX5_restore_2
def dkwX5_restore_0 : List UInt8 := [42, 180, 1, 45, 154, 0, 10, 42, 16, 250, 182, 0, 69, 172, 42, 42, 180, 0, 56, 182, 0, 233, 3, 60]
abbrev dktX5_restore_0 : List UInt8 := dkwX5_restore_0 ++ dktX5_restore_1
theorem dksX5_restore_0 : cX5_restore.data.toList.drop 0 = dktX5_restore_0 := by decide +kernel
theorem dksX5_restore_1 : cX5_restore.data.toList.drop 24 = dktX5_restore_1 := dk_seg dksX5_restore_0 24 rfl rfl
theorem dksX5_restore_2 : cX5_restore.data.toList.drop 48 = dktX5_restore_2 := dk_seg dksX5_restore_1 24 rfl rfl
theorem dX5_restore_0 : decode cX5_restore 0 = .ok (.aload_n 0, 1) := dk_42 (dk_at dksX5_restore_0 0 rfl rfl)
theorem dX5_restore_1 : decode cX5_restore 1 = .ok (.getfield 301, 3) := dk_180 1 45 (dk_at dksX5_restore_0 1 rfl rfl)
theorem dX5_restore_4 : decode cX5_restore 4 = .ok (.ifCond .ne 10, 3) := dk_154 0 10 (dk_at dksX5_restore_0 4 rfl rfl)
theorem dX5_restore_7 : decode cX5_restore 7 = .ok (.aload_n 0, 1) := dk_42 (dk_at dksX5_restore_0 7 rfl rfl)
theorem dX5_restore_8 : decode cX5_restore 8 = .ok (.bipush (-6), 2) := dk_16 250 (dk_at dksX5_restore_0 8 rfl rfl)
theorem dX5_restore_10 : decode cX5_restore 10 = .ok (.invokevirtual 69, 3) := dk_182 0 69 (dk_at dksX5_restore_0 10 rfl rfl)
theorem dX5_restore_13 : decode cX5_restore 13 = .ok (.ireturn, 1) := dk_172 (dk_at dksX5_restore_0 13 rfl rfl)
theorem dX5_restore_14 : decode cX5_restore 14 = .ok (.aload_n 0, 1) := dk_42 (dk_at dksX5_restore_0 14 rfl rfl)
theorem dX5_restore_15 : decode cX5_restore 15 = .ok (.aload_n 0, 1) := dk_42 (dk_at dksX5_restore_0 15 rfl rfl)
theorem dX5_restore_16 : decode cX5_restore 16 = .ok (.getfield 56, 3) := dk_180 0 56 (dk_at dksX5_restore_0 16 rfl rfl)
theorem dX5_restore_19 : decode cX5_restore 19 = .ok (.invokevirtual 233, 3) := dk_182 0 233 (dk_at dksX5_restore_0 19 rfl rfl)
theorem dX5_restore_22 : decode cX5_restore 22 = .ok (.iconst 0, 1) := dk_3 (dk_at dksX5_restore_0 22 rfl rfl)
theorem dX5_restore_23 : decode cX5_restore 23 = .ok (.istore_n 1, 1) := dk_60 (dk_at dksX5_restore_0 23 rfl rfl)
theorem dX5_restore_24 : decode cX5_restore 24 = .ok (.iload_n 1, 1) := dk_27 (dk_at dksX5_restore_1 0 rfl rfl)
theorem dX5_restore_25 : decode cX5_restore 25 = .ok (.bipush 8, 2) := dk_16 8 (dk_at dksX5_restore_1 1 rfl rfl)
theorem dX5_restore_27 : decode cX5_restore 27 = .ok (.if_icmp .ge 37, 3) := dk_162 0 37 (dk_at dksX5_restore_1 3 rfl rfl)
theorem dX5_restore_30 : decode cX5_restore 30 = .ok (.aload_n 0, 1) := dk_42 (dk_at dksX5_restore_1 6 rfl rfl)
theorem dX5_restore_31 : decode cX5_restore 31 = .ok (.iload_n 1, 1) := dk_27 (dk_at dksX5_restore_1 7 rfl rfl)
theorem dX5_restore_32 : decode cX5_restore 32 = .ok (.invokevirtual 84, 3) := dk_182 0 84 (dk_at dksX5_restore_1 8 rfl rfl)
theorem dX5_restore_35 : decode cX5_restore 35 = .ok (.ifCond .ne 23, 3) := dk_154 0 23 (dk_at dksX5_restore_1 11 rfl rfl)
theorem dX5_restore_38 : decode cX5_restore 38 = .ok (.aload_n 0, 1) := dk_42 (dk_at dksX5_restore_1 14 rfl rfl)
theorem dX5_restore_39 : decode cX5_restore 39 = .ok (.getfield 16, 3) := dk_180 0 16 (dk_at dksX5_restore_1 15 rfl rfl)
theorem dX5_restore_42 : decode cX5_restore 42 = .ok (.iload_n 1, 1) := dk_27 (dk_at dksX5_restore_1 18 rfl rfl)
theorem dX5_restore_43 : decode cX5_restore 43 = .ok (.iaload, 1) := dk_46 (dk_at dksX5_restore_1 19 rfl rfl)
theorem dX5_restore_44 : decode cX5_restore 44 = .ok (.aload_n 0, 1) := dk_42 (dk_at dksX5_restore_1 20 rfl rfl)
theorem dX5_restore_45 : decode cX5_restore 45 = .ok (.getfield 73, 3) := dk_180 0 73 (dk_at dksX5_restore_1 21 rfl rfl)
theorem dX5_restore_48 : decode cX5_restore 48 = .ok (.if_icmp .lt 10, 3) := dk_161 0 10 (dk_at dksX5_restore_2 0 rfl rfl)
theorem dX5_restore_51 : decode cX5_restore 51 = .ok (.aload_n 0, 1) := dk_42 (dk_at dksX5_restore_2 3 rfl rfl)
theorem dX5_restore_52 : decode cX5_restore 52 = .ok (.getfield 16, 3) := dk_180 0 16 (dk_at dksX5_restore_2 4 rfl rfl)
theorem dX5_restore_55 : decode cX5_restore 55 = .ok (.iload_n 1, 1) := dk_27 (dk_at dksX5_restore_2 7 rfl rfl)
theorem dX5_restore_56 : decode cX5_restore 56 = .ok (.iconst (-1), 1) := dk_2 (dk_at dksX5_restore_2 8 rfl rfl)
theorem dX5_restore_57 : decode cX5_restore 57 = .ok (.iastore, 1) := dk_79 (dk_at dksX5_restore_2 9 rfl rfl)
theorem dX5_restore_58 : decode cX5_restore 58 = .ok (.iinc 1 1, 3) := dk_132 1 1 (dk_at dksX5_restore_2 10 rfl rfl)
theorem dX5_restore_61 : decode cX5_restore 61 = .ok (.goto (-37), 3) := dk_167 255 219 (dk_at dksX5_restore_2 13 rfl rfl)
theorem dX5_restore_64 : decode cX5_restore 64 = .ok (.aload_n 0, 1) := dk_42 (dk_at dksX5_restore_2 16 rfl rfl)
theorem dX5_restore_65 : decode cX5_restore 65 = .ok (.getfield 73, 3) := dk_180 0 73 (dk_at dksX5_restore_2 17 rfl rfl)
theorem dX5_restore_68 : decode cX5_restore 68 = .ok (.ireturn, 1) := dk_172 (dk_at dksX5_restore_2 20 rfl rfl)
abbrev cX5_status : ByteArray := prog_40_method_90_code
def yX5_status : MethodName := ⟨RX5, "status", "(I)I"⟩
def dkwX5_status_4 : List UInt8 := [42, 180, 0, 176, 172, 2, 172]
abbrev dktX5_status_4 : List UInt8 := dkwX5_status_4 ++ []
def dkwX5_status_3 : List UInt8 := [180, 0, 239, 172, 42, 180, 0, 202, 172, 42, 180, 0, 62, 172, 42, 180, 0, 217, 172, 42, 180, 1, 23, 172]
abbrev dktX5_status_3 : List UInt8 := dkwX5_status_3 ++ dktX5_status_4
def dkwX5_status_2 : List UInt8 := [42, 180, 0, 73, 172, 42, 4, 182, 1, 42, 172, 42, 5, 182, 1, 42, 172, 42, 6, 182, 1, 42, 172, 42]
abbrev dktX5_status_2 : List UInt8 := dkwX5_status_2 ++ dktX5_status_3
def dkwX5_status_1 : List UInt8 := [170, 0, 0, 0, 0, 107, 0, 0, 0, 0, 0, 0, 0, 9, 0, 0, 0, 54, 0, 0, 0, 59, 0, 0, 0, 65, 0, 0, 0, 71, 0, 0, 0, 77, 0, 0, 0, 82, 0, 0, 0, 87, 0, 0, 0, 92, 0, 0, 0, 97, 0, 0, 0, 102]
abbrev dktX5_status_1 : List UInt8 := dkwX5_status_1 ++ dktX5_status_2
def dkwX5_status_0 : List UInt8 := [27, 16, 11, 16, 17, 184, 0, 76, 153, 0, 13, 42, 180, 0, 53, 27, 16, 10, 100, 46, 172, 27]
abbrev dktX5_status_0 : List UInt8 := dkwX5_status_0 ++ dktX5_status_1
theorem dksX5_status_0 : cX5_status.data.toList.drop 0 = dktX5_status_0 := by decide +kernel
theorem dksX5_status_1 : cX5_status.data.toList.drop 22 = dktX5_status_1 := dk_seg dksX5_status_0 22 rfl rfl
theorem dksX5_status_2 : cX5_status.data.toList.drop 76 = dktX5_status_2 := dk_seg dksX5_status_1 54 rfl rfl
theorem dksX5_status_3 : cX5_status.data.toList.drop 100 = dktX5_status_3 := dk_seg dksX5_status_2 24 rfl rfl
theorem dksX5_status_4 : cX5_status.data.toList.drop 124 = dktX5_status_4 := dk_seg dksX5_status_3 24 rfl rfl
theorem dX5_status_0 : decode cX5_status 0 = .ok (.iload_n 1, 1) := dk_27 (dk_at dksX5_status_0 0 rfl rfl)
theorem dX5_status_1 : decode cX5_status 1 = .ok (.bipush 11, 2) := dk_16 11 (dk_at dksX5_status_0 1 rfl rfl)
theorem dX5_status_3 : decode cX5_status 3 = .ok (.bipush 17, 2) := dk_16 17 (dk_at dksX5_status_0 3 rfl rfl)
theorem dX5_status_5 : decode cX5_status 5 = .ok (.invokestatic 76, 3) := dk_184 0 76 (dk_at dksX5_status_0 5 rfl rfl)
theorem dX5_status_8 : decode cX5_status 8 = .ok (.ifCond .eq 13, 3) := dk_153 0 13 (dk_at dksX5_status_0 8 rfl rfl)
theorem dX5_status_11 : decode cX5_status 11 = .ok (.aload_n 0, 1) := dk_42 (dk_at dksX5_status_0 11 rfl rfl)
theorem dX5_status_12 : decode cX5_status 12 = .ok (.getfield 53, 3) := dk_180 0 53 (dk_at dksX5_status_0 12 rfl rfl)
theorem dX5_status_15 : decode cX5_status 15 = .ok (.iload_n 1, 1) := dk_27 (dk_at dksX5_status_0 15 rfl rfl)
theorem dX5_status_16 : decode cX5_status 16 = .ok (.bipush 10, 2) := dk_16 10 (dk_at dksX5_status_0 16 rfl rfl)
theorem dX5_status_18 : decode cX5_status 18 = .ok (.isub, 1) := dk_100 (dk_at dksX5_status_0 18 rfl rfl)
theorem dX5_status_19 : decode cX5_status 19 = .ok (.iaload, 1) := dk_46 (dk_at dksX5_status_0 19 rfl rfl)
theorem dX5_status_20 : decode cX5_status 20 = .ok (.ireturn, 1) := dk_172 (dk_at dksX5_status_0 20 rfl rfl)
theorem dX5_status_21 : decode cX5_status 21 = .ok (.iload_n 1, 1) := dk_27 (dk_at dksX5_status_0 21 rfl rfl)
theorem dX5_status_22 : decode cX5_status 22 = .ok (.tableswitch 107 0 9 #[54, 59, 65, 71, 77, 82, 87, 92, 97, 102], 54) := by decide +kernel
theorem dX5_status_76 : decode cX5_status 76 = .ok (.aload_n 0, 1) := dk_42 (dk_at dksX5_status_2 0 rfl rfl)
theorem dX5_status_77 : decode cX5_status 77 = .ok (.getfield 73, 3) := dk_180 0 73 (dk_at dksX5_status_2 1 rfl rfl)
theorem dX5_status_80 : decode cX5_status 80 = .ok (.ireturn, 1) := dk_172 (dk_at dksX5_status_2 4 rfl rfl)
theorem dX5_status_81 : decode cX5_status 81 = .ok (.aload_n 0, 1) := dk_42 (dk_at dksX5_status_2 5 rfl rfl)
theorem dX5_status_82 : decode cX5_status 82 = .ok (.iconst 1, 1) := dk_4 (dk_at dksX5_status_2 6 rfl rfl)
theorem dX5_status_83 : decode cX5_status 83 = .ok (.invokevirtual 298, 3) := dk_182 1 42 (dk_at dksX5_status_2 7 rfl rfl)
theorem dX5_status_86 : decode cX5_status 86 = .ok (.ireturn, 1) := dk_172 (dk_at dksX5_status_2 10 rfl rfl)
theorem dX5_status_87 : decode cX5_status 87 = .ok (.aload_n 0, 1) := dk_42 (dk_at dksX5_status_2 11 rfl rfl)
theorem dX5_status_88 : decode cX5_status 88 = .ok (.iconst 2, 1) := dk_5 (dk_at dksX5_status_2 12 rfl rfl)
theorem dX5_status_89 : decode cX5_status 89 = .ok (.invokevirtual 298, 3) := dk_182 1 42 (dk_at dksX5_status_2 13 rfl rfl)
theorem dX5_status_92 : decode cX5_status 92 = .ok (.ireturn, 1) := dk_172 (dk_at dksX5_status_2 16 rfl rfl)
theorem dX5_status_93 : decode cX5_status 93 = .ok (.aload_n 0, 1) := dk_42 (dk_at dksX5_status_2 17 rfl rfl)
theorem dX5_status_94 : decode cX5_status 94 = .ok (.iconst 3, 1) := dk_6 (dk_at dksX5_status_2 18 rfl rfl)
theorem dX5_status_95 : decode cX5_status 95 = .ok (.invokevirtual 298, 3) := dk_182 1 42 (dk_at dksX5_status_2 19 rfl rfl)
theorem dX5_status_98 : decode cX5_status 98 = .ok (.ireturn, 1) := dk_172 (dk_at dksX5_status_2 22 rfl rfl)
theorem dX5_status_99 : decode cX5_status 99 = .ok (.aload_n 0, 1) := dk_42 (dk_at dksX5_status_2 23 rfl rfl)
theorem dX5_status_100 : decode cX5_status 100 = .ok (.getfield 239, 3) := dk_180 0 239 (dk_at dksX5_status_3 0 rfl rfl)
theorem dX5_status_103 : decode cX5_status 103 = .ok (.ireturn, 1) := dk_172 (dk_at dksX5_status_3 3 rfl rfl)
theorem dX5_status_104 : decode cX5_status 104 = .ok (.aload_n 0, 1) := dk_42 (dk_at dksX5_status_3 4 rfl rfl)
theorem dX5_status_105 : decode cX5_status 105 = .ok (.getfield 202, 3) := dk_180 0 202 (dk_at dksX5_status_3 5 rfl rfl)
theorem dX5_status_108 : decode cX5_status 108 = .ok (.ireturn, 1) := dk_172 (dk_at dksX5_status_3 8 rfl rfl)
theorem dX5_status_109 : decode cX5_status 109 = .ok (.aload_n 0, 1) := dk_42 (dk_at dksX5_status_3 9 rfl rfl)
theorem dX5_status_110 : decode cX5_status 110 = .ok (.getfield 62, 3) := dk_180 0 62 (dk_at dksX5_status_3 10 rfl rfl)
theorem dX5_status_113 : decode cX5_status 113 = .ok (.ireturn, 1) := dk_172 (dk_at dksX5_status_3 13 rfl rfl)
theorem dX5_status_114 : decode cX5_status 114 = .ok (.aload_n 0, 1) := dk_42 (dk_at dksX5_status_3 14 rfl rfl)
theorem dX5_status_115 : decode cX5_status 115 = .ok (.getfield 217, 3) := dk_180 0 217 (dk_at dksX5_status_3 15 rfl rfl)
theorem dX5_status_118 : decode cX5_status 118 = .ok (.ireturn, 1) := dk_172 (dk_at dksX5_status_3 18 rfl rfl)
theorem dX5_status_119 : decode cX5_status 119 = .ok (.aload_n 0, 1) := dk_42 (dk_at dksX5_status_3 19 rfl rfl)
theorem dX5_status_120 : decode cX5_status 120 = .ok (.getfield 279, 3) := dk_180 1 23 (dk_at dksX5_status_3 20 rfl rfl)
theorem dX5_status_123 : decode cX5_status 123 = .ok (.ireturn, 1) := dk_172 (dk_at dksX5_status_3 23 rfl rfl)
theorem dX5_status_124 : decode cX5_status 124 = .ok (.aload_n 0, 1) := dk_42 (dk_at dksX5_status_4 0 rfl rfl)
theorem dX5_status_125 : decode cX5_status 125 = .ok (.getfield 176, 3) := dk_180 0 176 (dk_at dksX5_status_4 1 rfl rfl)
theorem dX5_status_128 : decode cX5_status 128 = .ok (.ireturn, 1) := dk_172 (dk_at dksX5_status_4 4 rfl rfl)
theorem dX5_status_129 : decode cX5_status 129 = .ok (.iconst (-1), 1) := dk_2 (dk_at dksX5_status_4 5 rfl rfl)
theorem dX5_status_130 : decode cX5_status 130 = .ok (.ireturn, 1) := dk_172 (dk_at dksX5_status_4 6 rfl rfl)
theorem q89 : (Jvm.Cond.initialized "PluginChainsModel") ∈ lw_all := lw_g (lw_at lw_m1 9 rfl) rfl
theorem q1333 : (Jvm.Cond.selects "PluginChainsModel" ({ cls := "java/lang/Object", name := "getClass", desc := "()Ljava/lang/Class;" } : Jvm.MethodName) ({ cls := "java/lang/Object", name := "getClass", desc := "()Ljava/lang/Class;" } : Jvm.MethodName)) ∈ lw_all := lw_g (lw_at lw_m6 53 rfl) rfl
theorem q3516 : (Jvm.Cond.instantiable "PluginChainsModel" (37 : Nat)) ∈ lw_all := lw_g (lw_at lw_m15 76 rfl) rfl
theorem q3518 : (Jvm.Cond.instanceMethod ({ cls := "PluginChainsModel", name := "<init>", desc := "()V" } : Jvm.MethodName)) ∈ lw_all := lw_g (lw_at lw_m15 78 rfl) rfl
theorem q3519 : (Jvm.Cond.code ({ cls := "PluginChainsModel", name := "<init>", desc := "()V" } : Jvm.MethodName) prog_40_method_1_code (2 : Nat) (Option.none : Option Jvm.ClassFile.FieldType)) ∈ lw_all := lw_g (lw_at lw_m15 79 rfl) rfl
theorem q3520 : (Jvm.Cond.methodLink "PluginChainsModel" (1 : Nat) ({ cls := "java/lang/Object", name := "<init>", desc := "()V" } : Jvm.MethodName)) ∈ lw_all := lw_g (lw_at lw_m15 80 rfl) rfl
theorem q3521 : (Jvm.Cond.fieldLink "PluginChainsModel" (73 : Nat) "PluginChainsModel" "plugs" "I") ∈ lw_all := lw_g (lw_at lw_m15 81 rfl) rfl
theorem q3522 : (Jvm.Cond.fieldLink "PluginChainsModel" (7 : Nat) "PluginChainsModel" "told" "[I") ∈ lw_all := lw_g (lw_at lw_m15 82 rfl) rfl
theorem q3523 : (Jvm.Cond.fieldLink "PluginChainsModel" (202 : Nat) "PluginChainsModel" "clock" "I") ∈ lw_all := lw_g (lw_at lw_m15 83 rfl) rfl
theorem q3524 : (Jvm.Cond.fieldLink "PluginChainsModel" (62 : Nat) "PluginChainsModel" "seed" "I") ∈ lw_all := lw_g (lw_at lw_m15 84 rfl) rfl
theorem q3525 : (Jvm.Cond.fieldLink "PluginChainsModel" (239 : Nat) "PluginChainsModel" "hooks" "I") ∈ lw_all := lw_g (lw_at lw_m15 85 rfl) rfl
theorem q3526 : (Jvm.Cond.fieldLink "PluginChainsModel" (13 : Nat) "PluginChainsModel" "hook" "[I") ∈ lw_all := lw_g (lw_at lw_m15 86 rfl) rfl
theorem q3527 : (Jvm.Cond.fieldLink "PluginChainsModel" (16 : Nat) "PluginChainsModel" "holding" "[I") ∈ lw_all := lw_g (lw_at lw_m15 87 rfl) rfl
theorem q3528 : (Jvm.Cond.fieldLink "PluginChainsModel" (19 : Nat) "PluginChainsModel" "rowLength" "[I") ∈ lw_all := lw_g (lw_at lw_m15 88 rfl) rfl
theorem q3529 : (Jvm.Cond.fieldLink "PluginChainsModel" (22 : Nat) "PluginChainsModel" "rowOf" "[J") ∈ lw_all := lw_g (lw_at lw_m15 89 rfl) rfl
theorem q3530 : (Jvm.Cond.fieldLink "PluginChainsModel" (66 : Nat) "PluginChainsModel" "fault" "I") ∈ lw_all := lw_g (lw_at lw_m15 90 rfl) rfl
theorem q3531 : (Jvm.Cond.fieldLink "PluginChainsModel" (131 : Nat) "PluginChainsModel" "reading" "I") ∈ lw_all := lw_g (lw_at lw_m15 91 rfl) rfl
theorem q3532 : (Jvm.Cond.fieldLink "PluginChainsModel" (128 : Nat) "PluginChainsModel" "at" "I") ∈ lw_all := lw_g (lw_at lw_m15 92 rfl) rfl
theorem q3533 : (Jvm.Cond.fieldLink "PluginChainsModel" (217 : Nat) "PluginChainsModel" "causes" "I") ∈ lw_all := lw_g (lw_at lw_m15 93 rfl) rfl
theorem q3534 : (Jvm.Cond.fieldLink "PluginChainsModel" (26 : Nat) "PluginChainsModel" "cause" "[I") ∈ lw_all := lw_g (lw_at lw_m15 94 rfl) rfl
theorem q3535 : (Jvm.Cond.fieldLink "PluginChainsModel" (182 : Nat) "PluginChainsModel" "failed" "I") ∈ lw_all := lw_g (lw_at lw_m15 95 rfl) rfl
theorem q3536 : (Jvm.Cond.fieldLink "PluginChainsModel" (29 : Nat) "PluginChainsModel" "fails" "[I") ∈ lw_all := lw_g (lw_at lw_m15 96 rfl) rfl
theorem q3537 : (Jvm.Cond.fieldLink "PluginChainsModel" (193 : Nat) "PluginChainsModel" "busy" "I") ∈ lw_all := lw_g (lw_at lw_m15 97 rfl) rfl
theorem q3538 : (Jvm.Cond.fieldLink "PluginChainsModel" (205 : Nat) "PluginChainsModel" "started" "I") ∈ lw_all := lw_g (lw_at lw_m15 98 rfl) rfl
theorem q3539 : (Jvm.Cond.fieldLink "PluginChainsModel" (32 : Nat) "PluginChainsModel" "starts" "[I") ∈ lw_all := lw_g (lw_at lw_m15 99 rfl) rfl
theorem q3540 : (Jvm.Cond.fieldLink "PluginChainsModel" (172 : Nat) "PluginChainsModel" "isThought" "Z") ∈ lw_all := lw_g (lw_at lw_m15 100 rfl) rfl
theorem q3541 : (Jvm.Cond.fieldLink "PluginChainsModel" (176 : Nat) "PluginChainsModel" "logged" "I") ∈ lw_all := lw_g (lw_at lw_m15 101 rfl) rfl
theorem q3542 : (Jvm.Cond.fieldLink "PluginChainsModel" (35 : Nat) "PluginChainsModel" "log" "[I") ∈ lw_all := lw_g (lw_at lw_m15 102 rfl) rfl
theorem q3543 : (Jvm.Cond.fieldLink "PluginChainsModel" (38 : Nat) "PluginChainsModel" "waveOf" "[I") ∈ lw_all := lw_g (lw_at lw_m15 103 rfl) rfl
theorem q3544 : (Jvm.Cond.fieldLink "PluginChainsModel" (245 : Nat) "PluginChainsModel" "many" "I") ∈ lw_all := lw_g (lw_at lw_m15 104 rfl) rfl
theorem q3545 : (Jvm.Cond.fieldLink "PluginChainsModel" (41 : Nat) "PluginChainsModel" "chain" "[I") ∈ lw_all := lw_g (lw_at lw_m15 105 rfl) rfl
theorem q3546 : (Jvm.Cond.fieldLink "PluginChainsModel" (255 : Nat) "PluginChainsModel" "outcome" "I") ∈ lw_all := lw_g (lw_at lw_m15 106 rfl) rfl
theorem q3547 : (Jvm.Cond.fieldLink "PluginChainsModel" (258 : Nat) "PluginChainsModel" "thrown" "I") ∈ lw_all := lw_g (lw_at lw_m15 107 rfl) rfl
theorem q3548 : (Jvm.Cond.fieldLink "PluginChainsModel" (261 : Nat) "PluginChainsModel" "ran" "I") ∈ lw_all := lw_g (lw_at lw_m15 108 rfl) rfl
theorem q3549 : (Jvm.Cond.fieldLink "PluginChainsModel" (44 : Nat) "PluginChainsModel" "ranOnes" "[I") ∈ lw_all := lw_g (lw_at lw_m15 109 rfl) rfl
theorem q3550 : (Jvm.Cond.fieldLink "PluginChainsModel" (47 : Nat) "PluginChainsModel" "notes" "[I") ∈ lw_all := lw_g (lw_at lw_m15 110 rfl) rfl
theorem q3551 : (Jvm.Cond.fieldLink "PluginChainsModel" (279 : Nat) "PluginChainsModel" "lastRan" "I") ∈ lw_all := lw_g (lw_at lw_m15 111 rfl) rfl
theorem q3552 : (Jvm.Cond.fieldLink "PluginChainsModel" (50 : Nat) "PluginChainsModel" "traces" "[I") ∈ lw_all := lw_g (lw_at lw_m15 112 rfl) rfl
theorem q3553 : (Jvm.Cond.fieldLink "PluginChainsModel" (276 : Nat) "PluginChainsModel" "given" "I") ∈ lw_all := lw_g (lw_at lw_m15 113 rfl) rfl
theorem q3554 : (Jvm.Cond.fieldLink "PluginChainsModel" (53 : Nat) "PluginChainsModel" "refusals" "[I") ∈ lw_all := lw_g (lw_at lw_m15 114 rfl) rfl
theorem q3555 : (Jvm.Cond.fieldLink "PluginChainsModel" (301 : Nat) "PluginChainsModel" "imaged" "Z") ∈ lw_all := lw_g (lw_at lw_m15 115 rfl) rfl
theorem q3556 : (Jvm.Cond.fieldLink "PluginChainsModel" (56 : Nat) "PluginChainsModel" "image" "[I") ∈ lw_all := lw_g (lw_at lw_m15 116 rfl) rfl
theorem q3557 : (Jvm.Cond.fieldLink "PluginChainsModel" (59 : Nat) "PluginChainsModel" "ahead" "[I") ∈ lw_all := lw_g (lw_at lw_m15 117 rfl) rfl
theorem q3558 : (Jvm.Cond.lays "PluginChainsModel" "PluginChainsModel" "plugs" "I") ∈ lw_all := lw_g (lw_at lw_m15 118 rfl) rfl
theorem q3559 : (Jvm.Cond.soleField "PluginChainsModel" "plugs") ∈ lw_all := lw_g (lw_at lw_m15 119 rfl) rfl
theorem q3560 : (Jvm.Cond.laysFinal "PluginChainsModel" "PluginChainsModel" "told" "[I") ∈ lw_all := lw_g (lw_at lw_m15 120 rfl) rfl
theorem q3561 : (Jvm.Cond.soleField "PluginChainsModel" "told") ∈ lw_all := lw_g (lw_at lw_m15 121 rfl) rfl
theorem q3562 : (Jvm.Cond.lays "PluginChainsModel" "PluginChainsModel" "clock" "I") ∈ lw_all := lw_g (lw_at lw_m15 122 rfl) rfl
theorem q3563 : (Jvm.Cond.soleField "PluginChainsModel" "clock") ∈ lw_all := lw_g (lw_at lw_m15 123 rfl) rfl
theorem q3564 : (Jvm.Cond.lays "PluginChainsModel" "PluginChainsModel" "seed" "I") ∈ lw_all := lw_g (lw_at lw_m15 124 rfl) rfl
theorem q3565 : (Jvm.Cond.soleField "PluginChainsModel" "seed") ∈ lw_all := lw_g (lw_at lw_m15 125 rfl) rfl
theorem q3566 : (Jvm.Cond.lays "PluginChainsModel" "PluginChainsModel" "hooks" "I") ∈ lw_all := lw_g (lw_at lw_m15 126 rfl) rfl
theorem q3567 : (Jvm.Cond.soleField "PluginChainsModel" "hooks") ∈ lw_all := lw_g (lw_at lw_m15 127 rfl) rfl
theorem q3568 : (Jvm.Cond.laysFinal "PluginChainsModel" "PluginChainsModel" "hook" "[I") ∈ lw_all := lw_g (lw_at lw_m15 128 rfl) rfl
theorem q3569 : (Jvm.Cond.soleField "PluginChainsModel" "hook") ∈ lw_all := lw_g (lw_at lw_m15 129 rfl) rfl
theorem q3570 : (Jvm.Cond.laysFinal "PluginChainsModel" "PluginChainsModel" "holding" "[I") ∈ lw_all := lw_g (lw_at lw_m15 130 rfl) rfl
theorem q3571 : (Jvm.Cond.soleField "PluginChainsModel" "holding") ∈ lw_all := lw_g (lw_at lw_m15 131 rfl) rfl
theorem q3572 : (Jvm.Cond.laysFinal "PluginChainsModel" "PluginChainsModel" "rowLength" "[I") ∈ lw_all := lw_g (lw_at lw_m15 132 rfl) rfl
theorem q3573 : (Jvm.Cond.soleField "PluginChainsModel" "rowLength") ∈ lw_all := lw_g (lw_at lw_m15 133 rfl) rfl
theorem q3574 : (Jvm.Cond.laysFinal "PluginChainsModel" "PluginChainsModel" "rowOf" "[J") ∈ lw_all := lw_g (lw_at lw_m15 134 rfl) rfl
theorem q3575 : (Jvm.Cond.soleField "PluginChainsModel" "rowOf") ∈ lw_all := lw_g (lw_at lw_m15 135 rfl) rfl
theorem q3576 : (Jvm.Cond.lays "PluginChainsModel" "PluginChainsModel" "fault" "I") ∈ lw_all := lw_g (lw_at lw_m15 136 rfl) rfl
theorem q3577 : (Jvm.Cond.soleField "PluginChainsModel" "fault") ∈ lw_all := lw_g (lw_at lw_m15 137 rfl) rfl
theorem q3578 : (Jvm.Cond.lays "PluginChainsModel" "PluginChainsModel" "reading" "I") ∈ lw_all := lw_g (lw_at lw_m15 138 rfl) rfl
theorem q3579 : (Jvm.Cond.soleField "PluginChainsModel" "reading") ∈ lw_all := lw_g (lw_at lw_m15 139 rfl) rfl
theorem q3580 : (Jvm.Cond.lays "PluginChainsModel" "PluginChainsModel" "at" "I") ∈ lw_all := lw_g (lw_at lw_m15 140 rfl) rfl
theorem q3581 : (Jvm.Cond.soleField "PluginChainsModel" "at") ∈ lw_all := lw_g (lw_at lw_m15 141 rfl) rfl
theorem q3582 : (Jvm.Cond.lays "PluginChainsModel" "PluginChainsModel" "causes" "I") ∈ lw_all := lw_g (lw_at lw_m15 142 rfl) rfl
theorem q3583 : (Jvm.Cond.soleField "PluginChainsModel" "causes") ∈ lw_all := lw_g (lw_at lw_m15 143 rfl) rfl
theorem q3584 : (Jvm.Cond.laysFinal "PluginChainsModel" "PluginChainsModel" "cause" "[I") ∈ lw_all := lw_g (lw_at lw_m15 144 rfl) rfl
theorem q3585 : (Jvm.Cond.soleField "PluginChainsModel" "cause") ∈ lw_all := lw_g (lw_at lw_m15 145 rfl) rfl
theorem q3586 : (Jvm.Cond.lays "PluginChainsModel" "PluginChainsModel" "failed" "I") ∈ lw_all := lw_g (lw_at lw_m15 146 rfl) rfl
theorem q3587 : (Jvm.Cond.soleField "PluginChainsModel" "failed") ∈ lw_all := lw_g (lw_at lw_m15 147 rfl) rfl
theorem q3588 : (Jvm.Cond.laysFinal "PluginChainsModel" "PluginChainsModel" "fails" "[I") ∈ lw_all := lw_g (lw_at lw_m15 148 rfl) rfl
theorem q3589 : (Jvm.Cond.soleField "PluginChainsModel" "fails") ∈ lw_all := lw_g (lw_at lw_m15 149 rfl) rfl
theorem q3590 : (Jvm.Cond.lays "PluginChainsModel" "PluginChainsModel" "busy" "I") ∈ lw_all := lw_g (lw_at lw_m15 150 rfl) rfl
theorem q3591 : (Jvm.Cond.soleField "PluginChainsModel" "busy") ∈ lw_all := lw_g (lw_at lw_m15 151 rfl) rfl
theorem q3592 : (Jvm.Cond.lays "PluginChainsModel" "PluginChainsModel" "started" "I") ∈ lw_all := lw_g (lw_at lw_m15 152 rfl) rfl
theorem q3593 : (Jvm.Cond.soleField "PluginChainsModel" "started") ∈ lw_all := lw_g (lw_at lw_m15 153 rfl) rfl
theorem q3594 : (Jvm.Cond.laysFinal "PluginChainsModel" "PluginChainsModel" "starts" "[I") ∈ lw_all := lw_g (lw_at lw_m15 154 rfl) rfl
theorem q3595 : (Jvm.Cond.soleField "PluginChainsModel" "starts") ∈ lw_all := lw_g (lw_at lw_m15 155 rfl) rfl
theorem q3596 : (Jvm.Cond.lays "PluginChainsModel" "PluginChainsModel" "isThought" "Z") ∈ lw_all := lw_g (lw_at lw_m15 156 rfl) rfl
theorem q3597 : (Jvm.Cond.soleField "PluginChainsModel" "isThought") ∈ lw_all := lw_g (lw_at lw_m15 157 rfl) rfl
theorem q3598 : (Jvm.Cond.lays "PluginChainsModel" "PluginChainsModel" "logged" "I") ∈ lw_all := lw_g (lw_at lw_m15 158 rfl) rfl
theorem q3599 : (Jvm.Cond.soleField "PluginChainsModel" "logged") ∈ lw_all := lw_g (lw_at lw_m15 159 rfl) rfl
theorem q3600 : (Jvm.Cond.laysFinal "PluginChainsModel" "PluginChainsModel" "log" "[I") ∈ lw_all := lw_g (lw_at lw_m15 160 rfl) rfl
theorem q3601 : (Jvm.Cond.soleField "PluginChainsModel" "log") ∈ lw_all := lw_g (lw_at lw_m15 161 rfl) rfl
theorem q3602 : (Jvm.Cond.laysFinal "PluginChainsModel" "PluginChainsModel" "waveOf" "[I") ∈ lw_all := lw_g (lw_at lw_m15 162 rfl) rfl
theorem q3603 : (Jvm.Cond.soleField "PluginChainsModel" "waveOf") ∈ lw_all := lw_g (lw_at lw_m15 163 rfl) rfl
theorem q3604 : (Jvm.Cond.lays "PluginChainsModel" "PluginChainsModel" "many" "I") ∈ lw_all := lw_g (lw_at lw_m15 164 rfl) rfl
theorem q3605 : (Jvm.Cond.soleField "PluginChainsModel" "many") ∈ lw_all := lw_g (lw_at lw_m15 165 rfl) rfl
theorem q3606 : (Jvm.Cond.laysFinal "PluginChainsModel" "PluginChainsModel" "chain" "[I") ∈ lw_all := lw_g (lw_at lw_m15 166 rfl) rfl
theorem q3607 : (Jvm.Cond.soleField "PluginChainsModel" "chain") ∈ lw_all := lw_g (lw_at lw_m15 167 rfl) rfl
theorem q3608 : (Jvm.Cond.lays "PluginChainsModel" "PluginChainsModel" "outcome" "I") ∈ lw_all := lw_g (lw_at lw_m15 168 rfl) rfl
theorem q3609 : (Jvm.Cond.soleField "PluginChainsModel" "outcome") ∈ lw_all := lw_g (lw_at lw_m15 169 rfl) rfl
theorem q3610 : (Jvm.Cond.lays "PluginChainsModel" "PluginChainsModel" "thrown" "I") ∈ lw_all := lw_g (lw_at lw_m15 170 rfl) rfl
theorem q3611 : (Jvm.Cond.soleField "PluginChainsModel" "thrown") ∈ lw_all := lw_g (lw_at lw_m15 171 rfl) rfl
theorem q3612 : (Jvm.Cond.lays "PluginChainsModel" "PluginChainsModel" "ran" "I") ∈ lw_all := lw_g (lw_at lw_m15 172 rfl) rfl
theorem q3613 : (Jvm.Cond.soleField "PluginChainsModel" "ran") ∈ lw_all := lw_g (lw_at lw_m15 173 rfl) rfl
theorem q3614 : (Jvm.Cond.laysFinal "PluginChainsModel" "PluginChainsModel" "ranOnes" "[I") ∈ lw_all := lw_g (lw_at lw_m15 174 rfl) rfl
theorem q3615 : (Jvm.Cond.soleField "PluginChainsModel" "ranOnes") ∈ lw_all := lw_g (lw_at lw_m15 175 rfl) rfl
theorem q3616 : (Jvm.Cond.laysFinal "PluginChainsModel" "PluginChainsModel" "notes" "[I") ∈ lw_all := lw_g (lw_at lw_m15 176 rfl) rfl
theorem q3617 : (Jvm.Cond.soleField "PluginChainsModel" "notes") ∈ lw_all := lw_g (lw_at lw_m15 177 rfl) rfl
theorem q3618 : (Jvm.Cond.lays "PluginChainsModel" "PluginChainsModel" "lastRan" "I") ∈ lw_all := lw_g (lw_at lw_m15 178 rfl) rfl
theorem q3619 : (Jvm.Cond.soleField "PluginChainsModel" "lastRan") ∈ lw_all := lw_g (lw_at lw_m15 179 rfl) rfl
theorem q3620 : (Jvm.Cond.laysFinal "PluginChainsModel" "PluginChainsModel" "traces" "[I") ∈ lw_all := lw_g (lw_at lw_m15 180 rfl) rfl
theorem q3621 : (Jvm.Cond.soleField "PluginChainsModel" "traces") ∈ lw_all := lw_g (lw_at lw_m15 181 rfl) rfl
theorem q3622 : (Jvm.Cond.lays "PluginChainsModel" "PluginChainsModel" "given" "I") ∈ lw_all := lw_g (lw_at lw_m15 182 rfl) rfl
theorem q3623 : (Jvm.Cond.soleField "PluginChainsModel" "given") ∈ lw_all := lw_g (lw_at lw_m15 183 rfl) rfl
theorem q3624 : (Jvm.Cond.laysFinal "PluginChainsModel" "PluginChainsModel" "refusals" "[I") ∈ lw_all := lw_g (lw_at lw_m15 184 rfl) rfl
theorem q3625 : (Jvm.Cond.soleField "PluginChainsModel" "refusals") ∈ lw_all := lw_g (lw_at lw_m15 185 rfl) rfl
theorem q3626 : (Jvm.Cond.lays "PluginChainsModel" "PluginChainsModel" "imaged" "Z") ∈ lw_all := lw_g (lw_at lw_m15 186 rfl) rfl
theorem q3627 : (Jvm.Cond.soleField "PluginChainsModel" "imaged") ∈ lw_all := lw_g (lw_at lw_m15 187 rfl) rfl
theorem q3628 : (Jvm.Cond.laysFinal "PluginChainsModel" "PluginChainsModel" "image" "[I") ∈ lw_all := lw_g (lw_at lw_m15 188 rfl) rfl
theorem q3629 : (Jvm.Cond.soleField "PluginChainsModel" "image") ∈ lw_all := lw_g (lw_at lw_m15 189 rfl) rfl
theorem q3630 : (Jvm.Cond.laysFinal "PluginChainsModel" "PluginChainsModel" "ahead" "[I") ∈ lw_all := lw_g (lw_at lw_m15 190 rfl) rfl
theorem q3631 : (Jvm.Cond.soleField "PluginChainsModel" "ahead") ∈ lw_all := lw_g (lw_at lw_m15 191 rfl) rfl
theorem q3632 : (Jvm.Cond.superclass "PluginChainsModel" "java/lang/Object") ∈ lw_all := lw_g (lw_at lw_m15 192 rfl) rfl
theorem q3634 : (Jvm.Cond.instanceMethod ({ cls := "PluginChainsModel", name := "row", desc := "(III)I" } : Jvm.MethodName)) ∈ lw_all := lw_g (lw_at lw_m15 194 rfl) rfl
theorem q3635 : (Jvm.Cond.selects "PluginChainsModel" ({ cls := "PluginChainsModel", name := "row", desc := "(III)I" } : Jvm.MethodName) ({ cls := "PluginChainsModel", name := "row", desc := "(III)I" } : Jvm.MethodName)) ∈ lw_all := lw_g (lw_at lw_m15 195 rfl) rfl
theorem q3636 : (Jvm.Cond.code ({ cls := "PluginChainsModel", name := "row", desc := "(III)I" } : Jvm.MethodName) prog_40_method_14_code (5 : Nat) (Option.some Jvm.ClassFile.FieldType.int)) ∈ lw_all := lw_g (lw_at lw_m15 196 rfl) rfl
theorem q3637 : (Jvm.Cond.methodLink "PluginChainsModel" (76 : Nat) ({ cls := "PluginChainsModel", name := "within", desc := "(III)Z" } : Jvm.MethodName)) ∈ lw_all := lw_g (lw_at lw_m15 197 rfl) rfl
theorem q3638 : (Jvm.Cond.static ({ cls := "PluginChainsModel", name := "within", desc := "(III)Z" } : Jvm.MethodName)) ∈ lw_all := lw_g (lw_at lw_m15 198 rfl) rfl
theorem q3639 : (Jvm.Cond.code ({ cls := "PluginChainsModel", name := "within", desc := "(III)Z" } : Jvm.MethodName) prog_40_method_4_code (3 : Nat) (Option.some Jvm.ClassFile.FieldType.boolean)) ∈ lw_all := lw_g (lw_at lw_m15 199 rfl) rfl
theorem q3640 : (Jvm.Cond.methodLink "PluginChainsModel" (69 : Nat) ({ cls := "PluginChainsModel", name := "no", desc := "(I)I" } : Jvm.MethodName)) ∈ lw_all := lw_g (lw_at lw_m15 200 rfl) rfl
theorem q3641 : (Jvm.Cond.privateMethod ({ cls := "PluginChainsModel", name := "no", desc := "(I)I" } : Jvm.MethodName)) ∈ lw_tbl := lw_at lw_m15 201 rfl
theorem q3642 : (Jvm.Cond.instanceMethod ({ cls := "PluginChainsModel", name := "no", desc := "(I)I" } : Jvm.MethodName)) ∈ lw_all := lw_g (lw_at lw_m15 202 rfl) rfl
theorem q3643 : (Jvm.Cond.code ({ cls := "PluginChainsModel", name := "no", desc := "(I)I" } : Jvm.MethodName) prog_40_method_2_code (2 : Nat) (Option.some Jvm.ClassFile.FieldType.int)) ∈ lw_all := lw_g (lw_at lw_m15 203 rfl) rfl
theorem q3645 : (Jvm.Cond.instanceMethod ({ cls := "PluginChainsModel", name := "set", desc := "(IIJ)I" } : Jvm.MethodName)) ∈ lw_all := lw_g (lw_at lw_m15 205 rfl) rfl
theorem q3646 : (Jvm.Cond.selects "PluginChainsModel" ({ cls := "PluginChainsModel", name := "set", desc := "(IIJ)I" } : Jvm.MethodName) ({ cls := "PluginChainsModel", name := "set", desc := "(IIJ)I" } : Jvm.MethodName)) ∈ lw_all := lw_g (lw_at lw_m15 206 rfl) rfl
theorem q3647 : (Jvm.Cond.code ({ cls := "PluginChainsModel", name := "set", desc := "(IIJ)I" } : Jvm.MethodName) prog_40_method_16_code (7 : Nat) (Option.some Jvm.ClassFile.FieldType.int)) ∈ lw_all := lw_g (lw_at lw_m15 207 rfl) rfl
theorem q3648 : (Jvm.Cond.methodLink "PluginChainsModel" (88 : Nat) ({ cls := "PluginChainsModel", name := "noRow", desc := "(I)I" } : Jvm.MethodName)) ∈ lw_all := lw_g (lw_at lw_m15 208 rfl) rfl
theorem q3649 : (Jvm.Cond.privateMethod ({ cls := "PluginChainsModel", name := "noRow", desc := "(I)I" } : Jvm.MethodName)) ∈ lw_tbl := lw_at lw_m15 209 rfl
theorem q3650 : (Jvm.Cond.instanceMethod ({ cls := "PluginChainsModel", name := "noRow", desc := "(I)I" } : Jvm.MethodName)) ∈ lw_all := lw_g (lw_at lw_m15 210 rfl) rfl
theorem q3651 : (Jvm.Cond.code ({ cls := "PluginChainsModel", name := "noRow", desc := "(I)I" } : Jvm.MethodName) prog_40_method_15_code (2 : Nat) (Option.some Jvm.ClassFile.FieldType.int)) ∈ lw_all := lw_g (lw_at lw_m15 211 rfl) rfl
theorem q3652 : (Jvm.Cond.methodLink "PluginChainsModel" (84 : Nat) ({ cls := "PluginChainsModel", name := "isRow", desc := "(I)Z" } : Jvm.MethodName)) ∈ lw_all := lw_g (lw_at lw_m15 212 rfl) rfl
theorem q3653 : (Jvm.Cond.privateMethod ({ cls := "PluginChainsModel", name := "isRow", desc := "(I)Z" } : Jvm.MethodName)) ∈ lw_tbl := lw_at lw_m15 213 rfl
theorem q3654 : (Jvm.Cond.instanceMethod ({ cls := "PluginChainsModel", name := "isRow", desc := "(I)Z" } : Jvm.MethodName)) ∈ lw_all := lw_g (lw_at lw_m15 214 rfl) rfl
theorem q3655 : (Jvm.Cond.code ({ cls := "PluginChainsModel", name := "isRow", desc := "(I)Z" } : Jvm.MethodName) prog_40_method_8_code (2 : Nat) (Option.some Jvm.ClassFile.FieldType.boolean)) ∈ lw_all := lw_g (lw_at lw_m15 215 rfl) rfl
theorem q3657 : (Jvm.Cond.instanceMethod ({ cls := "PluginChainsModel", name := "copy", desc := "(IIIII)I" } : Jvm.MethodName)) ∈ lw_all := lw_g (lw_at lw_m15 217 rfl) rfl
theorem q3658 : (Jvm.Cond.selects "PluginChainsModel" ({ cls := "PluginChainsModel", name := "copy", desc := "(IIIII)I" } : Jvm.MethodName) ({ cls := "PluginChainsModel", name := "copy", desc := "(IIIII)I" } : Jvm.MethodName)) ∈ lw_all := lw_g (lw_at lw_m15 218 rfl) rfl
theorem q3659 : (Jvm.Cond.code ({ cls := "PluginChainsModel", name := "copy", desc := "(IIIII)I" } : Jvm.MethodName) prog_40_method_17_code (7 : Nat) (Option.some Jvm.ClassFile.FieldType.int)) ∈ lw_all := lw_g (lw_at lw_m15 219 rfl) rfl
theorem q3661 : (Jvm.Cond.instanceMethod ({ cls := "PluginChainsModel", name := "element", desc := "(II)J" } : Jvm.MethodName)) ∈ lw_all := lw_g (lw_at lw_m15 221 rfl) rfl
theorem q3662 : (Jvm.Cond.selects "PluginChainsModel" ({ cls := "PluginChainsModel", name := "element", desc := "(II)J" } : Jvm.MethodName) ({ cls := "PluginChainsModel", name := "element", desc := "(II)J" } : Jvm.MethodName)) ∈ lw_all := lw_g (lw_at lw_m15 222 rfl) rfl
theorem q3663 : (Jvm.Cond.code ({ cls := "PluginChainsModel", name := "element", desc := "(II)J" } : Jvm.MethodName) prog_40_method_18_code (3 : Nat) (Option.some Jvm.ClassFile.FieldType.long)) ∈ lw_all := lw_g (lw_at lw_m15 223 rfl) rfl
theorem q3665 : (Jvm.Cond.instanceMethod ({ cls := "PluginChainsModel", name := "show", desc := "(II)I" } : Jvm.MethodName)) ∈ lw_all := lw_g (lw_at lw_m15 225 rfl) rfl
theorem q3666 : (Jvm.Cond.selects "PluginChainsModel" ({ cls := "PluginChainsModel", name := "show", desc := "(II)I" } : Jvm.MethodName) ({ cls := "PluginChainsModel", name := "show", desc := "(II)I" } : Jvm.MethodName)) ∈ lw_all := lw_g (lw_at lw_m15 226 rfl) rfl
theorem q3667 : (Jvm.Cond.code ({ cls := "PluginChainsModel", name := "show", desc := "(II)I" } : Jvm.MethodName) prog_40_method_19_code (3 : Nat) (Option.some Jvm.ClassFile.FieldType.int)) ∈ lw_all := lw_g (lw_at lw_m15 227 rfl) rfl
theorem q3668 : (Jvm.Cond.methodLink "PluginChainsModel" (91 : Nat) ({ cls := "PluginChainsModel", name := "isPlug", desc := "(I)Z" } : Jvm.MethodName)) ∈ lw_all := lw_g (lw_at lw_m15 228 rfl) rfl
theorem q3669 : (Jvm.Cond.privateMethod ({ cls := "PluginChainsModel", name := "isPlug", desc := "(I)Z" } : Jvm.MethodName)) ∈ lw_tbl := lw_at lw_m15 229 rfl
theorem q3670 : (Jvm.Cond.instanceMethod ({ cls := "PluginChainsModel", name := "isPlug", desc := "(I)Z" } : Jvm.MethodName)) ∈ lw_all := lw_g (lw_at lw_m15 230 rfl) rfl
theorem q3671 : (Jvm.Cond.code ({ cls := "PluginChainsModel", name := "isPlug", desc := "(I)Z" } : Jvm.MethodName) prog_40_method_5_code (2 : Nat) (Option.some Jvm.ClassFile.FieldType.boolean)) ∈ lw_all := lw_g (lw_at lw_m15 231 rfl) rfl
theorem q3673 : (Jvm.Cond.instanceMethod ({ cls := "PluginChainsModel", name := "holds", desc := "(I)I" } : Jvm.MethodName)) ∈ lw_all := lw_g (lw_at lw_m15 233 rfl) rfl
theorem q3674 : (Jvm.Cond.selects "PluginChainsModel" ({ cls := "PluginChainsModel", name := "holds", desc := "(I)I" } : Jvm.MethodName) ({ cls := "PluginChainsModel", name := "holds", desc := "(I)I" } : Jvm.MethodName)) ∈ lw_all := lw_g (lw_at lw_m15 234 rfl) rfl
theorem q3675 : (Jvm.Cond.code ({ cls := "PluginChainsModel", name := "holds", desc := "(I)I" } : Jvm.MethodName) prog_40_method_20_code (2 : Nat) (Option.some Jvm.ClassFile.FieldType.int)) ∈ lw_all := lw_g (lw_at lw_m15 235 rfl) rfl
theorem q3677 : (Jvm.Cond.instanceMethod ({ cls := "PluginChainsModel", name := "says", desc := "(II)I" } : Jvm.MethodName)) ∈ lw_all := lw_g (lw_at lw_m15 237 rfl) rfl
theorem q3678 : (Jvm.Cond.selects "PluginChainsModel" ({ cls := "PluginChainsModel", name := "says", desc := "(II)I" } : Jvm.MethodName) ({ cls := "PluginChainsModel", name := "says", desc := "(II)I" } : Jvm.MethodName)) ∈ lw_all := lw_g (lw_at lw_m15 238 rfl) rfl
theorem q3679 : (Jvm.Cond.code ({ cls := "PluginChainsModel", name := "says", desc := "(II)I" } : Jvm.MethodName) prog_40_method_24_code (4 : Nat) (Option.some Jvm.ClassFile.FieldType.int)) ∈ lw_all := lw_g (lw_at lw_m15 239 rfl) rfl
theorem q3680 : (Jvm.Cond.methodLink "PluginChainsModel" (80 : Nat) ({ cls := "PluginChainsModel", name := "of", desc := "(II)I" } : Jvm.MethodName)) ∈ lw_all := lw_g (lw_at lw_m16 0 rfl) rfl
theorem q3681 : (Jvm.Cond.privateMethod ({ cls := "PluginChainsModel", name := "of", desc := "(II)I" } : Jvm.MethodName)) ∈ lw_tbl := lw_at lw_m16 1 rfl
theorem q3682 : (Jvm.Cond.instanceMethod ({ cls := "PluginChainsModel", name := "of", desc := "(II)I" } : Jvm.MethodName)) ∈ lw_all := lw_g (lw_at lw_m16 2 rfl) rfl
theorem q3683 : (Jvm.Cond.code ({ cls := "PluginChainsModel", name := "of", desc := "(II)I" } : Jvm.MethodName) prog_40_method_9_code (3 : Nat) (Option.some Jvm.ClassFile.FieldType.int)) ∈ lw_all := lw_g (lw_at lw_m16 3 rfl) rfl
theorem q3684 : (Jvm.Cond.methodLink "PluginChainsModel" (107 : Nat) ({ cls := "PluginChainsModel", name := "isUnder", desc := "(II)Z" } : Jvm.MethodName)) ∈ lw_all := lw_g (lw_at lw_m16 4 rfl) rfl
theorem q3685 : (Jvm.Cond.static ({ cls := "PluginChainsModel", name := "isUnder", desc := "(II)Z" } : Jvm.MethodName)) ∈ lw_all := lw_g (lw_at lw_m16 5 rfl) rfl
theorem q3686 : (Jvm.Cond.code ({ cls := "PluginChainsModel", name := "isUnder", desc := "(II)Z" } : Jvm.MethodName) prog_40_method_22_code (3 : Nat) (Option.some Jvm.ClassFile.FieldType.boolean)) ∈ lw_all := lw_g (lw_at lw_m16 6 rfl) rfl
theorem q3687 : (Jvm.Cond.methodLink "PluginChainsModel" (94 : Nat) ({ cls := "PluginChainsModel", name := "above", desc := "(I)I" } : Jvm.MethodName)) ∈ lw_all := lw_g (lw_at lw_m16 7 rfl) rfl
theorem q3688 : (Jvm.Cond.static ({ cls := "PluginChainsModel", name := "above", desc := "(I)I" } : Jvm.MethodName)) ∈ lw_all := lw_g (lw_at lw_m16 8 rfl) rfl
theorem q3689 : (Jvm.Cond.code ({ cls := "PluginChainsModel", name := "above", desc := "(I)I" } : Jvm.MethodName) prog_40_method_21_code (1 : Nat) (Option.some Jvm.ClassFile.FieldType.int)) ∈ lw_all := lw_g (lw_at lw_m16 9 rfl) rfl
theorem q3690 : (Jvm.Cond.methodLink "PluginChainsModel" (97 : Nat) ({ cls := "java/lang/Integer", name := "bitCount", desc := "(I)I" } : Jvm.MethodName)) ∈ lw_all := lw_g (lw_at lw_m16 10 rfl) rfl
theorem q3691 : (Jvm.Cond.methodLink "PluginChainsModel" (111 : Nat) ({ cls := "PluginChainsModel", name := "strength", desc := "(I)I" } : Jvm.MethodName)) ∈ lw_all := lw_g (lw_at lw_m16 11 rfl) rfl
theorem q3692 : (Jvm.Cond.privateMethod ({ cls := "PluginChainsModel", name := "strength", desc := "(I)I" } : Jvm.MethodName)) ∈ lw_tbl := lw_at lw_m16 12 rfl
theorem q3693 : (Jvm.Cond.instanceMethod ({ cls := "PluginChainsModel", name := "strength", desc := "(I)I" } : Jvm.MethodName)) ∈ lw_all := lw_g (lw_at lw_m16 13 rfl) rfl
theorem q3694 : (Jvm.Cond.code ({ cls := "PluginChainsModel", name := "strength", desc := "(I)I" } : Jvm.MethodName) prog_40_method_23_code (5 : Nat) (Option.some Jvm.ClassFile.FieldType.int)) ∈ lw_all := lw_g (lw_at lw_m16 14 rfl) rfl
theorem q3695 : (Jvm.Cond.methodLink "PluginChainsModel" (102 : Nat) ({ cls := "java/lang/Math", name := "max", desc := "(II)I" } : Jvm.MethodName)) ∈ lw_all := lw_g (lw_at lw_m16 15 rfl) rfl
theorem q3697 : (Jvm.Cond.instanceMethod ({ cls := "PluginChainsModel", name := "plug", desc := "(IIIIII)I" } : Jvm.MethodName)) ∈ lw_all := lw_g (lw_at lw_m16 17 rfl) rfl
theorem q3698 : (Jvm.Cond.selects "PluginChainsModel" ({ cls := "PluginChainsModel", name := "plug", desc := "(IIIIII)I" } : Jvm.MethodName) ({ cls := "PluginChainsModel", name := "plug", desc := "(IIIIII)I" } : Jvm.MethodName)) ∈ lw_all := lw_g (lw_at lw_m16 18 rfl) rfl
theorem q3699 : (Jvm.Cond.code ({ cls := "PluginChainsModel", name := "plug", desc := "(IIIIII)I" } : Jvm.MethodName) prog_40_method_28_code (7 : Nat) (Option.some Jvm.ClassFile.FieldType.int)) ∈ lw_all := lw_g (lw_at lw_m16 19 rfl) rfl
theorem q3700 : (Jvm.Cond.methodLink "PluginChainsModel" (118 : Nat) ({ cls := "PluginChainsModel", name := "isName", desc := "(I)Z" } : Jvm.MethodName)) ∈ lw_all := lw_g (lw_at lw_m16 20 rfl) rfl
theorem q3701 : (Jvm.Cond.static ({ cls := "PluginChainsModel", name := "isName", desc := "(I)Z" } : Jvm.MethodName)) ∈ lw_all := lw_g (lw_at lw_m16 21 rfl) rfl
theorem q3702 : (Jvm.Cond.code ({ cls := "PluginChainsModel", name := "isName", desc := "(I)Z" } : Jvm.MethodName) prog_40_method_26_code (2 : Nat) (Option.some Jvm.ClassFile.FieldType.boolean)) ∈ lw_all := lw_g (lw_at lw_m16 22 rfl) rfl
theorem q3703 : (Jvm.Cond.constant "PluginChainsModel" (114 : Nat) (531441 : Int32)) ∈ lw_all := lw_g (lw_at lw_m16 23 rfl) rfl
theorem q3704 : (Jvm.Cond.methodLink "PluginChainsModel" (121 : Nat) ({ cls := "PluginChainsModel", name := "isThere", desc := "(I)Z" } : Jvm.MethodName)) ∈ lw_all := lw_g (lw_at lw_m16 24 rfl) rfl
theorem q3705 : (Jvm.Cond.privateMethod ({ cls := "PluginChainsModel", name := "isThere", desc := "(I)Z" } : Jvm.MethodName)) ∈ lw_tbl := lw_at lw_m16 25 rfl
theorem q3706 : (Jvm.Cond.instanceMethod ({ cls := "PluginChainsModel", name := "isThere", desc := "(I)Z" } : Jvm.MethodName)) ∈ lw_all := lw_g (lw_at lw_m16 26 rfl) rfl
theorem q3707 : (Jvm.Cond.code ({ cls := "PluginChainsModel", name := "isThere", desc := "(I)Z" } : Jvm.MethodName) prog_40_method_27_code (3 : Nat) (Option.some Jvm.ClassFile.FieldType.boolean)) ∈ lw_all := lw_g (lw_at lw_m16 27 rfl) rfl
theorem q3708 : (Jvm.Cond.methodLink "PluginChainsModel" (115 : Nat) ({ cls := "PluginChainsModel", name := "state", desc := "(I)I" } : Jvm.MethodName)) ∈ lw_all := lw_g (lw_at lw_m16 28 rfl) rfl
theorem q3709 : (Jvm.Cond.privateMethod ({ cls := "PluginChainsModel", name := "state", desc := "(I)I" } : Jvm.MethodName)) ∈ lw_tbl := lw_at lw_m16 29 rfl
theorem q3710 : (Jvm.Cond.instanceMethod ({ cls := "PluginChainsModel", name := "state", desc := "(I)I" } : Jvm.MethodName)) ∈ lw_all := lw_g (lw_at lw_m16 30 rfl) rfl
theorem q3711 : (Jvm.Cond.code ({ cls := "PluginChainsModel", name := "state", desc := "(I)I" } : Jvm.MethodName) prog_40_method_10_code (2 : Nat) (Option.some Jvm.ClassFile.FieldType.int)) ∈ lw_all := lw_g (lw_at lw_m16 31 rfl) rfl
theorem q3712 : (Jvm.Cond.methodLink "PluginChainsModel" (124 : Nat) ({ cls := "PluginChainsModel", name := "newPlug", desc := "(IIIIII)I" } : Jvm.MethodName)) ∈ lw_all := lw_g (lw_at lw_m16 32 rfl) rfl
theorem q3713 : (Jvm.Cond.privateMethod ({ cls := "PluginChainsModel", name := "newPlug", desc := "(IIIIII)I" } : Jvm.MethodName)) ∈ lw_tbl := lw_at lw_m16 33 rfl
theorem q3714 : (Jvm.Cond.instanceMethod ({ cls := "PluginChainsModel", name := "newPlug", desc := "(IIIIII)I" } : Jvm.MethodName)) ∈ lw_all := lw_g (lw_at lw_m16 34 rfl) rfl
theorem q3715 : (Jvm.Cond.code ({ cls := "PluginChainsModel", name := "newPlug", desc := "(IIIIII)I" } : Jvm.MethodName) prog_40_method_25_code (7 : Nat) (Option.some Jvm.ClassFile.FieldType.int)) ∈ lw_all := lw_g (lw_at lw_m16 35 rfl) rfl
theorem q3717 : (Jvm.Cond.instanceMethod ({ cls := "PluginChainsModel", name := "read", desc := "(I)I" } : Jvm.MethodName)) ∈ lw_all := lw_g (lw_at lw_m16 37 rfl) rfl
theorem q3718 : (Jvm.Cond.selects "PluginChainsModel" ({ cls := "PluginChainsModel", name := "read", desc := "(I)I" } : Jvm.MethodName) ({ cls := "PluginChainsModel", name := "read", desc := "(I)I" } : Jvm.MethodName)) ∈ lw_all := lw_g (lw_at lw_m16 38 rfl) rfl
theorem q3719 : (Jvm.Cond.code ({ cls := "PluginChainsModel", name := "read", desc := "(I)I" } : Jvm.MethodName) prog_40_method_35_code (5 : Nat) (Option.some Jvm.ClassFile.FieldType.int)) ∈ lw_all := lw_g (lw_at lw_m16 39 rfl) rfl
theorem q3720 : (Jvm.Cond.methodLink "PluginChainsModel" (150 : Nat) ({ cls := "PluginChainsModel", name := "item", desc := "()Z" } : Jvm.MethodName)) ∈ lw_all := lw_g (lw_at lw_m16 40 rfl) rfl
theorem q3721 : (Jvm.Cond.privateMethod ({ cls := "PluginChainsModel", name := "item", desc := "()Z" } : Jvm.MethodName)) ∈ lw_tbl := lw_at lw_m16 41 rfl
theorem q3722 : (Jvm.Cond.instanceMethod ({ cls := "PluginChainsModel", name := "item", desc := "()Z" } : Jvm.MethodName)) ∈ lw_all := lw_g (lw_at lw_m16 42 rfl) rfl
theorem q3723 : (Jvm.Cond.code ({ cls := "PluginChainsModel", name := "item", desc := "()Z" } : Jvm.MethodName) prog_40_method_34_code (5 : Nat) (Option.some Jvm.ClassFile.FieldType.boolean)) ∈ lw_all := lw_g (lw_at lw_m16 43 rfl) rfl
theorem q3724 : (Jvm.Cond.methodLink "PluginChainsModel" (138 : Nat) ({ cls := "PluginChainsModel", name := "is", desc := "(I)Z" } : Jvm.MethodName)) ∈ lw_all := lw_g (lw_at lw_m16 44 rfl) rfl
theorem q3725 : (Jvm.Cond.privateMethod ({ cls := "PluginChainsModel", name := "is", desc := "(I)Z" } : Jvm.MethodName)) ∈ lw_tbl := lw_at lw_m16 45 rfl
theorem q3726 : (Jvm.Cond.instanceMethod ({ cls := "PluginChainsModel", name := "is", desc := "(I)Z" } : Jvm.MethodName)) ∈ lw_all := lw_g (lw_at lw_m16 46 rfl) rfl
theorem q3727 : (Jvm.Cond.code ({ cls := "PluginChainsModel", name := "is", desc := "(I)Z" } : Jvm.MethodName) prog_40_method_30_code (2 : Nat) (Option.some Jvm.ClassFile.FieldType.boolean)) ∈ lw_all := lw_g (lw_at lw_m16 47 rfl) rfl
theorem q3728 : (Jvm.Cond.methodLink "PluginChainsModel" (134 : Nat) ({ cls := "PluginChainsModel", name := "sign", desc := "()I" } : Jvm.MethodName)) ∈ lw_all := lw_g (lw_at lw_m16 48 rfl) rfl
theorem q3729 : (Jvm.Cond.privateMethod ({ cls := "PluginChainsModel", name := "sign", desc := "()I" } : Jvm.MethodName)) ∈ lw_tbl := lw_at lw_m16 49 rfl
theorem q3730 : (Jvm.Cond.instanceMethod ({ cls := "PluginChainsModel", name := "sign", desc := "()I" } : Jvm.MethodName)) ∈ lw_all := lw_g (lw_at lw_m16 50 rfl) rfl
theorem q3731 : (Jvm.Cond.code ({ cls := "PluginChainsModel", name := "sign", desc := "()I" } : Jvm.MethodName) prog_40_method_29_code (1 : Nat) (Option.some Jvm.ClassFile.FieldType.int)) ∈ lw_all := lw_g (lw_at lw_m16 51 rfl) rfl
theorem q3732 : (Jvm.Cond.methodLink "PluginChainsModel" (144 : Nat) ({ cls := "PluginChainsModel", name := "name", desc := "()I" } : Jvm.MethodName)) ∈ lw_all := lw_g (lw_at lw_m16 52 rfl) rfl
theorem q3733 : (Jvm.Cond.privateMethod ({ cls := "PluginChainsModel", name := "name", desc := "()I" } : Jvm.MethodName)) ∈ lw_tbl := lw_at lw_m16 53 rfl
theorem q3734 : (Jvm.Cond.instanceMethod ({ cls := "PluginChainsModel", name := "name", desc := "()I" } : Jvm.MethodName)) ∈ lw_all := lw_g (lw_at lw_m16 54 rfl) rfl
theorem q3735 : (Jvm.Cond.code ({ cls := "PluginChainsModel", name := "name", desc := "()I" } : Jvm.MethodName) prog_40_method_32_code (3 : Nat) (Option.some Jvm.ClassFile.FieldType.int)) ∈ lw_all := lw_g (lw_at lw_m16 55 rfl) rfl
theorem q3736 : (Jvm.Cond.methodLink "PluginChainsModel" (141 : Nat) ({ cls := "PluginChainsModel", name := "digit", desc := "(I)I" } : Jvm.MethodName)) ∈ lw_all := lw_g (lw_at lw_m16 56 rfl) rfl
theorem q3737 : (Jvm.Cond.privateMethod ({ cls := "PluginChainsModel", name := "digit", desc := "(I)I" } : Jvm.MethodName)) ∈ lw_tbl := lw_at lw_m16 57 rfl
theorem q3738 : (Jvm.Cond.instanceMethod ({ cls := "PluginChainsModel", name := "digit", desc := "(I)I" } : Jvm.MethodName)) ∈ lw_all := lw_g (lw_at lw_m16 58 rfl) rfl
theorem q3739 : (Jvm.Cond.code ({ cls := "PluginChainsModel", name := "digit", desc := "(I)I" } : Jvm.MethodName) prog_40_method_31_code (3 : Nat) (Option.some Jvm.ClassFile.FieldType.int)) ∈ lw_all := lw_g (lw_at lw_m16 59 rfl) rfl
theorem q3740 : (Jvm.Cond.methodLink "PluginChainsModel" (147 : Nat) ({ cls := "PluginChainsModel", name := "marks", desc := "(I)Z" } : Jvm.MethodName)) ∈ lw_all := lw_g (lw_at lw_m16 60 rfl) rfl
theorem q3741 : (Jvm.Cond.privateMethod ({ cls := "PluginChainsModel", name := "marks", desc := "(I)Z" } : Jvm.MethodName)) ∈ lw_tbl := lw_at lw_m16 61 rfl
theorem q3742 : (Jvm.Cond.instanceMethod ({ cls := "PluginChainsModel", name := "marks", desc := "(I)Z" } : Jvm.MethodName)) ∈ lw_all := lw_g (lw_at lw_m16 62 rfl) rfl
theorem q3743 : (Jvm.Cond.code ({ cls := "PluginChainsModel", name := "marks", desc := "(I)Z" } : Jvm.MethodName) prog_40_method_33_code (4 : Nat) (Option.some Jvm.ClassFile.FieldType.boolean)) ∈ lw_all := lw_g (lw_at lw_m16 63 rfl) rfl
theorem q3745 : (Jvm.Cond.instanceMethod ({ cls := "PluginChainsModel", name := "fault", desc := "()I" } : Jvm.MethodName)) ∈ lw_all := lw_g (lw_at lw_m16 65 rfl) rfl
theorem q3746 : (Jvm.Cond.selects "PluginChainsModel" ({ cls := "PluginChainsModel", name := "fault", desc := "()I" } : Jvm.MethodName) ({ cls := "PluginChainsModel", name := "fault", desc := "()I" } : Jvm.MethodName)) ∈ lw_all := lw_g (lw_at lw_m16 66 rfl) rfl
theorem q3747 : (Jvm.Cond.code ({ cls := "PluginChainsModel", name := "fault", desc := "()I" } : Jvm.MethodName) prog_40_method_36_code (1 : Nat) (Option.some Jvm.ClassFile.FieldType.int)) ∈ lw_all := lw_g (lw_at lw_m16 67 rfl) rfl
theorem q3749 : (Jvm.Cond.instanceMethod ({ cls := "PluginChainsModel", name := "plugOf", desc := "(II)I" } : Jvm.MethodName)) ∈ lw_all := lw_g (lw_at lw_m16 69 rfl) rfl
theorem q3750 : (Jvm.Cond.selects "PluginChainsModel" ({ cls := "PluginChainsModel", name := "plugOf", desc := "(II)I" } : Jvm.MethodName) ({ cls := "PluginChainsModel", name := "plugOf", desc := "(II)I" } : Jvm.MethodName)) ∈ lw_all := lw_g (lw_at lw_m16 70 rfl) rfl
theorem q3751 : (Jvm.Cond.code ({ cls := "PluginChainsModel", name := "plugOf", desc := "(II)I" } : Jvm.MethodName) prog_40_method_37_code (3 : Nat) (Option.some Jvm.ClassFile.FieldType.int)) ∈ lw_all := lw_g (lw_at lw_m16 71 rfl) rfl
theorem q3753 : (Jvm.Cond.instanceMethod ({ cls := "PluginChainsModel", name := "age", desc := "(I)I" } : Jvm.MethodName)) ∈ lw_all := lw_g (lw_at lw_m16 73 rfl) rfl
theorem q3754 : (Jvm.Cond.selects "PluginChainsModel" ({ cls := "PluginChainsModel", name := "age", desc := "(I)I" } : Jvm.MethodName) ({ cls := "PluginChainsModel", name := "age", desc := "(I)I" } : Jvm.MethodName)) ∈ lw_all := lw_g (lw_at lw_m16 74 rfl) rfl
theorem q3755 : (Jvm.Cond.code ({ cls := "PluginChainsModel", name := "age", desc := "(I)I" } : Jvm.MethodName) prog_40_method_38_code (2 : Nat) (Option.some Jvm.ClassFile.FieldType.int)) ∈ lw_all := lw_g (lw_at lw_m16 75 rfl) rfl
theorem q3756 : (Jvm.Cond.methodLink "PluginChainsModel" (154 : Nat) ({ cls := "PluginChainsModel", name := "no10", desc := "(I)I" } : Jvm.MethodName)) ∈ lw_all := lw_g (lw_at lw_m16 76 rfl) rfl
theorem q3757 : (Jvm.Cond.privateMethod ({ cls := "PluginChainsModel", name := "no10", desc := "(I)I" } : Jvm.MethodName)) ∈ lw_tbl := lw_at lw_m16 77 rfl
theorem q3758 : (Jvm.Cond.instanceMethod ({ cls := "PluginChainsModel", name := "no10", desc := "(I)I" } : Jvm.MethodName)) ∈ lw_all := lw_g (lw_at lw_m16 78 rfl) rfl
theorem q3759 : (Jvm.Cond.code ({ cls := "PluginChainsModel", name := "no10", desc := "(I)I" } : Jvm.MethodName) prog_40_method_3_code (2 : Nat) (Option.some Jvm.ClassFile.FieldType.int)) ∈ lw_all := lw_g (lw_at lw_m16 79 rfl) rfl
theorem q3761 : (Jvm.Cond.instanceMethod ({ cls := "PluginChainsModel", name := "tally", desc := "(I)I" } : Jvm.MethodName)) ∈ lw_all := lw_g (lw_at lw_m16 81 rfl) rfl
theorem q3762 : (Jvm.Cond.selects "PluginChainsModel" ({ cls := "PluginChainsModel", name := "tally", desc := "(I)I" } : Jvm.MethodName) ({ cls := "PluginChainsModel", name := "tally", desc := "(I)I" } : Jvm.MethodName)) ∈ lw_all := lw_g (lw_at lw_m16 82 rfl) rfl
theorem q3763 : (Jvm.Cond.code ({ cls := "PluginChainsModel", name := "tally", desc := "(I)I" } : Jvm.MethodName) prog_40_method_39_code (2 : Nat) (Option.some Jvm.ClassFile.FieldType.int)) ∈ lw_all := lw_g (lw_at lw_m16 83 rfl) rfl
theorem q3765 : (Jvm.Cond.instanceMethod ({ cls := "PluginChainsModel", name := "provider", desc := "(II)I" } : Jvm.MethodName)) ∈ lw_all := lw_g (lw_at lw_m16 85 rfl) rfl
theorem q3766 : (Jvm.Cond.selects "PluginChainsModel" ({ cls := "PluginChainsModel", name := "provider", desc := "(II)I" } : Jvm.MethodName) ({ cls := "PluginChainsModel", name := "provider", desc := "(II)I" } : Jvm.MethodName)) ∈ lw_all := lw_g (lw_at lw_m16 86 rfl) rfl
theorem q3767 : (Jvm.Cond.code ({ cls := "PluginChainsModel", name := "provider", desc := "(II)I" } : Jvm.MethodName) prog_40_method_41_code (3 : Nat) (Option.some Jvm.ClassFile.FieldType.int)) ∈ lw_all := lw_g (lw_at lw_m16 87 rfl) rfl
theorem q3768 : (Jvm.Cond.methodLink "PluginChainsModel" (163 : Nat) ({ cls := "PluginChainsModel", name := "isService", desc := "(I)Z" } : Jvm.MethodName)) ∈ lw_all := lw_g (lw_at lw_m16 88 rfl) rfl
theorem q3769 : (Jvm.Cond.static ({ cls := "PluginChainsModel", name := "isService", desc := "(I)Z" } : Jvm.MethodName)) ∈ lw_all := lw_g (lw_at lw_m16 89 rfl) rfl
theorem q3770 : (Jvm.Cond.code ({ cls := "PluginChainsModel", name := "isService", desc := "(I)Z" } : Jvm.MethodName) prog_40_method_7_code (1 : Nat) (Option.some Jvm.ClassFile.FieldType.boolean)) ∈ lw_all := lw_g (lw_at lw_m16 90 rfl) rfl
theorem q3771 : (Jvm.Cond.methodLink "PluginChainsModel" (166 : Nat) ({ cls := "PluginChainsModel", name := "isNeeded", desc := "(II)Z" } : Jvm.MethodName)) ∈ lw_all := lw_g (lw_at lw_m16 91 rfl) rfl
theorem q3772 : (Jvm.Cond.privateMethod ({ cls := "PluginChainsModel", name := "isNeeded", desc := "(II)Z" } : Jvm.MethodName)) ∈ lw_tbl := lw_at lw_m16 92 rfl
theorem q3773 : (Jvm.Cond.instanceMethod ({ cls := "PluginChainsModel", name := "isNeeded", desc := "(II)Z" } : Jvm.MethodName)) ∈ lw_all := lw_g (lw_at lw_m16 93 rfl) rfl
theorem q3774 : (Jvm.Cond.code ({ cls := "PluginChainsModel", name := "isNeeded", desc := "(II)Z" } : Jvm.MethodName) prog_40_method_11_code (3 : Nat) (Option.some Jvm.ClassFile.FieldType.boolean)) ∈ lw_all := lw_g (lw_at lw_m16 94 rfl) rfl
theorem q3775 : (Jvm.Cond.methodLink "PluginChainsModel" (169 : Nat) ({ cls := "PluginChainsModel", name := "provides", desc := "(II)I" } : Jvm.MethodName)) ∈ lw_all := lw_g (lw_at lw_m16 95 rfl) rfl
theorem q3776 : (Jvm.Cond.privateMethod ({ cls := "PluginChainsModel", name := "provides", desc := "(II)I" } : Jvm.MethodName)) ∈ lw_tbl := lw_at lw_m16 96 rfl
theorem q3777 : (Jvm.Cond.instanceMethod ({ cls := "PluginChainsModel", name := "provides", desc := "(II)I" } : Jvm.MethodName)) ∈ lw_all := lw_g (lw_at lw_m16 97 rfl) rfl
theorem q3778 : (Jvm.Cond.code ({ cls := "PluginChainsModel", name := "provides", desc := "(II)I" } : Jvm.MethodName) prog_40_method_40_code (5 : Nat) (Option.some Jvm.ClassFile.FieldType.int)) ∈ lw_all := lw_g (lw_at lw_m16 98 rfl) rfl
theorem q3779 : (Jvm.Cond.methodLink "PluginChainsModel" (157 : Nat) ({ cls := "PluginChainsModel", name := "isOffered", desc := "(II)Z" } : Jvm.MethodName)) ∈ lw_all := lw_g (lw_at lw_m16 99 rfl) rfl
theorem q3780 : (Jvm.Cond.privateMethod ({ cls := "PluginChainsModel", name := "isOffered", desc := "(II)Z" } : Jvm.MethodName)) ∈ lw_tbl := lw_at lw_m16 100 rfl
theorem q3781 : (Jvm.Cond.instanceMethod ({ cls := "PluginChainsModel", name := "isOffered", desc := "(II)Z" } : Jvm.MethodName)) ∈ lw_all := lw_g (lw_at lw_m16 101 rfl) rfl
theorem q3782 : (Jvm.Cond.code ({ cls := "PluginChainsModel", name := "isOffered", desc := "(II)Z" } : Jvm.MethodName) prog_40_method_12_code (3 : Nat) (Option.some Jvm.ClassFile.FieldType.boolean)) ∈ lw_all := lw_g (lw_at lw_m16 102 rfl) rfl
theorem q3783 : (Jvm.Cond.methodLink "PluginChainsModel" (160 : Nat) ({ cls := "PluginChainsModel", name := "isOlder", desc := "(II)Z" } : Jvm.MethodName)) ∈ lw_all := lw_g (lw_at lw_m16 103 rfl) rfl
theorem q3784 : (Jvm.Cond.privateMethod ({ cls := "PluginChainsModel", name := "isOlder", desc := "(II)Z" } : Jvm.MethodName)) ∈ lw_tbl := lw_at lw_m16 104 rfl
theorem q3785 : (Jvm.Cond.instanceMethod ({ cls := "PluginChainsModel", name := "isOlder", desc := "(II)Z" } : Jvm.MethodName)) ∈ lw_all := lw_g (lw_at lw_m16 105 rfl) rfl
theorem q3786 : (Jvm.Cond.code ({ cls := "PluginChainsModel", name := "isOlder", desc := "(II)Z" } : Jvm.MethodName) prog_40_method_13_code (3 : Nat) (Option.some Jvm.ClassFile.FieldType.boolean)) ∈ lw_all := lw_g (lw_at lw_m16 106 rfl) rfl
theorem q3788 : (Jvm.Cond.instanceMethod ({ cls := "PluginChainsModel", name := "start", desc := "(I)I" } : Jvm.MethodName)) ∈ lw_all := lw_g (lw_at lw_m16 108 rfl) rfl
theorem q3789 : (Jvm.Cond.selects "PluginChainsModel" ({ cls := "PluginChainsModel", name := "start", desc := "(I)I" } : Jvm.MethodName) ({ cls := "PluginChainsModel", name := "start", desc := "(I)I" } : Jvm.MethodName)) ∈ lw_all := lw_g (lw_at lw_m16 109 rfl) rfl
theorem q3790 : (Jvm.Cond.code ({ cls := "PluginChainsModel", name := "start", desc := "(I)I" } : Jvm.MethodName) prog_40_method_51_code (3 : Nat) (Option.some Jvm.ClassFile.FieldType.int)) ∈ lw_all := lw_g (lw_at lw_m16 110 rfl) rfl
theorem q3791 : (Jvm.Cond.methodLink "PluginChainsModel" (214 : Nat) ({ cls := "PluginChainsModel", name := "begins", desc := "(I)Z" } : Jvm.MethodName)) ∈ lw_all := lw_g (lw_at lw_m16 111 rfl) rfl
theorem q3792 : (Jvm.Cond.privateMethod ({ cls := "PluginChainsModel", name := "begins", desc := "(I)Z" } : Jvm.MethodName)) ∈ lw_tbl := lw_at lw_m16 112 rfl
theorem q3793 : (Jvm.Cond.instanceMethod ({ cls := "PluginChainsModel", name := "begins", desc := "(I)Z" } : Jvm.MethodName)) ∈ lw_all := lw_g (lw_at lw_m16 113 rfl) rfl
theorem q3794 : (Jvm.Cond.code ({ cls := "PluginChainsModel", name := "begins", desc := "(I)Z" } : Jvm.MethodName) prog_40_method_50_code (2 : Nat) (Option.some Jvm.ClassFile.FieldType.boolean)) ∈ lw_all := lw_g (lw_at lw_m16 114 rfl) rfl
theorem q3795 : (Jvm.Cond.methodLink "PluginChainsModel" (196 : Nat) ({ cls := "PluginChainsModel", name := "starts", desc := "(I)Z" } : Jvm.MethodName)) ∈ lw_all := lw_g (lw_at lw_m16 115 rfl) rfl
theorem q3796 : (Jvm.Cond.privateMethod ({ cls := "PluginChainsModel", name := "starts", desc := "(I)Z" } : Jvm.MethodName)) ∈ lw_tbl := lw_at lw_m16 116 rfl
theorem q3797 : (Jvm.Cond.instanceMethod ({ cls := "PluginChainsModel", name := "starts", desc := "(I)Z" } : Jvm.MethodName)) ∈ lw_all := lw_g (lw_at lw_m16 117 rfl) rfl
theorem q3798 : (Jvm.Cond.code ({ cls := "PluginChainsModel", name := "starts", desc := "(I)Z" } : Jvm.MethodName) prog_40_method_49_code (4 : Nat) (Option.some Jvm.ClassFile.FieldType.boolean)) ∈ lw_all := lw_g (lw_at lw_m16 118 rfl) rfl
theorem q3799 : (Jvm.Cond.methodLink "PluginChainsModel" (191 : Nat) ({ cls := "PluginChainsModel", name := "fails", desc := "(III)Z" } : Jvm.MethodName)) ∈ lw_all := lw_g (lw_at lw_m16 119 rfl) rfl
theorem q3800 : (Jvm.Cond.privateMethod ({ cls := "PluginChainsModel", name := "fails", desc := "(III)Z" } : Jvm.MethodName)) ∈ lw_tbl := lw_at lw_m16 120 rfl
theorem q3801 : (Jvm.Cond.instanceMethod ({ cls := "PluginChainsModel", name := "fails", desc := "(III)Z" } : Jvm.MethodName)) ∈ lw_all := lw_g (lw_at lw_m16 121 rfl) rfl
theorem q3802 : (Jvm.Cond.code ({ cls := "PluginChainsModel", name := "fails", desc := "(III)Z" } : Jvm.MethodName) prog_40_method_46_code (4 : Nat) (Option.some Jvm.ClassFile.FieldType.boolean)) ∈ lw_all := lw_g (lw_at lw_m16 122 rfl) rfl
theorem q3803 : (Jvm.Cond.methodLink "PluginChainsModel" (208 : Nat) ({ cls := "PluginChainsModel", name := "hasNeeds", desc := "(I)Z" } : Jvm.MethodName)) ∈ lw_all := lw_g (lw_at lw_m16 123 rfl) rfl
theorem q3804 : (Jvm.Cond.privateMethod ({ cls := "PluginChainsModel", name := "hasNeeds", desc := "(I)Z" } : Jvm.MethodName)) ∈ lw_tbl := lw_at lw_m16 124 rfl
theorem q3805 : (Jvm.Cond.instanceMethod ({ cls := "PluginChainsModel", name := "hasNeeds", desc := "(I)Z" } : Jvm.MethodName)) ∈ lw_all := lw_g (lw_at lw_m16 125 rfl) rfl
theorem q3806 : (Jvm.Cond.code ({ cls := "PluginChainsModel", name := "hasNeeds", desc := "(I)Z" } : Jvm.MethodName) prog_40_method_47_code (4 : Nat) (Option.some Jvm.ClassFile.FieldType.boolean)) ∈ lw_all := lw_g (lw_at lw_m16 126 rfl) rfl
theorem q3807 : (Jvm.Cond.methodLink "PluginChainsModel" (185 : Nat) ({ cls := "PluginChainsModel", name := "isRun", desc := "(II)Z" } : Jvm.MethodName)) ∈ lw_all := lw_g (lw_at lw_m16 127 rfl) rfl
theorem q3808 : (Jvm.Cond.privateMethod ({ cls := "PluginChainsModel", name := "isRun", desc := "(II)Z" } : Jvm.MethodName)) ∈ lw_tbl := lw_at lw_m16 128 rfl
theorem q3809 : (Jvm.Cond.instanceMethod ({ cls := "PluginChainsModel", name := "isRun", desc := "(II)Z" } : Jvm.MethodName)) ∈ lw_all := lw_g (lw_at lw_m16 129 rfl) rfl
theorem q3810 : (Jvm.Cond.code ({ cls := "PluginChainsModel", name := "isRun", desc := "(II)Z" } : Jvm.MethodName) prog_40_method_43_code (4 : Nat) (Option.some Jvm.ClassFile.FieldType.boolean)) ∈ lw_all := lw_g (lw_at lw_m16 130 rfl) rfl
theorem q3811 : (Jvm.Cond.methodLink "PluginChainsModel" (188 : Nat) ({ cls := "PluginChainsModel", name := "taken", desc := "(II)I" } : Jvm.MethodName)) ∈ lw_all := lw_g (lw_at lw_m16 131 rfl) rfl
theorem q3812 : (Jvm.Cond.privateMethod ({ cls := "PluginChainsModel", name := "taken", desc := "(II)I" } : Jvm.MethodName)) ∈ lw_tbl := lw_at lw_m16 132 rfl
theorem q3813 : (Jvm.Cond.instanceMethod ({ cls := "PluginChainsModel", name := "taken", desc := "(II)I" } : Jvm.MethodName)) ∈ lw_all := lw_g (lw_at lw_m16 133 rfl) rfl
theorem q3814 : (Jvm.Cond.code ({ cls := "PluginChainsModel", name := "taken", desc := "(II)I" } : Jvm.MethodName) prog_40_method_45_code (5 : Nat) (Option.some Jvm.ClassFile.FieldType.int)) ∈ lw_all := lw_g (lw_at lw_m16 134 rfl) rfl
theorem q3815 : (Jvm.Cond.methodLink "PluginChainsModel" (179 : Nat) ({ cls := "PluginChainsModel", name := "key", desc := "(I)I" } : Jvm.MethodName)) ∈ lw_all := lw_g (lw_at lw_m16 135 rfl) rfl
theorem q3816 : (Jvm.Cond.privateMethod ({ cls := "PluginChainsModel", name := "key", desc := "(I)I" } : Jvm.MethodName)) ∈ lw_tbl := lw_at lw_m16 136 rfl
theorem q3817 : (Jvm.Cond.instanceMethod ({ cls := "PluginChainsModel", name := "key", desc := "(I)I" } : Jvm.MethodName)) ∈ lw_all := lw_g (lw_at lw_m16 137 rfl) rfl
theorem q3818 : (Jvm.Cond.code ({ cls := "PluginChainsModel", name := "key", desc := "(I)I" } : Jvm.MethodName) prog_40_method_44_code (3 : Nat) (Option.some Jvm.ClassFile.FieldType.int)) ∈ lw_all := lw_g (lw_at lw_m16 138 rfl) rfl
theorem q3819 : (Jvm.Cond.methodLink "PluginChainsModel" (211 : Nat) ({ cls := "PluginChainsModel", name := "runs", desc := "(I)Z" } : Jvm.MethodName)) ∈ lw_all := lw_g (lw_at lw_m16 139 rfl) rfl
theorem q3820 : (Jvm.Cond.privateMethod ({ cls := "PluginChainsModel", name := "runs", desc := "(I)Z" } : Jvm.MethodName)) ∈ lw_tbl := lw_at lw_m16 140 rfl
theorem q3821 : (Jvm.Cond.instanceMethod ({ cls := "PluginChainsModel", name := "runs", desc := "(I)Z" } : Jvm.MethodName)) ∈ lw_all := lw_g (lw_at lw_m16 141 rfl) rfl
theorem q3822 : (Jvm.Cond.code ({ cls := "PluginChainsModel", name := "runs", desc := "(I)Z" } : Jvm.MethodName) prog_40_method_48_code (2 : Nat) (Option.some Jvm.ClassFile.FieldType.boolean)) ∈ lw_all := lw_g (lw_at lw_m16 142 rfl) rfl
theorem q3823 : (Jvm.Cond.methodLink "PluginChainsModel" (198 : Nat) ({ cls := "PluginChainsModel", name := "logs", desc := "(I)V" } : Jvm.MethodName)) ∈ lw_all := lw_g (lw_at lw_m16 143 rfl) rfl
theorem q3824 : (Jvm.Cond.privateMethod ({ cls := "PluginChainsModel", name := "logs", desc := "(I)V" } : Jvm.MethodName)) ∈ lw_tbl := lw_at lw_m16 144 rfl
theorem q3825 : (Jvm.Cond.instanceMethod ({ cls := "PluginChainsModel", name := "logs", desc := "(I)V" } : Jvm.MethodName)) ∈ lw_all := lw_g (lw_at lw_m16 145 rfl) rfl
theorem q3826 : (Jvm.Cond.code ({ cls := "PluginChainsModel", name := "logs", desc := "(I)V" } : Jvm.MethodName) prog_40_method_42_code (2 : Nat) (Option.none : Option Jvm.ClassFile.FieldType)) ∈ lw_all := lw_g (lw_at lw_m16 146 rfl) rfl
theorem q3828 : (Jvm.Cond.instanceMethod ({ cls := "PluginChainsModel", name := "cause", desc := "(II)I" } : Jvm.MethodName)) ∈ lw_all := lw_g (lw_at lw_m16 148 rfl) rfl
theorem q3829 : (Jvm.Cond.selects "PluginChainsModel" ({ cls := "PluginChainsModel", name := "cause", desc := "(II)I" } : Jvm.MethodName) ({ cls := "PluginChainsModel", name := "cause", desc := "(II)I" } : Jvm.MethodName)) ∈ lw_all := lw_g (lw_at lw_m16 149 rfl) rfl
theorem q3830 : (Jvm.Cond.code ({ cls := "PluginChainsModel", name := "cause", desc := "(II)I" } : Jvm.MethodName) prog_40_method_52_code (3 : Nat) (Option.some Jvm.ClassFile.FieldType.int)) ∈ lw_all := lw_g (lw_at lw_m16 150 rfl) rfl
theorem q3832 : (Jvm.Cond.instanceMethod ({ cls := "PluginChainsModel", name := "stop", desc := "(I)I" } : Jvm.MethodName)) ∈ lw_all := lw_g (lw_at lw_m16 152 rfl) rfl
theorem q3833 : (Jvm.Cond.selects "PluginChainsModel" ({ cls := "PluginChainsModel", name := "stop", desc := "(I)I" } : Jvm.MethodName) ({ cls := "PluginChainsModel", name := "stop", desc := "(I)I" } : Jvm.MethodName)) ∈ lw_all := lw_g (lw_at lw_m16 153 rfl) rfl
theorem q3834 : (Jvm.Cond.code ({ cls := "PluginChainsModel", name := "stop", desc := "(I)I" } : Jvm.MethodName) prog_40_method_56_code (2 : Nat) (Option.some Jvm.ClassFile.FieldType.int)) ∈ lw_all := lw_g (lw_at lw_m16 154 rfl) rfl
theorem q3835 : (Jvm.Cond.methodLink "PluginChainsModel" (226 : Nat) ({ cls := "PluginChainsModel", name := "stops", desc := "(I)I" } : Jvm.MethodName)) ∈ lw_all := lw_g (lw_at lw_m16 155 rfl) rfl
theorem q3836 : (Jvm.Cond.privateMethod ({ cls := "PluginChainsModel", name := "stops", desc := "(I)I" } : Jvm.MethodName)) ∈ lw_tbl := lw_at lw_m16 156 rfl
theorem q3837 : (Jvm.Cond.instanceMethod ({ cls := "PluginChainsModel", name := "stops", desc := "(I)I" } : Jvm.MethodName)) ∈ lw_all := lw_g (lw_at lw_m16 157 rfl) rfl
theorem q3838 : (Jvm.Cond.code ({ cls := "PluginChainsModel", name := "stops", desc := "(I)I" } : Jvm.MethodName) prog_40_method_55_code (5 : Nat) (Option.some Jvm.ClassFile.FieldType.int)) ∈ lw_all := lw_g (lw_at lw_m16 158 rfl) rfl
theorem q3839 : (Jvm.Cond.methodLink "PluginChainsModel" (223 : Nat) ({ cls := "PluginChainsModel", name := "waves", desc := "(I)V" } : Jvm.MethodName)) ∈ lw_all := lw_g (lw_at lw_m16 159 rfl) rfl
theorem q3840 : (Jvm.Cond.privateMethod ({ cls := "PluginChainsModel", name := "waves", desc := "(I)V" } : Jvm.MethodName)) ∈ lw_tbl := lw_at lw_m16 160 rfl
theorem q3841 : (Jvm.Cond.instanceMethod ({ cls := "PluginChainsModel", name := "waves", desc := "(I)V" } : Jvm.MethodName)) ∈ lw_all := lw_g (lw_at lw_m16 161 rfl) rfl
theorem q3842 : (Jvm.Cond.code ({ cls := "PluginChainsModel", name := "waves", desc := "(I)V" } : Jvm.MethodName) prog_40_method_54_code (6 : Nat) (Option.none : Option Jvm.ClassFile.FieldType)) ∈ lw_all := lw_g (lw_at lw_m16 162 rfl) rfl
theorem q3843 : (Jvm.Cond.methodLink "PluginChainsModel" (220 : Nat) ({ cls := "PluginChainsModel", name := "isHeld", desc := "(I)Z" } : Jvm.MethodName)) ∈ lw_all := lw_g (lw_at lw_m16 163 rfl) rfl
theorem q3844 : (Jvm.Cond.privateMethod ({ cls := "PluginChainsModel", name := "isHeld", desc := "(I)Z" } : Jvm.MethodName)) ∈ lw_tbl := lw_at lw_m16 164 rfl
theorem q3845 : (Jvm.Cond.instanceMethod ({ cls := "PluginChainsModel", name := "isHeld", desc := "(I)Z" } : Jvm.MethodName)) ∈ lw_all := lw_g (lw_at lw_m16 165 rfl) rfl
theorem q3846 : (Jvm.Cond.code ({ cls := "PluginChainsModel", name := "isHeld", desc := "(I)Z" } : Jvm.MethodName) prog_40_method_53_code (5 : Nat) (Option.some Jvm.ClassFile.FieldType.boolean)) ∈ lw_all := lw_g (lw_at lw_m16 166 rfl) rfl
theorem q3848 : (Jvm.Cond.instanceMethod ({ cls := "PluginChainsModel", name := "wave", desc := "(II)I" } : Jvm.MethodName)) ∈ lw_all := lw_g (lw_at lw_m16 168 rfl) rfl
theorem q3849 : (Jvm.Cond.selects "PluginChainsModel" ({ cls := "PluginChainsModel", name := "wave", desc := "(II)I" } : Jvm.MethodName) ({ cls := "PluginChainsModel", name := "wave", desc := "(II)I" } : Jvm.MethodName)) ∈ lw_all := lw_g (lw_at lw_m16 169 rfl) rfl
theorem q3850 : (Jvm.Cond.code ({ cls := "PluginChainsModel", name := "wave", desc := "(II)I" } : Jvm.MethodName) prog_40_method_57_code (3 : Nat) (Option.some Jvm.ClassFile.FieldType.int)) ∈ lw_all := lw_g (lw_at lw_m16 170 rfl) rfl
theorem q3852 : (Jvm.Cond.instanceMethod ({ cls := "PluginChainsModel", name := "mend", desc := "(I)I" } : Jvm.MethodName)) ∈ lw_all := lw_g (lw_at lw_m16 172 rfl) rfl
theorem q3853 : (Jvm.Cond.selects "PluginChainsModel" ({ cls := "PluginChainsModel", name := "mend", desc := "(I)I" } : Jvm.MethodName) ({ cls := "PluginChainsModel", name := "mend", desc := "(I)I" } : Jvm.MethodName)) ∈ lw_all := lw_g (lw_at lw_m16 173 rfl) rfl
theorem q3854 : (Jvm.Cond.code ({ cls := "PluginChainsModel", name := "mend", desc := "(I)I" } : Jvm.MethodName) prog_40_method_58_code (2 : Nat) (Option.some Jvm.ClassFile.FieldType.int)) ∈ lw_all := lw_g (lw_at lw_m16 174 rfl) rfl
theorem q3856 : (Jvm.Cond.instanceMethod ({ cls := "PluginChainsModel", name := "remove", desc := "(I)I" } : Jvm.MethodName)) ∈ lw_all := lw_g (lw_at lw_m16 176 rfl) rfl
theorem q3857 : (Jvm.Cond.selects "PluginChainsModel" ({ cls := "PluginChainsModel", name := "remove", desc := "(I)I" } : Jvm.MethodName) ({ cls := "PluginChainsModel", name := "remove", desc := "(I)I" } : Jvm.MethodName)) ∈ lw_all := lw_g (lw_at lw_m16 177 rfl) rfl
theorem q3858 : (Jvm.Cond.code ({ cls := "PluginChainsModel", name := "remove", desc := "(I)I" } : Jvm.MethodName) prog_40_method_59_code (3 : Nat) (Option.some Jvm.ClassFile.FieldType.int)) ∈ lw_all := lw_g (lw_at lw_m16 178 rfl) rfl
theorem q3860 : (Jvm.Cond.instanceMethod ({ cls := "PluginChainsModel", name := "would", desc := "(II)I" } : Jvm.MethodName)) ∈ lw_all := lw_g (lw_at lw_m16 180 rfl) rfl
theorem q3861 : (Jvm.Cond.selects "PluginChainsModel" ({ cls := "PluginChainsModel", name := "would", desc := "(II)I" } : Jvm.MethodName) ({ cls := "PluginChainsModel", name := "would", desc := "(II)I" } : Jvm.MethodName)) ∈ lw_all := lw_g (lw_at lw_m16 181 rfl) rfl
theorem q3862 : (Jvm.Cond.code ({ cls := "PluginChainsModel", name := "would", desc := "(II)I" } : Jvm.MethodName) prog_40_method_60_code (5 : Nat) (Option.some Jvm.ClassFile.FieldType.int)) ∈ lw_all := lw_g (lw_at lw_m16 182 rfl) rfl
theorem q3863 : (Jvm.Cond.methodLink "PluginChainsModel" (229 : Nat) ({ cls := "PluginChainsModel", name := "keep", desc := "([I)V" } : Jvm.MethodName)) ∈ lw_all := lw_g (lw_at lw_m16 183 rfl) rfl
theorem q3864 : (Jvm.Cond.privateMethod ({ cls := "PluginChainsModel", name := "keep", desc := "([I)V" } : Jvm.MethodName)) ∈ lw_tbl := lw_at lw_m16 184 rfl
theorem q3865 : (Jvm.Cond.instanceMethod ({ cls := "PluginChainsModel", name := "keep", desc := "([I)V" } : Jvm.MethodName)) ∈ lw_all := lw_g (lw_at lw_m16 185 rfl) rfl
theorem q3866 : (Jvm.Cond.code ({ cls := "PluginChainsModel", name := "keep", desc := "([I)V" } : Jvm.MethodName) prog_40_method_86_code (3 : Nat) (Option.none : Option Jvm.ClassFile.FieldType)) ∈ lw_all := lw_g (lw_at lw_m16 186 rfl) rfl
theorem q3867 : (Jvm.Cond.methodLink "PluginChainsModel" (233 : Nat) ({ cls := "PluginChainsModel", name := "again", desc := "([I)V" } : Jvm.MethodName)) ∈ lw_all := lw_g (lw_at lw_m16 187 rfl) rfl
theorem q3868 : (Jvm.Cond.privateMethod ({ cls := "PluginChainsModel", name := "again", desc := "([I)V" } : Jvm.MethodName)) ∈ lw_tbl := lw_at lw_m16 188 rfl
theorem q3869 : (Jvm.Cond.instanceMethod ({ cls := "PluginChainsModel", name := "again", desc := "([I)V" } : Jvm.MethodName)) ∈ lw_all := lw_g (lw_at lw_m16 189 rfl) rfl
theorem q3870 : (Jvm.Cond.code ({ cls := "PluginChainsModel", name := "again", desc := "([I)V" } : Jvm.MethodName) prog_40_method_87_code (3 : Nat) (Option.none : Option Jvm.ClassFile.FieldType)) ∈ lw_all := lw_g (lw_at lw_m16 190 rfl) rfl
theorem q3872 : (Jvm.Cond.instanceMethod ({ cls := "PluginChainsModel", name := "running", desc := "(I)I" } : Jvm.MethodName)) ∈ lw_all := lw_g (lw_at lw_m16 192 rfl) rfl
theorem q3873 : (Jvm.Cond.selects "PluginChainsModel" ({ cls := "PluginChainsModel", name := "running", desc := "(I)I" } : Jvm.MethodName) ({ cls := "PluginChainsModel", name := "running", desc := "(I)I" } : Jvm.MethodName)) ∈ lw_all := lw_g (lw_at lw_m16 193 rfl) rfl
theorem q3874 : (Jvm.Cond.code ({ cls := "PluginChainsModel", name := "running", desc := "(I)I" } : Jvm.MethodName) prog_40_method_61_code (5 : Nat) (Option.some Jvm.ClassFile.FieldType.int)) ∈ lw_all := lw_g (lw_at lw_m16 194 rfl) rfl
theorem q3876 : (Jvm.Cond.instanceMethod ({ cls := "PluginChainsModel", name := "offered", desc := "(I)I" } : Jvm.MethodName)) ∈ lw_all := lw_g (lw_at lw_m16 196 rfl) rfl
theorem q3877 : (Jvm.Cond.selects "PluginChainsModel" ({ cls := "PluginChainsModel", name := "offered", desc := "(I)I" } : Jvm.MethodName) ({ cls := "PluginChainsModel", name := "offered", desc := "(I)I" } : Jvm.MethodName)) ∈ lw_all := lw_g (lw_at lw_m16 197 rfl) rfl
theorem q3878 : (Jvm.Cond.code ({ cls := "PluginChainsModel", name := "offered", desc := "(I)I" } : Jvm.MethodName) prog_40_method_62_code (4 : Nat) (Option.some Jvm.ClassFile.FieldType.int)) ∈ lw_all := lw_g (lw_at lw_m16 198 rfl) rfl
theorem q3880 : (Jvm.Cond.instanceMethod ({ cls := "PluginChainsModel", name := "hook", desc := "(IIIII)I" } : Jvm.MethodName)) ∈ lw_all := lw_g (lw_at lw_m16 200 rfl) rfl
theorem q3881 : (Jvm.Cond.selects "PluginChainsModel" ({ cls := "PluginChainsModel", name := "hook", desc := "(IIIII)I" } : Jvm.MethodName) ({ cls := "PluginChainsModel", name := "hook", desc := "(IIIII)I" } : Jvm.MethodName)) ∈ lw_all := lw_g (lw_at lw_m16 201 rfl) rfl
theorem q3882 : (Jvm.Cond.code ({ cls := "PluginChainsModel", name := "hook", desc := "(IIIII)I" } : Jvm.MethodName) prog_40_method_64_code (6 : Nat) (Option.some Jvm.ClassFile.FieldType.int)) ∈ lw_all := lw_g (lw_at lw_m16 202 rfl) rfl
theorem q3883 : (Jvm.Cond.methodLink "PluginChainsModel" (236 : Nat) ({ cls := "PluginChainsModel", name := "isPoint", desc := "(I)Z" } : Jvm.MethodName)) ∈ lw_all := lw_g (lw_at lw_m16 203 rfl) rfl
theorem q3884 : (Jvm.Cond.static ({ cls := "PluginChainsModel", name := "isPoint", desc := "(I)Z" } : Jvm.MethodName)) ∈ lw_all := lw_g (lw_at lw_m16 204 rfl) rfl
theorem q3885 : (Jvm.Cond.code ({ cls := "PluginChainsModel", name := "isPoint", desc := "(I)Z" } : Jvm.MethodName) prog_40_method_6_code (1 : Nat) (Option.some Jvm.ClassFile.FieldType.boolean)) ∈ lw_all := lw_g (lw_at lw_m16 205 rfl) rfl
theorem q3887 : (Jvm.Cond.instanceMethod ({ cls := "PluginChainsModel", name := "hookOf", desc := "(II)I" } : Jvm.MethodName)) ∈ lw_all := lw_g (lw_at lw_m16 207 rfl) rfl
theorem q3888 : (Jvm.Cond.selects "PluginChainsModel" ({ cls := "PluginChainsModel", name := "hookOf", desc := "(II)I" } : Jvm.MethodName) ({ cls := "PluginChainsModel", name := "hookOf", desc := "(II)I" } : Jvm.MethodName)) ∈ lw_all := lw_g (lw_at lw_m16 208 rfl) rfl
theorem q3889 : (Jvm.Cond.code ({ cls := "PluginChainsModel", name := "hookOf", desc := "(II)I" } : Jvm.MethodName) prog_40_method_65_code (3 : Nat) (Option.some Jvm.ClassFile.FieldType.int)) ∈ lw_all := lw_g (lw_at lw_m16 209 rfl) rfl
theorem q3890 : (Jvm.Cond.methodLink "PluginChainsModel" (242 : Nat) ({ cls := "PluginChainsModel", name := "hk", desc := "(II)I" } : Jvm.MethodName)) ∈ lw_all := lw_g (lw_at lw_m16 210 rfl) rfl
theorem q3891 : (Jvm.Cond.privateMethod ({ cls := "PluginChainsModel", name := "hk", desc := "(II)I" } : Jvm.MethodName)) ∈ lw_tbl := lw_at lw_m16 211 rfl
theorem q3892 : (Jvm.Cond.instanceMethod ({ cls := "PluginChainsModel", name := "hk", desc := "(II)I" } : Jvm.MethodName)) ∈ lw_all := lw_g (lw_at lw_m16 212 rfl) rfl
theorem q3893 : (Jvm.Cond.code ({ cls := "PluginChainsModel", name := "hk", desc := "(II)I" } : Jvm.MethodName) prog_40_method_63_code (3 : Nat) (Option.some Jvm.ClassFile.FieldType.int)) ∈ lw_all := lw_g (lw_at lw_m16 213 rfl) rfl
theorem q3895 : (Jvm.Cond.instanceMethod ({ cls := "PluginChainsModel", name := "chain", desc := "(II)I" } : Jvm.MethodName)) ∈ lw_all := lw_g (lw_at lw_m16 215 rfl) rfl
theorem q3896 : (Jvm.Cond.selects "PluginChainsModel" ({ cls := "PluginChainsModel", name := "chain", desc := "(II)I" } : Jvm.MethodName) ({ cls := "PluginChainsModel", name := "chain", desc := "(II)I" } : Jvm.MethodName)) ∈ lw_all := lw_g (lw_at lw_m16 216 rfl) rfl
theorem q3897 : (Jvm.Cond.code ({ cls := "PluginChainsModel", name := "chain", desc := "(II)I" } : Jvm.MethodName) prog_40_method_68_code (3 : Nat) (Option.some Jvm.ClassFile.FieldType.int)) ∈ lw_all := lw_g (lw_at lw_m16 217 rfl) rfl
theorem q3898 : (Jvm.Cond.methodLink "PluginChainsModel" (251 : Nat) ({ cls := "PluginChainsModel", name := "chains", desc := "(II)V" } : Jvm.MethodName)) ∈ lw_all := lw_g (lw_at lw_m16 218 rfl) rfl
theorem q3899 : (Jvm.Cond.privateMethod ({ cls := "PluginChainsModel", name := "chains", desc := "(II)V" } : Jvm.MethodName)) ∈ lw_tbl := lw_at lw_m16 219 rfl
theorem q3900 : (Jvm.Cond.instanceMethod ({ cls := "PluginChainsModel", name := "chains", desc := "(II)V" } : Jvm.MethodName)) ∈ lw_all := lw_g (lw_at lw_m16 220 rfl) rfl
theorem q3901 : (Jvm.Cond.code ({ cls := "PluginChainsModel", name := "chains", desc := "(II)V" } : Jvm.MethodName) prog_40_method_67_code (5 : Nat) (Option.none : Option Jvm.ClassFile.FieldType)) ∈ lw_all := lw_g (lw_at lw_m16 221 rfl) rfl
theorem q3902 : (Jvm.Cond.methodLink "PluginChainsModel" (248 : Nat) ({ cls := "PluginChainsModel", name := "isAhead", desc := "(II)Z" } : Jvm.MethodName)) ∈ lw_all := lw_g (lw_at lw_m16 222 rfl) rfl
theorem q3903 : (Jvm.Cond.privateMethod ({ cls := "PluginChainsModel", name := "isAhead", desc := "(II)Z" } : Jvm.MethodName)) ∈ lw_tbl := lw_at lw_m16 223 rfl
theorem q3904 : (Jvm.Cond.instanceMethod ({ cls := "PluginChainsModel", name := "isAhead", desc := "(II)Z" } : Jvm.MethodName)) ∈ lw_all := lw_g (lw_at lw_m16 224 rfl) rfl
theorem q3905 : (Jvm.Cond.code ({ cls := "PluginChainsModel", name := "isAhead", desc := "(II)Z" } : Jvm.MethodName) prog_40_method_66_code (3 : Nat) (Option.some Jvm.ClassFile.FieldType.boolean)) ∈ lw_all := lw_g (lw_at lw_m16 225 rfl) rfl
theorem q3907 : (Jvm.Cond.instanceMethod ({ cls := "PluginChainsModel", name := "fire", desc := "(II)I" } : Jvm.MethodName)) ∈ lw_all := lw_g (lw_at lw_m16 227 rfl) rfl
theorem q3908 : (Jvm.Cond.selects "PluginChainsModel" ({ cls := "PluginChainsModel", name := "fire", desc := "(II)I" } : Jvm.MethodName) ({ cls := "PluginChainsModel", name := "fire", desc := "(II)I" } : Jvm.MethodName)) ∈ lw_all := lw_g (lw_at lw_m16 228 rfl) rfl
theorem q3909 : (Jvm.Cond.code ({ cls := "PluginChainsModel", name := "fire", desc := "(II)I" } : Jvm.MethodName) prog_40_method_73_code (4 : Nat) (Option.some Jvm.ClassFile.FieldType.int)) ∈ lw_all := lw_g (lw_at lw_m16 229 rfl) rfl
theorem q3910 : (Jvm.Cond.methodLink "PluginChainsModel" (273 : Nat) ({ cls := "PluginChainsModel", name := "fires", desc := "(I)I" } : Jvm.MethodName)) ∈ lw_all := lw_g (lw_at lw_m16 230 rfl) rfl
theorem q3911 : (Jvm.Cond.privateMethod ({ cls := "PluginChainsModel", name := "fires", desc := "(I)I" } : Jvm.MethodName)) ∈ lw_tbl := lw_at lw_m16 231 rfl
theorem q3912 : (Jvm.Cond.instanceMethod ({ cls := "PluginChainsModel", name := "fires", desc := "(I)I" } : Jvm.MethodName)) ∈ lw_all := lw_g (lw_at lw_m16 232 rfl) rfl
theorem q3913 : (Jvm.Cond.code ({ cls := "PluginChainsModel", name := "fires", desc := "(I)I" } : Jvm.MethodName) prog_40_method_72_code (3 : Nat) (Option.some Jvm.ClassFile.FieldType.int)) ∈ lw_all := lw_g (lw_at lw_m16 233 rfl) rfl
theorem q3914 : (Jvm.Cond.methodLink "PluginChainsModel" (264 : Nat) ({ cls := "PluginChainsModel", name := "rest", desc := "(II)I" } : Jvm.MethodName)) ∈ lw_all := lw_g (lw_at lw_m16 234 rfl) rfl
theorem q3915 : (Jvm.Cond.privateMethod ({ cls := "PluginChainsModel", name := "rest", desc := "(II)I" } : Jvm.MethodName)) ∈ lw_tbl := lw_at lw_m16 235 rfl
theorem q3916 : (Jvm.Cond.instanceMethod ({ cls := "PluginChainsModel", name := "rest", desc := "(II)I" } : Jvm.MethodName)) ∈ lw_all := lw_g (lw_at lw_m16 236 rfl) rfl
theorem q3917 : (Jvm.Cond.code ({ cls := "PluginChainsModel", name := "rest", desc := "(II)I" } : Jvm.MethodName) prog_40_method_71_code (6 : Nat) (Option.some Jvm.ClassFile.FieldType.int)) ∈ lw_all := lw_g (lw_at lw_m16 237 rfl) rfl
theorem q3918 : (Jvm.Cond.methodLink "PluginChainsModel" (267 : Nat) ({ cls := "PluginChainsModel", name := "ten", desc := "(I)I" } : Jvm.MethodName)) ∈ lw_all := lw_g (lw_at lw_m16 238 rfl) rfl
theorem q3919 : (Jvm.Cond.static ({ cls := "PluginChainsModel", name := "ten", desc := "(I)I" } : Jvm.MethodName)) ∈ lw_all := lw_g (lw_at lw_m16 239 rfl) rfl
theorem q3920 : (Jvm.Cond.code ({ cls := "PluginChainsModel", name := "ten", desc := "(I)I" } : Jvm.MethodName) prog_40_method_69_code (2 : Nat) (Option.some Jvm.ClassFile.FieldType.int)) ∈ lw_all := lw_g (lw_at lw_m17 0 rfl) rfl
theorem q3921 : (Jvm.Cond.methodLink "PluginChainsModel" (270 : Nat) ({ cls := "PluginChainsModel", name := "throwsOne", desc := "(I)I" } : Jvm.MethodName)) ∈ lw_all := lw_g (lw_at lw_m17 1 rfl) rfl
theorem q3922 : (Jvm.Cond.privateMethod ({ cls := "PluginChainsModel", name := "throwsOne", desc := "(I)I" } : Jvm.MethodName)) ∈ lw_tbl := lw_at lw_m17 2 rfl
theorem q3923 : (Jvm.Cond.instanceMethod ({ cls := "PluginChainsModel", name := "throwsOne", desc := "(I)I" } : Jvm.MethodName)) ∈ lw_all := lw_g (lw_at lw_m17 3 rfl) rfl
theorem q3924 : (Jvm.Cond.code ({ cls := "PluginChainsModel", name := "throwsOne", desc := "(I)I" } : Jvm.MethodName) prog_40_method_70_code (2 : Nat) (Option.some Jvm.ClassFile.FieldType.int)) ∈ lw_all := lw_g (lw_at lw_m17 4 rfl) rfl
theorem q3926 : (Jvm.Cond.instanceMethod ({ cls := "PluginChainsModel", name := "given", desc := "()I" } : Jvm.MethodName)) ∈ lw_all := lw_g (lw_at lw_m17 6 rfl) rfl
theorem q3927 : (Jvm.Cond.selects "PluginChainsModel" ({ cls := "PluginChainsModel", name := "given", desc := "()I" } : Jvm.MethodName) ({ cls := "PluginChainsModel", name := "given", desc := "()I" } : Jvm.MethodName)) ∈ lw_all := lw_g (lw_at lw_m17 7 rfl) rfl
theorem q3928 : (Jvm.Cond.code ({ cls := "PluginChainsModel", name := "given", desc := "()I" } : Jvm.MethodName) prog_40_method_74_code (1 : Nat) (Option.some Jvm.ClassFile.FieldType.int)) ∈ lw_all := lw_g (lw_at lw_m17 8 rfl) rfl
theorem q3930 : (Jvm.Cond.instanceMethod ({ cls := "PluginChainsModel", name := "pure", desc := "(III)J" } : Jvm.MethodName)) ∈ lw_all := lw_g (lw_at lw_m17 10 rfl) rfl
theorem q3931 : (Jvm.Cond.selects "PluginChainsModel" ({ cls := "PluginChainsModel", name := "pure", desc := "(III)J" } : Jvm.MethodName) ({ cls := "PluginChainsModel", name := "pure", desc := "(III)J" } : Jvm.MethodName)) ∈ lw_all := lw_g (lw_at lw_m17 11 rfl) rfl
theorem q3932 : (Jvm.Cond.code ({ cls := "PluginChainsModel", name := "pure", desc := "(III)J" } : Jvm.MethodName) prog_40_method_75_code (5 : Nat) (Option.some Jvm.ClassFile.FieldType.long)) ∈ lw_all := lw_g (lw_at lw_m17 12 rfl) rfl
theorem q3933 : (Jvm.Cond.constantLong "PluginChainsModel" (282 : Nat) (10000000000 : Int64)) ∈ lw_all := lw_g (lw_at lw_m17 13 rfl) rfl
theorem q3935 : (Jvm.Cond.instanceMethod ({ cls := "PluginChainsModel", name := "matter", desc := "(II)I" } : Jvm.MethodName)) ∈ lw_all := lw_g (lw_at lw_m17 15 rfl) rfl
theorem q3936 : (Jvm.Cond.selects "PluginChainsModel" ({ cls := "PluginChainsModel", name := "matter", desc := "(II)I" } : Jvm.MethodName) ({ cls := "PluginChainsModel", name := "matter", desc := "(II)I" } : Jvm.MethodName)) ∈ lw_all := lw_g (lw_at lw_m17 16 rfl) rfl
theorem q3937 : (Jvm.Cond.code ({ cls := "PluginChainsModel", name := "matter", desc := "(II)I" } : Jvm.MethodName) prog_40_method_76_code (8 : Nat) (Option.some Jvm.ClassFile.FieldType.int)) ∈ lw_all := lw_g (lw_at lw_m17 17 rfl) rfl
theorem q3939 : (Jvm.Cond.instanceMethod ({ cls := "PluginChainsModel", name := "source", desc := "(IIII)J" } : Jvm.MethodName)) ∈ lw_all := lw_g (lw_at lw_m17 19 rfl) rfl
theorem q3940 : (Jvm.Cond.selects "PluginChainsModel" ({ cls := "PluginChainsModel", name := "source", desc := "(IIII)J" } : Jvm.MethodName) ({ cls := "PluginChainsModel", name := "source", desc := "(IIII)J" } : Jvm.MethodName)) ∈ lw_all := lw_g (lw_at lw_m17 20 rfl) rfl
theorem q3941 : (Jvm.Cond.code ({ cls := "PluginChainsModel", name := "source", desc := "(IIII)J" } : Jvm.MethodName) prog_40_method_77_code (7 : Nat) (Option.some Jvm.ClassFile.FieldType.long)) ∈ lw_all := lw_g (lw_at lw_m17 21 rfl) rfl
theorem q3942 : (Jvm.Cond.constantLong "PluginChainsModel" (284 : Nat) (200 : Int64)) ∈ lw_all := lw_g (lw_at lw_m17 22 rfl) rfl
theorem q3944 : (Jvm.Cond.instanceMethod ({ cls := "PluginChainsModel", name := "judge", desc := "(III)I" } : Jvm.MethodName)) ∈ lw_all := lw_g (lw_at lw_m17 24 rfl) rfl
theorem q3945 : (Jvm.Cond.selects "PluginChainsModel" ({ cls := "PluginChainsModel", name := "judge", desc := "(III)I" } : Jvm.MethodName) ({ cls := "PluginChainsModel", name := "judge", desc := "(III)I" } : Jvm.MethodName)) ∈ lw_all := lw_g (lw_at lw_m17 25 rfl) rfl
theorem q3946 : (Jvm.Cond.code ({ cls := "PluginChainsModel", name := "judge", desc := "(III)I" } : Jvm.MethodName) prog_40_method_79_code (6 : Nat) (Option.some Jvm.ClassFile.FieldType.int)) ∈ lw_all := lw_g (lw_at lw_m17 26 rfl) rfl
theorem q3947 : (Jvm.Cond.constantLong "PluginChainsModel" (286 : Nat) (2 : Int64)) ∈ lw_all := lw_g (lw_at lw_m17 27 rfl) rfl
theorem q3948 : (Jvm.Cond.methodLink "PluginChainsModel" (288 : Nat) ({ cls := "PluginChainsModel", name := "read", desc := "(II)I" } : Jvm.MethodName)) ∈ lw_all := lw_g (lw_at lw_m17 28 rfl) rfl
theorem q3949 : (Jvm.Cond.privateMethod ({ cls := "PluginChainsModel", name := "read", desc := "(II)I" } : Jvm.MethodName)) ∈ lw_tbl := lw_at lw_m17 29 rfl
theorem q3950 : (Jvm.Cond.instanceMethod ({ cls := "PluginChainsModel", name := "read", desc := "(II)I" } : Jvm.MethodName)) ∈ lw_all := lw_g (lw_at lw_m17 30 rfl) rfl
theorem q3951 : (Jvm.Cond.code ({ cls := "PluginChainsModel", name := "read", desc := "(II)I" } : Jvm.MethodName) prog_40_method_78_code (3 : Nat) (Option.some Jvm.ClassFile.FieldType.int)) ∈ lw_all := lw_g (lw_at lw_m17 31 rfl) rfl
theorem q3953 : (Jvm.Cond.instanceMethod ({ cls := "PluginChainsModel", name := "trace", desc := "(I)I" } : Jvm.MethodName)) ∈ lw_all := lw_g (lw_at lw_m17 33 rfl) rfl
theorem q3954 : (Jvm.Cond.selects "PluginChainsModel" ({ cls := "PluginChainsModel", name := "trace", desc := "(I)I" } : Jvm.MethodName) ({ cls := "PluginChainsModel", name := "trace", desc := "(I)I" } : Jvm.MethodName)) ∈ lw_all := lw_g (lw_at lw_m17 34 rfl) rfl
theorem q3955 : (Jvm.Cond.code ({ cls := "PluginChainsModel", name := "trace", desc := "(I)I" } : Jvm.MethodName) prog_40_method_80_code (2 : Nat) (Option.some Jvm.ClassFile.FieldType.int)) ∈ lw_all := lw_g (lw_at lw_m17 35 rfl) rfl
theorem q3956 : (Jvm.Cond.methodLink "PluginChainsModel" (291 : Nat) ({ cls := "java/lang/Math", name := "min", desc := "(II)I" } : Jvm.MethodName)) ∈ lw_all := lw_g (lw_at lw_m17 36 rfl) rfl
theorem q3958 : (Jvm.Cond.instanceMethod ({ cls := "PluginChainsModel", name := "log", desc := "(I)I" } : Jvm.MethodName)) ∈ lw_all := lw_g (lw_at lw_m17 38 rfl) rfl
theorem q3959 : (Jvm.Cond.selects "PluginChainsModel" ({ cls := "PluginChainsModel", name := "log", desc := "(I)I" } : Jvm.MethodName) ({ cls := "PluginChainsModel", name := "log", desc := "(I)I" } : Jvm.MethodName)) ∈ lw_all := lw_g (lw_at lw_m17 39 rfl) rfl
theorem q3960 : (Jvm.Cond.code ({ cls := "PluginChainsModel", name := "log", desc := "(I)I" } : Jvm.MethodName) prog_40_method_81_code (2 : Nat) (Option.some Jvm.ClassFile.FieldType.int)) ∈ lw_all := lw_g (lw_at lw_m17 40 rfl) rfl
theorem q3962 : (Jvm.Cond.instanceMethod ({ cls := "PluginChainsModel", name := "days", desc := "(I)I" } : Jvm.MethodName)) ∈ lw_all := lw_g (lw_at lw_m17 42 rfl) rfl
theorem q3963 : (Jvm.Cond.selects "PluginChainsModel" ({ cls := "PluginChainsModel", name := "days", desc := "(I)I" } : Jvm.MethodName) ({ cls := "PluginChainsModel", name := "days", desc := "(I)I" } : Jvm.MethodName)) ∈ lw_all := lw_g (lw_at lw_m17 43 rfl) rfl
theorem q3964 : (Jvm.Cond.code ({ cls := "PluginChainsModel", name := "days", desc := "(I)I" } : Jvm.MethodName) prog_40_method_84_code (5 : Nat) (Option.some Jvm.ClassFile.FieldType.int)) ∈ lw_all := lw_g (lw_at lw_m17 44 rfl) rfl
theorem q3965 : (Jvm.Cond.methodLink "PluginChainsModel" (295 : Nat) ({ cls := "PluginChainsModel", name := "draw", desc := "(I)I" } : Jvm.MethodName)) ∈ lw_all := lw_g (lw_at lw_m17 45 rfl) rfl
theorem q3966 : (Jvm.Cond.privateMethod ({ cls := "PluginChainsModel", name := "draw", desc := "(I)I" } : Jvm.MethodName)) ∈ lw_tbl := lw_at lw_m17 46 rfl
theorem q3967 : (Jvm.Cond.instanceMethod ({ cls := "PluginChainsModel", name := "draw", desc := "(I)I" } : Jvm.MethodName)) ∈ lw_all := lw_g (lw_at lw_m17 47 rfl) rfl
theorem q3968 : (Jvm.Cond.code ({ cls := "PluginChainsModel", name := "draw", desc := "(I)I" } : Jvm.MethodName) prog_40_method_82_code (2 : Nat) (Option.some Jvm.ClassFile.FieldType.int)) ∈ lw_all := lw_g (lw_at lw_m17 48 rfl) rfl
theorem q3969 : (Jvm.Cond.constant "PluginChainsModel" (294 : Nat) (1103515245 : Int32)) ∈ lw_all := lw_g (lw_at lw_m17 49 rfl) rfl
theorem q3970 : (Jvm.Cond.methodLink "PluginChainsModel" (298 : Nat) ({ cls := "PluginChainsModel", name := "inState", desc := "(I)I" } : Jvm.MethodName)) ∈ lw_all := lw_g (lw_at lw_m17 50 rfl) rfl
theorem q3971 : (Jvm.Cond.privateMethod ({ cls := "PluginChainsModel", name := "inState", desc := "(I)I" } : Jvm.MethodName)) ∈ lw_tbl := lw_at lw_m17 51 rfl
theorem q3972 : (Jvm.Cond.instanceMethod ({ cls := "PluginChainsModel", name := "inState", desc := "(I)I" } : Jvm.MethodName)) ∈ lw_all := lw_g (lw_at lw_m17 52 rfl) rfl
theorem q3973 : (Jvm.Cond.code ({ cls := "PluginChainsModel", name := "inState", desc := "(I)I" } : Jvm.MethodName) prog_40_method_83_code (4 : Nat) (Option.some Jvm.ClassFile.FieldType.int)) ∈ lw_all := lw_g (lw_at lw_m17 53 rfl) rfl
theorem q3975 : (Jvm.Cond.instanceMethod ({ cls := "PluginChainsModel", name := "seed", desc := "(I)I" } : Jvm.MethodName)) ∈ lw_all := lw_g (lw_at lw_m17 55 rfl) rfl
theorem q3976 : (Jvm.Cond.selects "PluginChainsModel" ({ cls := "PluginChainsModel", name := "seed", desc := "(I)I" } : Jvm.MethodName) ({ cls := "PluginChainsModel", name := "seed", desc := "(I)I" } : Jvm.MethodName)) ∈ lw_all := lw_g (lw_at lw_m17 56 rfl) rfl
theorem q3977 : (Jvm.Cond.code ({ cls := "PluginChainsModel", name := "seed", desc := "(I)I" } : Jvm.MethodName) prog_40_method_85_code (3 : Nat) (Option.some Jvm.ClassFile.FieldType.int)) ∈ lw_all := lw_g (lw_at lw_m17 57 rfl) rfl
theorem q3979 : (Jvm.Cond.instanceMethod ({ cls := "PluginChainsModel", name := "image", desc := "()I" } : Jvm.MethodName)) ∈ lw_all := lw_g (lw_at lw_m17 59 rfl) rfl
theorem q3980 : (Jvm.Cond.selects "PluginChainsModel" ({ cls := "PluginChainsModel", name := "image", desc := "()I" } : Jvm.MethodName) ({ cls := "PluginChainsModel", name := "image", desc := "()I" } : Jvm.MethodName)) ∈ lw_all := lw_g (lw_at lw_m17 60 rfl) rfl
theorem q3981 : (Jvm.Cond.code ({ cls := "PluginChainsModel", name := "image", desc := "()I" } : Jvm.MethodName) prog_40_method_88_code (1 : Nat) (Option.some Jvm.ClassFile.FieldType.int)) ∈ lw_all := lw_g (lw_at lw_m17 61 rfl) rfl
theorem q3983 : (Jvm.Cond.instanceMethod ({ cls := "PluginChainsModel", name := "restore", desc := "()I" } : Jvm.MethodName)) ∈ lw_all := lw_g (lw_at lw_m17 63 rfl) rfl
theorem q3984 : (Jvm.Cond.selects "PluginChainsModel" ({ cls := "PluginChainsModel", name := "restore", desc := "()I" } : Jvm.MethodName) ({ cls := "PluginChainsModel", name := "restore", desc := "()I" } : Jvm.MethodName)) ∈ lw_all := lw_g (lw_at lw_m17 64 rfl) rfl
theorem q3985 : (Jvm.Cond.code ({ cls := "PluginChainsModel", name := "restore", desc := "()I" } : Jvm.MethodName) prog_40_method_89_code (2 : Nat) (Option.some Jvm.ClassFile.FieldType.int)) ∈ lw_all := lw_g (lw_at lw_m17 65 rfl) rfl
theorem q3987 : (Jvm.Cond.instanceMethod ({ cls := "PluginChainsModel", name := "status", desc := "(I)I" } : Jvm.MethodName)) ∈ lw_all := lw_g (lw_at lw_m17 67 rfl) rfl
theorem q3988 : (Jvm.Cond.selects "PluginChainsModel" ({ cls := "PluginChainsModel", name := "status", desc := "(I)I" } : Jvm.MethodName) ({ cls := "PluginChainsModel", name := "status", desc := "(I)I" } : Jvm.MethodName)) ∈ lw_all := lw_g (lw_at lw_m17 68 rfl) rfl
theorem q3989 : (Jvm.Cond.code ({ cls := "PluginChainsModel", name := "status", desc := "(I)I" } : Jvm.MethodName) prog_40_method_90_code (2 : Nat) (Option.some Jvm.ClassFile.FieldType.int)) ∈ lw_all := lw_g (lw_at lw_m17 69 rfl) rfl
theorem q4052 : (Jvm.Cond.castable "PluginChainsModel" "java/lang/Object") ∈ lw_tbl := lw_at lw_m17 132 rfl
theorem in_X5 : ∀ w ∈ wsX50, w ∈ lw_all := lw_in wsX50 [3558, 3560, 3562, 3564, 3566, 3568, 3570, 3572, 3574, 3576, 3578, 3580, 3582, 3584, 3586, 3588, 3590, 3592, 3594, 3596, 3598, 3600, 3602, 3604, 3606, 3608, 3610, 3612, 3614, 3616, 3618, 3620, 3622, 3624, 3626, 3628, 3630] (by decide +kernel) (by decide +kernel)

/-! the law's own entry -/
set_option maxRecDepth 100000
abbrev cL_law : ByteArray := code
def dkwL_law_55 : List UInt8 := [29, 4, 96, 46, 182, 0, 180, 159, 0, 5, 3, 172, 132, 3, 7, 167, 250, 95, 4, 172]
abbrev dktL_law_55 : List UInt8 := dkwL_law_55 ++ []
def dkwL_law_54 : List UInt8 := [43, 182, 0, 173, 44, 182, 0, 176, 159, 0, 28, 3, 172, 43, 42, 29, 4, 96, 46, 182, 0, 177, 44, 42]
abbrev dktL_law_54 : List UInt8 := dkwL_law_54 ++ dktL_law_55
def dkwL_law_53 : List UInt8 := [4, 96, 46, 182, 0, 168, 159, 0, 54, 3, 172, 43, 182, 0, 169, 44, 182, 0, 172, 159, 0, 41, 3, 172]
abbrev dktL_law_53 : List UInt8 := dkwL_law_53 ++ dktL_law_54
def dkwL_law_52 : List UInt8 := [29, 4, 96, 46, 182, 0, 164, 159, 0, 77, 3, 172, 43, 42, 29, 4, 96, 46, 182, 0, 165, 44, 42, 29]
abbrev dktL_law_52 : List UInt8 := dkwL_law_52 ++ dktL_law_53
def dkwL_law_51 : List UInt8 := [42, 29, 4, 96, 46, 182, 0, 160, 159, 0, 100, 3, 172, 43, 42, 29, 4, 96, 46, 182, 0, 161, 44, 42]
abbrev dktL_law_51 : List UInt8 := dkwL_law_51 ++ dktL_law_52
def dkwL_law_50 : List UInt8 := [44, 42, 29, 4, 96, 46, 182, 0, 156, 159, 0, 123, 3, 172, 43, 42, 29, 4, 96, 46, 182, 0, 157, 44]
abbrev dktL_law_50 : List UInt8 := dkwL_law_50 ++ dktL_law_51
def dkwL_law_49 : List UInt8 := [96, 46, 42, 29, 6, 96, 46, 182, 0, 152, 159, 0, 146, 3, 172, 43, 42, 29, 4, 96, 46, 182, 0, 153]
abbrev dktL_law_49 : List UInt8 := dkwL_law_49 ++ dktL_law_50
def dkwL_law_48 : List UInt8 := [96, 46, 42, 29, 5, 96, 46, 42, 29, 6, 96, 46, 182, 0, 149, 44, 42, 29, 4, 96, 46, 42, 29, 5]
abbrev dktL_law_48 : List UInt8 := dkwL_law_48 ++ dktL_law_49
def dkwL_law_47 : List UInt8 := [46, 42, 29, 6, 96, 46, 42, 29, 7, 96, 46, 182, 0, 148, 148, 153, 0, 189, 3, 172, 43, 42, 29, 4]
abbrev dktL_law_47 : List UInt8 := dkwL_law_47 ++ dktL_law_48
def dkwL_law_46 : List UInt8 := [46, 42, 29, 6, 96, 46, 42, 29, 7, 96, 46, 182, 0, 144, 44, 42, 29, 4, 96, 46, 42, 29, 5, 96]
abbrev dktL_law_46 : List UInt8 := dkwL_law_46 ++ dktL_law_47
def dkwL_law_45 : List UInt8 := [46, 42, 29, 5, 96, 46, 182, 0, 143, 159, 0, 243, 3, 172, 43, 42, 29, 4, 96, 46, 42, 29, 5, 96]
abbrev dktL_law_45 : List UInt8 := dkwL_law_45 ++ dktL_law_46
def dkwL_law_44 : List UInt8 := [153, 1, 20, 3, 172, 43, 42, 29, 4, 96, 46, 42, 29, 5, 96, 46, 182, 0, 140, 44, 42, 29, 4, 96]
abbrev dktL_law_44 : List UInt8 := dkwL_law_44 ++ dktL_law_45
def dkwL_law_43 : List UInt8 := [182, 0, 135, 44, 42, 29, 4, 96, 46, 42, 29, 5, 96, 46, 42, 29, 6, 96, 46, 182, 0, 139, 148]
abbrev dktL_law_43 : List UInt8 := dkwL_law_43 ++ dktL_law_44
def dkwL_law_42 : List UInt8 := [182, 0, 134, 159, 1, 64, 3, 172, 43, 42, 29, 4, 96, 46, 42, 29, 5, 96, 46, 42, 29, 6, 96, 46]
abbrev dktL_law_42 : List UInt8 := dkwL_law_42 ++ dktL_law_43
def dkwL_law_41 : List UInt8 := [42, 29, 4, 96, 46, 42, 29, 5, 96, 46, 182, 0, 130, 159, 1, 77, 3, 172, 43, 182, 0, 131, 44]
abbrev dktL_law_41 : List UInt8 := dkwL_law_41 ++ dktL_law_42
def dkwL_law_40 : List UInt8 := [46, 182, 0, 126, 159, 1, 110, 3, 172, 43, 42, 29, 4, 96, 46, 42, 29, 5, 96, 46, 182, 0, 127, 44]
abbrev dktL_law_40 : List UInt8 := dkwL_law_40 ++ dktL_law_41
def dkwL_law_39 : List UInt8 := [43, 42, 29, 4, 96, 46, 42, 29, 5, 96, 46, 182, 0, 123, 44, 42, 29, 4, 96, 46, 42, 29, 5, 96]
abbrev dktL_law_39 : List UInt8 := dkwL_law_39 ++ dktL_law_40
def dkwL_law_38 : List UInt8 := [96, 46, 182, 0, 119, 44, 42, 29, 4, 96, 46, 42, 29, 5, 96, 46, 182, 0, 122, 159, 1, 143, 3, 172]
abbrev dktL_law_38 : List UInt8 := dkwL_law_38 ++ dktL_law_39
def dkwL_law_37 : List UInt8 := [96, 46, 42, 29, 8, 96, 46, 182, 0, 118, 159, 1, 176, 3, 172, 43, 42, 29, 4, 96, 46, 42, 29, 5]
abbrev dktL_law_37 : List UInt8 := dkwL_law_37 ++ dktL_law_38
def dkwL_law_36 : List UInt8 := [96, 46, 182, 0, 115, 44, 42, 29, 4, 96, 46, 42, 29, 5, 96, 46, 42, 29, 6, 96, 46, 42, 29, 7]
abbrev dktL_law_36 : List UInt8 := dkwL_law_36 ++ dktL_law_37
def dkwL_law_35 : List UInt8 := [43, 42, 29, 4, 96, 46, 42, 29, 5, 96, 46, 42, 29, 6, 96, 46, 42, 29, 7, 96, 46, 42, 29, 8]
abbrev dktL_law_35 : List UInt8 := dkwL_law_35 ++ dktL_law_36
def dkwL_law_34 : List UInt8 := [172, 43, 42, 29, 4, 96, 46, 182, 0, 111, 44, 42, 29, 4, 96, 46, 182, 0, 114, 159, 1, 239, 3, 172]
abbrev dktL_law_34 : List UInt8 := dkwL_law_34 ++ dktL_law_35
def dkwL_law_33 : List UInt8 := [3, 172, 43, 42, 29, 4, 96, 46, 182, 0, 107, 44, 42, 29, 4, 96, 46, 182, 0, 110, 159, 2, 6, 3]
abbrev dktL_law_33 : List UInt8 := dkwL_law_33 ++ dktL_law_34
def dkwL_law_32 : List UInt8 := [29, 5, 96, 46, 182, 0, 103, 44, 42, 29, 4, 96, 46, 42, 29, 5, 96, 46, 182, 0, 106, 159, 2, 29]
abbrev dktL_law_32 : List UInt8 := dkwL_law_32 ++ dktL_law_33
def dkwL_law_31 : List UInt8 := [182, 0, 99, 44, 42, 29, 4, 96, 46, 182, 0, 102, 159, 2, 62, 3, 172, 43, 42, 29, 4, 96, 46, 42]
abbrev dktL_law_31 : List UInt8 := dkwL_law_31 ++ dktL_law_32
def dkwL_law_30 : List UInt8 := [182, 0, 95, 44, 42, 29, 4, 96, 46, 182, 0, 98, 159, 2, 85, 3, 172, 43, 42, 29, 4, 96, 46]
abbrev dktL_law_30 : List UInt8 := dkwL_law_30 ++ dktL_law_31
def dkwL_law_29 : List UInt8 := [42, 29, 4, 96, 46, 42, 29, 5, 96, 46, 182, 0, 94, 159, 2, 108, 3, 172, 43, 42, 29, 4, 96, 46]
abbrev dktL_law_29 : List UInt8 := dkwL_law_29 ++ dktL_law_30
def dkwL_law_28 : List UInt8 := [46, 182, 0, 90, 159, 2, 141, 3, 172, 43, 42, 29, 4, 96, 46, 42, 29, 5, 96, 46, 182, 0, 91, 44]
abbrev dktL_law_28 : List UInt8 := dkwL_law_28 ++ dktL_law_29
def dkwL_law_27 : List UInt8 := [96, 46, 182, 0, 86, 159, 2, 164, 3, 172, 43, 42, 29, 4, 96, 46, 182, 0, 87, 44, 42, 29, 4, 96]
abbrev dktL_law_27 : List UInt8 := dkwL_law_27 ++ dktL_law_28
def dkwL_law_26 : List UInt8 := [172, 43, 42, 29, 4, 96, 46, 42, 29, 5, 96, 46, 182, 0, 83, 44, 42, 29, 4, 96, 46, 42, 29, 5]
abbrev dktL_law_26 : List UInt8 := dkwL_law_26 ++ dktL_law_27
def dkwL_law_25 : List UInt8 := [3, 172, 43, 42, 29, 4, 96, 46, 182, 0, 79, 44, 42, 29, 4, 96, 46, 182, 0, 82, 159, 2, 197, 3]
abbrev dktL_law_25 : List UInt8 := dkwL_law_25 ++ dktL_law_26
def dkwL_law_24 : List UInt8 := [29, 5, 96, 46, 182, 0, 75, 44, 42, 29, 4, 96, 46, 42, 29, 5, 96, 46, 182, 0, 78, 159, 2, 220]
abbrev dktL_law_24 : List UInt8 := dkwL_law_24 ++ dktL_law_25
def dkwL_law_23 : List UInt8 := [182, 0, 71, 44, 42, 29, 4, 96, 46, 182, 0, 74, 159, 2, 253, 3, 172, 43, 42, 29, 4, 96, 46, 42]
abbrev dktL_law_23 : List UInt8 := dkwL_law_23 ++ dktL_law_24
def dkwL_law_22 : List UInt8 := [182, 0, 67, 44, 42, 29, 4, 96, 46, 182, 0, 70, 159, 3, 20, 3, 172, 43, 42, 29, 4, 96, 46]
abbrev dktL_law_22 : List UInt8 := dkwL_law_22 ++ dktL_law_23
def dkwL_law_21 : List UInt8 := [29, 4, 96, 46, 42, 29, 5, 96, 46, 182, 0, 66, 159, 3, 43, 3, 172, 43, 42, 29, 4, 96, 46]
abbrev dktL_law_21 : List UInt8 := dkwL_law_21 ++ dktL_law_22
def dkwL_law_20 : List UInt8 := [182, 0, 62, 159, 3, 76, 3, 172, 43, 42, 29, 4, 96, 46, 42, 29, 5, 96, 46, 182, 0, 63, 44, 42]
abbrev dktL_law_20 : List UInt8 := dkwL_law_20 ++ dktL_law_21
def dkwL_law_19 : List UInt8 := [96, 46, 182, 0, 54, 44, 42, 29, 4, 96, 46, 182, 0, 57, 159, 3, 89, 3, 172, 43, 182, 0, 58, 44]
abbrev dktL_law_19 : List UInt8 := dkwL_law_19 ++ dktL_law_20
def dkwL_law_18 : List UInt8 := [46, 42, 29, 8, 96, 46, 42, 29, 16, 6, 96, 46, 182, 0, 53, 159, 3, 112, 3, 172, 43, 42, 29, 4]
abbrev dktL_law_18 : List UInt8 := dkwL_law_18 ++ dktL_law_19
def dkwL_law_17 : List UInt8 := [46, 182, 0, 49, 44, 42, 29, 4, 96, 46, 42, 29, 5, 96, 46, 42, 29, 6, 96, 46, 42, 29, 7, 96]
abbrev dktL_law_17 : List UInt8 := dkwL_law_17 ++ dktL_law_18
def dkwL_law_16 : List UInt8 := [29, 5, 96, 46, 42, 29, 6, 96, 46, 42, 29, 7, 96, 46, 42, 29, 8, 96, 46, 42, 29, 16, 6, 96]
abbrev dktL_law_16 : List UInt8 := dkwL_law_16 ++ dktL_law_17
def dkwL_law_15 : List UInt8 := [29, 4, 96, 46, 42, 29, 5, 96, 46, 182, 0, 48, 159, 3, 187, 3, 172, 43, 42, 29, 4, 96, 46, 42]
abbrev dktL_law_15 : List UInt8 := dkwL_law_15 ++ dktL_law_16
def dkwL_law_14 : List UInt8 := [182, 0, 44, 159, 3, 220, 3, 172, 43, 42, 29, 4, 96, 46, 42, 29, 5, 96, 46, 182, 0, 45, 44, 42]
abbrev dktL_law_14 : List UInt8 := dkwL_law_14 ++ dktL_law_15
def dkwL_law_13 : List UInt8 := [182, 0, 39, 159, 3, 243, 3, 172, 43, 42, 29, 4, 96, 46, 182, 0, 40, 44, 42, 29, 4, 96, 46]
abbrev dktL_law_13 : List UInt8 := dkwL_law_13 ++ dktL_law_14
def dkwL_law_12 : List UInt8 := [42, 29, 4, 96, 46, 42, 29, 5, 96, 46, 182, 0, 35, 44, 42, 29, 4, 96, 46, 42, 29, 5, 96, 46]
abbrev dktL_law_12 : List UInt8 := dkwL_law_12 ++ dktL_law_13
def dkwL_law_11 : List UInt8 := [182, 0, 30, 44, 42, 29, 4, 96, 46, 42, 29, 5, 96, 46, 182, 0, 34, 148, 153, 4, 20, 3, 172, 43]
abbrev dktL_law_11 : List UInt8 := dkwL_law_11 ++ dktL_law_12
def dkwL_law_10 : List UInt8 := [42, 29, 8, 96, 46, 182, 0, 29, 159, 4, 54, 3, 172, 43, 42, 29, 4, 96, 46, 42, 29, 5, 96, 46]
abbrev dktL_law_10 : List UInt8 := dkwL_law_10 ++ dktL_law_11
def dkwL_law_9 : List UInt8 := [182, 0, 25, 44, 42, 29, 4, 96, 46, 42, 29, 5, 96, 46, 42, 29, 6, 96, 46, 42, 29, 7, 96, 46]
abbrev dktL_law_9 : List UInt8 := dkwL_law_9 ++ dktL_law_10
def dkwL_law_8 : List UInt8 := [96, 46, 42, 29, 5, 96, 46, 42, 29, 6, 96, 46, 42, 29, 7, 96, 46, 42, 29, 8, 96, 46]
abbrev dktL_law_8 : List UInt8 := dkwL_law_8 ++ dktL_law_9
def dkwL_law_7 : List UInt8 := [121, 42, 29, 7, 96, 46, 133, 20, 0, 18, 127, 129, 182, 0, 24, 159, 4, 117, 3, 172, 43, 42, 29, 4]
abbrev dktL_law_7 : List UInt8 := dkwL_law_7 ++ dktL_law_8
def dkwL_law_6 : List UInt8 := [127, 129, 182, 0, 20, 44, 42, 29, 4, 96, 46, 42, 29, 5, 96, 46, 42, 29, 6, 96, 46, 133, 16, 32]
abbrev dktL_law_6 : List UInt8 := dkwL_law_6 ++ dktL_law_7
def dkwL_law_5 : List UInt8 := [46, 42, 29, 5, 96, 46, 42, 29, 6, 96, 46, 133, 16, 32, 121, 42, 29, 7, 96, 46, 133, 20, 0, 18]
abbrev dktL_law_5 : List UInt8 := dkwL_law_5 ++ dktL_law_6
def dkwL_law_4 : List UInt8 := [46, 42, 29, 5, 96, 46, 42, 29, 6, 96, 46, 182, 0, 17, 159, 4, 190, 3, 172, 43, 42, 29, 4, 96]
abbrev dktL_law_4 : List UInt8 := dkwL_law_4 ++ dktL_law_5
def dkwL_law_3 : List UInt8 := [43, 42, 29, 4, 96, 46, 42, 29, 5, 96, 46, 42, 29, 6, 96, 46, 182, 0, 13, 44, 42, 29, 4, 96]
abbrev dktL_law_3 : List UInt8 := dkwL_law_3 ++ dktL_law_4
def dkwL_law_2 : List UInt8 := [170, 0, 0, 0, 0, 5, 143, 0, 0, 0, 0, 0, 0, 0, 38, 0, 0, 0, 171, 0, 0, 0, 214, 0, 0, 1, 31, 0, 0, 1, 94, 0, 0, 1, 128, 0, 0, 1, 161, 0, 0, 1, 184, 0, 0, 1, 217, 0, 0, 2, 36, 0, 0, 2, 59, 0, 0, 2, 72, 0, 0, 2, 105, 0, 0, 2, 128, 0, 0, 2, 151, 0, 0, 2, 184, 0, 0, 2, 207, 0, 0, 2, 240, 0, 0, 3, 7, 0, 0, 3, 40, 0, 0, 3, 63, 0, 0, 3, 86, 0, 0, 3, 119, 0, 0, 3, 142, 0, 0, 3, 165, 0, 0, 3, 228, 0, 0, 4, 5, 0, 0, 4, 38, 0, 0, 4, 71, 0, 0, 4, 84, 0, 0, 4, 128, 0, 0, 4, 161, 0, 0, 4, 215, 0, 0, 5, 2, 0, 0, 5, 25, 0, 0, 5, 48, 0, 0, 5, 71, 0, 0, 5, 94, 0, 0, 5, 107, 0, 0, 5, 120]
abbrev dktL_law_2 : List UInt8 := dkwL_law_2 ++ dktL_law_3
def dkwL_law_1 : List UInt8 := [163, 5, 158, 42, 29, 46, 16, 63, 126]
abbrev dktL_law_1 : List UInt8 := dkwL_law_1 ++ dktL_law_2
def dkwL_law_0 : List UInt8 := [187, 0, 7, 89, 183, 0, 9, 76, 187, 0, 10, 89, 183, 0, 12, 77, 3, 62, 29, 42, 190, 16, 7, 100]
abbrev dktL_law_0 : List UInt8 := dkwL_law_0 ++ dktL_law_1
theorem dksL_law_0 : cL_law.data.toList.drop 0 = dktL_law_0 := by decide +kernel
theorem dksL_law_1 : cL_law.data.toList.drop 24 = dktL_law_1 := dk_seg dksL_law_0 24 rfl rfl
theorem dksL_law_2 : cL_law.data.toList.drop 33 = dktL_law_2 := dk_seg dksL_law_1 9 rfl rfl
theorem dksL_law_3 : cL_law.data.toList.drop 204 = dktL_law_3 := dk_seg dksL_law_2 171 rfl rfl
theorem dksL_law_4 : cL_law.data.toList.drop 228 = dktL_law_4 := dk_seg dksL_law_3 24 rfl rfl
theorem dksL_law_5 : cL_law.data.toList.drop 252 = dktL_law_5 := dk_seg dksL_law_4 24 rfl rfl
theorem dksL_law_6 : cL_law.data.toList.drop 276 = dktL_law_6 := dk_seg dksL_law_5 24 rfl rfl
theorem dksL_law_7 : cL_law.data.toList.drop 300 = dktL_law_7 := dk_seg dksL_law_6 24 rfl rfl
theorem dksL_law_8 : cL_law.data.toList.drop 324 = dktL_law_8 := dk_seg dksL_law_7 24 rfl rfl
theorem dksL_law_9 : cL_law.data.toList.drop 346 = dktL_law_9 := dk_seg dksL_law_8 22 rfl rfl
theorem dksL_law_10 : cL_law.data.toList.drop 370 = dktL_law_10 := dk_seg dksL_law_9 24 rfl rfl
theorem dksL_law_11 : cL_law.data.toList.drop 394 = dktL_law_11 := dk_seg dksL_law_10 24 rfl rfl
theorem dksL_law_12 : cL_law.data.toList.drop 418 = dktL_law_12 := dk_seg dksL_law_11 24 rfl rfl
theorem dksL_law_13 : cL_law.data.toList.drop 442 = dktL_law_13 := dk_seg dksL_law_12 24 rfl rfl
theorem dksL_law_14 : cL_law.data.toList.drop 465 = dktL_law_14 := dk_seg dksL_law_13 23 rfl rfl
theorem dksL_law_15 : cL_law.data.toList.drop 489 = dktL_law_15 := dk_seg dksL_law_14 24 rfl rfl
theorem dksL_law_16 : cL_law.data.toList.drop 513 = dktL_law_16 := dk_seg dksL_law_15 24 rfl rfl
theorem dksL_law_17 : cL_law.data.toList.drop 537 = dktL_law_17 := dk_seg dksL_law_16 24 rfl rfl
theorem dksL_law_18 : cL_law.data.toList.drop 561 = dktL_law_18 := dk_seg dksL_law_17 24 rfl rfl
theorem dksL_law_19 : cL_law.data.toList.drop 585 = dktL_law_19 := dk_seg dksL_law_18 24 rfl rfl
theorem dksL_law_20 : cL_law.data.toList.drop 609 = dktL_law_20 := dk_seg dksL_law_19 24 rfl rfl
theorem dksL_law_21 : cL_law.data.toList.drop 633 = dktL_law_21 := dk_seg dksL_law_20 24 rfl rfl
theorem dksL_law_22 : cL_law.data.toList.drop 656 = dktL_law_22 := dk_seg dksL_law_21 23 rfl rfl
theorem dksL_law_23 : cL_law.data.toList.drop 679 = dktL_law_23 := dk_seg dksL_law_22 23 rfl rfl
theorem dksL_law_24 : cL_law.data.toList.drop 703 = dktL_law_24 := dk_seg dksL_law_23 24 rfl rfl
theorem dksL_law_25 : cL_law.data.toList.drop 727 = dktL_law_25 := dk_seg dksL_law_24 24 rfl rfl
theorem dksL_law_26 : cL_law.data.toList.drop 751 = dktL_law_26 := dk_seg dksL_law_25 24 rfl rfl
theorem dksL_law_27 : cL_law.data.toList.drop 775 = dktL_law_27 := dk_seg dksL_law_26 24 rfl rfl
theorem dksL_law_28 : cL_law.data.toList.drop 799 = dktL_law_28 := dk_seg dksL_law_27 24 rfl rfl
theorem dksL_law_29 : cL_law.data.toList.drop 823 = dktL_law_29 := dk_seg dksL_law_28 24 rfl rfl
theorem dksL_law_30 : cL_law.data.toList.drop 847 = dktL_law_30 := dk_seg dksL_law_29 24 rfl rfl
theorem dksL_law_31 : cL_law.data.toList.drop 870 = dktL_law_31 := dk_seg dksL_law_30 23 rfl rfl
theorem dksL_law_32 : cL_law.data.toList.drop 894 = dktL_law_32 := dk_seg dksL_law_31 24 rfl rfl
theorem dksL_law_33 : cL_law.data.toList.drop 918 = dktL_law_33 := dk_seg dksL_law_32 24 rfl rfl
theorem dksL_law_34 : cL_law.data.toList.drop 942 = dktL_law_34 := dk_seg dksL_law_33 24 rfl rfl
theorem dksL_law_35 : cL_law.data.toList.drop 966 = dktL_law_35 := dk_seg dksL_law_34 24 rfl rfl
theorem dksL_law_36 : cL_law.data.toList.drop 990 = dktL_law_36 := dk_seg dksL_law_35 24 rfl rfl
theorem dksL_law_37 : cL_law.data.toList.drop 1014 = dktL_law_37 := dk_seg dksL_law_36 24 rfl rfl
theorem dksL_law_38 : cL_law.data.toList.drop 1038 = dktL_law_38 := dk_seg dksL_law_37 24 rfl rfl
theorem dksL_law_39 : cL_law.data.toList.drop 1062 = dktL_law_39 := dk_seg dksL_law_38 24 rfl rfl
theorem dksL_law_40 : cL_law.data.toList.drop 1086 = dktL_law_40 := dk_seg dksL_law_39 24 rfl rfl
theorem dksL_law_41 : cL_law.data.toList.drop 1110 = dktL_law_41 := dk_seg dksL_law_40 24 rfl rfl
theorem dksL_law_42 : cL_law.data.toList.drop 1133 = dktL_law_42 := dk_seg dksL_law_41 23 rfl rfl
theorem dksL_law_43 : cL_law.data.toList.drop 1157 = dktL_law_43 := dk_seg dksL_law_42 24 rfl rfl
theorem dksL_law_44 : cL_law.data.toList.drop 1180 = dktL_law_44 := dk_seg dksL_law_43 23 rfl rfl
theorem dksL_law_45 : cL_law.data.toList.drop 1204 = dktL_law_45 := dk_seg dksL_law_44 24 rfl rfl
theorem dksL_law_46 : cL_law.data.toList.drop 1228 = dktL_law_46 := dk_seg dksL_law_45 24 rfl rfl
theorem dksL_law_47 : cL_law.data.toList.drop 1252 = dktL_law_47 := dk_seg dksL_law_46 24 rfl rfl
theorem dksL_law_48 : cL_law.data.toList.drop 1276 = dktL_law_48 := dk_seg dksL_law_47 24 rfl rfl
theorem dksL_law_49 : cL_law.data.toList.drop 1300 = dktL_law_49 := dk_seg dksL_law_48 24 rfl rfl
theorem dksL_law_50 : cL_law.data.toList.drop 1324 = dktL_law_50 := dk_seg dksL_law_49 24 rfl rfl
theorem dksL_law_51 : cL_law.data.toList.drop 1348 = dktL_law_51 := dk_seg dksL_law_50 24 rfl rfl
theorem dksL_law_52 : cL_law.data.toList.drop 1372 = dktL_law_52 := dk_seg dksL_law_51 24 rfl rfl
theorem dksL_law_53 : cL_law.data.toList.drop 1396 = dktL_law_53 := dk_seg dksL_law_52 24 rfl rfl
theorem dksL_law_54 : cL_law.data.toList.drop 1420 = dktL_law_54 := dk_seg dksL_law_53 24 rfl rfl
theorem dksL_law_55 : cL_law.data.toList.drop 1444 = dktL_law_55 := dk_seg dksL_law_54 24 rfl rfl
theorem dL_law_0 : decode cL_law 0 = .ok (.new 7, 3) := dk_187 0 7 (dk_at dksL_law_0 0 rfl rfl)
theorem dL_law_3 : decode cL_law 3 = .ok (.dup, 1) := dk_89 (dk_at dksL_law_0 3 rfl rfl)
theorem dL_law_4 : decode cL_law 4 = .ok (.invokespecial 9, 3) := dk_183 0 9 (dk_at dksL_law_0 4 rfl rfl)
theorem dL_law_7 : decode cL_law 7 = .ok (.astore_n 1, 1) := dk_76 (dk_at dksL_law_0 7 rfl rfl)
theorem dL_law_8 : decode cL_law 8 = .ok (.new 10, 3) := dk_187 0 10 (dk_at dksL_law_0 8 rfl rfl)
theorem dL_law_11 : decode cL_law 11 = .ok (.dup, 1) := dk_89 (dk_at dksL_law_0 11 rfl rfl)
theorem dL_law_12 : decode cL_law 12 = .ok (.invokespecial 12, 3) := dk_183 0 12 (dk_at dksL_law_0 12 rfl rfl)
theorem dL_law_15 : decode cL_law 15 = .ok (.astore_n 2, 1) := dk_77 (dk_at dksL_law_0 15 rfl rfl)
theorem dL_law_16 : decode cL_law 16 = .ok (.iconst 0, 1) := dk_3 (dk_at dksL_law_0 16 rfl rfl)
theorem dL_law_17 : decode cL_law 17 = .ok (.istore_n 3, 1) := dk_62 (dk_at dksL_law_0 17 rfl rfl)
theorem dL_law_18 : decode cL_law 18 = .ok (.iload_n 3, 1) := dk_29 (dk_at dksL_law_0 18 rfl rfl)
theorem dL_law_19 : decode cL_law 19 = .ok (.aload_n 0, 1) := dk_42 (dk_at dksL_law_0 19 rfl rfl)
theorem dL_law_20 : decode cL_law 20 = .ok (.arraylength, 1) := dk_190 (dk_at dksL_law_0 20 rfl rfl)
theorem dL_law_21 : decode cL_law 21 = .ok (.bipush 7, 2) := dk_16 7 (dk_at dksL_law_0 21 rfl rfl)
theorem dL_law_23 : decode cL_law 23 = .ok (.isub, 1) := dk_100 (dk_at dksL_law_0 23 rfl rfl)
theorem dL_law_24 : decode cL_law 24 = .ok (.if_icmp .gt 1438, 3) := dk_163 5 158 (dk_at dksL_law_1 0 rfl rfl)
theorem dL_law_27 : decode cL_law 27 = .ok (.aload_n 0, 1) := dk_42 (dk_at dksL_law_1 3 rfl rfl)
theorem dL_law_28 : decode cL_law 28 = .ok (.iload_n 3, 1) := dk_29 (dk_at dksL_law_1 4 rfl rfl)
theorem dL_law_29 : decode cL_law 29 = .ok (.iaload, 1) := dk_46 (dk_at dksL_law_1 5 rfl rfl)
theorem dL_law_30 : decode cL_law 30 = .ok (.bipush 63, 2) := dk_16 63 (dk_at dksL_law_1 6 rfl rfl)
theorem dL_law_32 : decode cL_law 32 = .ok (.iand, 1) := dk_126 (dk_at dksL_law_1 8 rfl rfl)
theorem dL_law_33 : decode cL_law 33 = .ok (.tableswitch 1423 0 38 #[171, 214, 287, 350, 384, 417, 440, 473, 548, 571, 584, 617, 640, 663, 696, 719, 752, 775, 808, 831, 854, 887, 910, 933, 996, 1029, 1062, 1095, 1108, 1152, 1185, 1239, 1282, 1305, 1328, 1351, 1374, 1387, 1400], 171) := by decide +kernel
theorem dL_law_204 : decode cL_law 204 = .ok (.aload_n 1, 1) := dk_43 (dk_at dksL_law_3 0 rfl rfl)
theorem dL_law_205 : decode cL_law 205 = .ok (.aload_n 0, 1) := dk_42 (dk_at dksL_law_3 1 rfl rfl)
theorem dL_law_206 : decode cL_law 206 = .ok (.iload_n 3, 1) := dk_29 (dk_at dksL_law_3 2 rfl rfl)
theorem dL_law_207 : decode cL_law 207 = .ok (.iconst 1, 1) := dk_4 (dk_at dksL_law_3 3 rfl rfl)
theorem dL_law_208 : decode cL_law 208 = .ok (.iadd, 1) := dk_96 (dk_at dksL_law_3 4 rfl rfl)
theorem dL_law_209 : decode cL_law 209 = .ok (.iaload, 1) := dk_46 (dk_at dksL_law_3 5 rfl rfl)
theorem dL_law_210 : decode cL_law 210 = .ok (.aload_n 0, 1) := dk_42 (dk_at dksL_law_3 6 rfl rfl)
theorem dL_law_211 : decode cL_law 211 = .ok (.iload_n 3, 1) := dk_29 (dk_at dksL_law_3 7 rfl rfl)
theorem dL_law_212 : decode cL_law 212 = .ok (.iconst 2, 1) := dk_5 (dk_at dksL_law_3 8 rfl rfl)
theorem dL_law_213 : decode cL_law 213 = .ok (.iadd, 1) := dk_96 (dk_at dksL_law_3 9 rfl rfl)
theorem dL_law_214 : decode cL_law 214 = .ok (.iaload, 1) := dk_46 (dk_at dksL_law_3 10 rfl rfl)
theorem dL_law_215 : decode cL_law 215 = .ok (.aload_n 0, 1) := dk_42 (dk_at dksL_law_3 11 rfl rfl)
theorem dL_law_216 : decode cL_law 216 = .ok (.iload_n 3, 1) := dk_29 (dk_at dksL_law_3 12 rfl rfl)
theorem dL_law_217 : decode cL_law 217 = .ok (.iconst 3, 1) := dk_6 (dk_at dksL_law_3 13 rfl rfl)
theorem dL_law_218 : decode cL_law 218 = .ok (.iadd, 1) := dk_96 (dk_at dksL_law_3 14 rfl rfl)
theorem dL_law_219 : decode cL_law 219 = .ok (.iaload, 1) := dk_46 (dk_at dksL_law_3 15 rfl rfl)
theorem dL_law_220 : decode cL_law 220 = .ok (.invokevirtual 13, 3) := dk_182 0 13 (dk_at dksL_law_3 16 rfl rfl)
theorem dL_law_223 : decode cL_law 223 = .ok (.aload_n 2, 1) := dk_44 (dk_at dksL_law_3 19 rfl rfl)
theorem dL_law_224 : decode cL_law 224 = .ok (.aload_n 0, 1) := dk_42 (dk_at dksL_law_3 20 rfl rfl)
theorem dL_law_225 : decode cL_law 225 = .ok (.iload_n 3, 1) := dk_29 (dk_at dksL_law_3 21 rfl rfl)
theorem dL_law_226 : decode cL_law 226 = .ok (.iconst 1, 1) := dk_4 (dk_at dksL_law_3 22 rfl rfl)
theorem dL_law_227 : decode cL_law 227 = .ok (.iadd, 1) := dk_96 (dk_at dksL_law_3 23 rfl rfl)
theorem dL_law_228 : decode cL_law 228 = .ok (.iaload, 1) := dk_46 (dk_at dksL_law_4 0 rfl rfl)
theorem dL_law_229 : decode cL_law 229 = .ok (.aload_n 0, 1) := dk_42 (dk_at dksL_law_4 1 rfl rfl)
theorem dL_law_230 : decode cL_law 230 = .ok (.iload_n 3, 1) := dk_29 (dk_at dksL_law_4 2 rfl rfl)
theorem dL_law_231 : decode cL_law 231 = .ok (.iconst 2, 1) := dk_5 (dk_at dksL_law_4 3 rfl rfl)
theorem dL_law_232 : decode cL_law 232 = .ok (.iadd, 1) := dk_96 (dk_at dksL_law_4 4 rfl rfl)
theorem dL_law_233 : decode cL_law 233 = .ok (.iaload, 1) := dk_46 (dk_at dksL_law_4 5 rfl rfl)
theorem dL_law_234 : decode cL_law 234 = .ok (.aload_n 0, 1) := dk_42 (dk_at dksL_law_4 6 rfl rfl)
theorem dL_law_235 : decode cL_law 235 = .ok (.iload_n 3, 1) := dk_29 (dk_at dksL_law_4 7 rfl rfl)
theorem dL_law_236 : decode cL_law 236 = .ok (.iconst 3, 1) := dk_6 (dk_at dksL_law_4 8 rfl rfl)
theorem dL_law_237 : decode cL_law 237 = .ok (.iadd, 1) := dk_96 (dk_at dksL_law_4 9 rfl rfl)
theorem dL_law_238 : decode cL_law 238 = .ok (.iaload, 1) := dk_46 (dk_at dksL_law_4 10 rfl rfl)
theorem dL_law_239 : decode cL_law 239 = .ok (.invokevirtual 17, 3) := dk_182 0 17 (dk_at dksL_law_4 11 rfl rfl)
theorem dL_law_242 : decode cL_law 242 = .ok (.if_icmp .eq 1214, 3) := dk_159 4 190 (dk_at dksL_law_4 14 rfl rfl)
theorem dL_law_245 : decode cL_law 245 = .ok (.iconst 0, 1) := dk_3 (dk_at dksL_law_4 17 rfl rfl)
theorem dL_law_246 : decode cL_law 246 = .ok (.ireturn, 1) := dk_172 (dk_at dksL_law_4 18 rfl rfl)
theorem dL_law_247 : decode cL_law 247 = .ok (.aload_n 1, 1) := dk_43 (dk_at dksL_law_4 19 rfl rfl)
theorem dL_law_248 : decode cL_law 248 = .ok (.aload_n 0, 1) := dk_42 (dk_at dksL_law_4 20 rfl rfl)
theorem dL_law_249 : decode cL_law 249 = .ok (.iload_n 3, 1) := dk_29 (dk_at dksL_law_4 21 rfl rfl)
theorem dL_law_250 : decode cL_law 250 = .ok (.iconst 1, 1) := dk_4 (dk_at dksL_law_4 22 rfl rfl)
theorem dL_law_251 : decode cL_law 251 = .ok (.iadd, 1) := dk_96 (dk_at dksL_law_4 23 rfl rfl)
theorem dL_law_252 : decode cL_law 252 = .ok (.iaload, 1) := dk_46 (dk_at dksL_law_5 0 rfl rfl)
theorem dL_law_253 : decode cL_law 253 = .ok (.aload_n 0, 1) := dk_42 (dk_at dksL_law_5 1 rfl rfl)
theorem dL_law_254 : decode cL_law 254 = .ok (.iload_n 3, 1) := dk_29 (dk_at dksL_law_5 2 rfl rfl)
theorem dL_law_255 : decode cL_law 255 = .ok (.iconst 2, 1) := dk_5 (dk_at dksL_law_5 3 rfl rfl)
theorem dL_law_256 : decode cL_law 256 = .ok (.iadd, 1) := dk_96 (dk_at dksL_law_5 4 rfl rfl)
theorem dL_law_257 : decode cL_law 257 = .ok (.iaload, 1) := dk_46 (dk_at dksL_law_5 5 rfl rfl)
theorem dL_law_258 : decode cL_law 258 = .ok (.aload_n 0, 1) := dk_42 (dk_at dksL_law_5 6 rfl rfl)
theorem dL_law_259 : decode cL_law 259 = .ok (.iload_n 3, 1) := dk_29 (dk_at dksL_law_5 7 rfl rfl)
theorem dL_law_260 : decode cL_law 260 = .ok (.iconst 3, 1) := dk_6 (dk_at dksL_law_5 8 rfl rfl)
theorem dL_law_261 : decode cL_law 261 = .ok (.iadd, 1) := dk_96 (dk_at dksL_law_5 9 rfl rfl)
theorem dL_law_262 : decode cL_law 262 = .ok (.iaload, 1) := dk_46 (dk_at dksL_law_5 10 rfl rfl)
theorem dL_law_263 : decode cL_law 263 = .ok (.i2l, 1) := dk_133 (dk_at dksL_law_5 11 rfl rfl)
theorem dL_law_264 : decode cL_law 264 = .ok (.bipush 32, 2) := dk_16 32 (dk_at dksL_law_5 12 rfl rfl)
theorem dL_law_266 : decode cL_law 266 = .ok (.lshl, 1) := dk_121 (dk_at dksL_law_5 14 rfl rfl)
theorem dL_law_267 : decode cL_law 267 = .ok (.aload_n 0, 1) := dk_42 (dk_at dksL_law_5 15 rfl rfl)
theorem dL_law_268 : decode cL_law 268 = .ok (.iload_n 3, 1) := dk_29 (dk_at dksL_law_5 16 rfl rfl)
theorem dL_law_269 : decode cL_law 269 = .ok (.iconst 4, 1) := dk_7 (dk_at dksL_law_5 17 rfl rfl)
theorem dL_law_270 : decode cL_law 270 = .ok (.iadd, 1) := dk_96 (dk_at dksL_law_5 18 rfl rfl)
theorem dL_law_271 : decode cL_law 271 = .ok (.iaload, 1) := dk_46 (dk_at dksL_law_5 19 rfl rfl)
theorem dL_law_272 : decode cL_law 272 = .ok (.i2l, 1) := dk_133 (dk_at dksL_law_5 20 rfl rfl)
theorem dL_law_273 : decode cL_law 273 = .ok (.ldc2_w 18, 3) := dk_20 0 18 (dk_at dksL_law_5 21 rfl rfl)
theorem dL_law_276 : decode cL_law 276 = .ok (.land, 1) := dk_127 (dk_at dksL_law_6 0 rfl rfl)
theorem dL_law_277 : decode cL_law 277 = .ok (.lor, 1) := dk_129 (dk_at dksL_law_6 1 rfl rfl)
theorem dL_law_278 : decode cL_law 278 = .ok (.invokevirtual 20, 3) := dk_182 0 20 (dk_at dksL_law_6 2 rfl rfl)
theorem dL_law_281 : decode cL_law 281 = .ok (.aload_n 2, 1) := dk_44 (dk_at dksL_law_6 5 rfl rfl)
theorem dL_law_282 : decode cL_law 282 = .ok (.aload_n 0, 1) := dk_42 (dk_at dksL_law_6 6 rfl rfl)
theorem dL_law_283 : decode cL_law 283 = .ok (.iload_n 3, 1) := dk_29 (dk_at dksL_law_6 7 rfl rfl)
theorem dL_law_284 : decode cL_law 284 = .ok (.iconst 1, 1) := dk_4 (dk_at dksL_law_6 8 rfl rfl)
theorem dL_law_285 : decode cL_law 285 = .ok (.iadd, 1) := dk_96 (dk_at dksL_law_6 9 rfl rfl)
theorem dL_law_286 : decode cL_law 286 = .ok (.iaload, 1) := dk_46 (dk_at dksL_law_6 10 rfl rfl)
theorem dL_law_287 : decode cL_law 287 = .ok (.aload_n 0, 1) := dk_42 (dk_at dksL_law_6 11 rfl rfl)
theorem dL_law_288 : decode cL_law 288 = .ok (.iload_n 3, 1) := dk_29 (dk_at dksL_law_6 12 rfl rfl)
theorem dL_law_289 : decode cL_law 289 = .ok (.iconst 2, 1) := dk_5 (dk_at dksL_law_6 13 rfl rfl)
theorem dL_law_290 : decode cL_law 290 = .ok (.iadd, 1) := dk_96 (dk_at dksL_law_6 14 rfl rfl)
theorem dL_law_291 : decode cL_law 291 = .ok (.iaload, 1) := dk_46 (dk_at dksL_law_6 15 rfl rfl)
theorem dL_law_292 : decode cL_law 292 = .ok (.aload_n 0, 1) := dk_42 (dk_at dksL_law_6 16 rfl rfl)
theorem dL_law_293 : decode cL_law 293 = .ok (.iload_n 3, 1) := dk_29 (dk_at dksL_law_6 17 rfl rfl)
theorem dL_law_294 : decode cL_law 294 = .ok (.iconst 3, 1) := dk_6 (dk_at dksL_law_6 18 rfl rfl)
theorem dL_law_295 : decode cL_law 295 = .ok (.iadd, 1) := dk_96 (dk_at dksL_law_6 19 rfl rfl)
theorem dL_law_296 : decode cL_law 296 = .ok (.iaload, 1) := dk_46 (dk_at dksL_law_6 20 rfl rfl)
theorem dL_law_297 : decode cL_law 297 = .ok (.i2l, 1) := dk_133 (dk_at dksL_law_6 21 rfl rfl)
theorem dL_law_298 : decode cL_law 298 = .ok (.bipush 32, 2) := dk_16 32 (dk_at dksL_law_6 22 rfl rfl)
theorem dL_law_300 : decode cL_law 300 = .ok (.lshl, 1) := dk_121 (dk_at dksL_law_7 0 rfl rfl)
theorem dL_law_301 : decode cL_law 301 = .ok (.aload_n 0, 1) := dk_42 (dk_at dksL_law_7 1 rfl rfl)
theorem dL_law_302 : decode cL_law 302 = .ok (.iload_n 3, 1) := dk_29 (dk_at dksL_law_7 2 rfl rfl)
theorem dL_law_303 : decode cL_law 303 = .ok (.iconst 4, 1) := dk_7 (dk_at dksL_law_7 3 rfl rfl)
theorem dL_law_304 : decode cL_law 304 = .ok (.iadd, 1) := dk_96 (dk_at dksL_law_7 4 rfl rfl)
theorem dL_law_305 : decode cL_law 305 = .ok (.iaload, 1) := dk_46 (dk_at dksL_law_7 5 rfl rfl)
theorem dL_law_306 : decode cL_law 306 = .ok (.i2l, 1) := dk_133 (dk_at dksL_law_7 6 rfl rfl)
theorem dL_law_307 : decode cL_law 307 = .ok (.ldc2_w 18, 3) := dk_20 0 18 (dk_at dksL_law_7 7 rfl rfl)
theorem dL_law_310 : decode cL_law 310 = .ok (.land, 1) := dk_127 (dk_at dksL_law_7 10 rfl rfl)
theorem dL_law_311 : decode cL_law 311 = .ok (.lor, 1) := dk_129 (dk_at dksL_law_7 11 rfl rfl)
theorem dL_law_312 : decode cL_law 312 = .ok (.invokevirtual 24, 3) := dk_182 0 24 (dk_at dksL_law_7 12 rfl rfl)
theorem dL_law_315 : decode cL_law 315 = .ok (.if_icmp .eq 1141, 3) := dk_159 4 117 (dk_at dksL_law_7 15 rfl rfl)
theorem dL_law_318 : decode cL_law 318 = .ok (.iconst 0, 1) := dk_3 (dk_at dksL_law_7 18 rfl rfl)
theorem dL_law_319 : decode cL_law 319 = .ok (.ireturn, 1) := dk_172 (dk_at dksL_law_7 19 rfl rfl)
theorem dL_law_320 : decode cL_law 320 = .ok (.aload_n 1, 1) := dk_43 (dk_at dksL_law_7 20 rfl rfl)
theorem dL_law_321 : decode cL_law 321 = .ok (.aload_n 0, 1) := dk_42 (dk_at dksL_law_7 21 rfl rfl)
theorem dL_law_322 : decode cL_law 322 = .ok (.iload_n 3, 1) := dk_29 (dk_at dksL_law_7 22 rfl rfl)
theorem dL_law_323 : decode cL_law 323 = .ok (.iconst 1, 1) := dk_4 (dk_at dksL_law_7 23 rfl rfl)
theorem dL_law_324 : decode cL_law 324 = .ok (.iadd, 1) := dk_96 (dk_at dksL_law_8 0 rfl rfl)
theorem dL_law_325 : decode cL_law 325 = .ok (.iaload, 1) := dk_46 (dk_at dksL_law_8 1 rfl rfl)
theorem dL_law_326 : decode cL_law 326 = .ok (.aload_n 0, 1) := dk_42 (dk_at dksL_law_8 2 rfl rfl)
theorem dL_law_327 : decode cL_law 327 = .ok (.iload_n 3, 1) := dk_29 (dk_at dksL_law_8 3 rfl rfl)
theorem dL_law_328 : decode cL_law 328 = .ok (.iconst 2, 1) := dk_5 (dk_at dksL_law_8 4 rfl rfl)
theorem dL_law_329 : decode cL_law 329 = .ok (.iadd, 1) := dk_96 (dk_at dksL_law_8 5 rfl rfl)
theorem dL_law_330 : decode cL_law 330 = .ok (.iaload, 1) := dk_46 (dk_at dksL_law_8 6 rfl rfl)
theorem dL_law_331 : decode cL_law 331 = .ok (.aload_n 0, 1) := dk_42 (dk_at dksL_law_8 7 rfl rfl)
theorem dL_law_332 : decode cL_law 332 = .ok (.iload_n 3, 1) := dk_29 (dk_at dksL_law_8 8 rfl rfl)
theorem dL_law_333 : decode cL_law 333 = .ok (.iconst 3, 1) := dk_6 (dk_at dksL_law_8 9 rfl rfl)
theorem dL_law_334 : decode cL_law 334 = .ok (.iadd, 1) := dk_96 (dk_at dksL_law_8 10 rfl rfl)
theorem dL_law_335 : decode cL_law 335 = .ok (.iaload, 1) := dk_46 (dk_at dksL_law_8 11 rfl rfl)
theorem dL_law_336 : decode cL_law 336 = .ok (.aload_n 0, 1) := dk_42 (dk_at dksL_law_8 12 rfl rfl)
theorem dL_law_337 : decode cL_law 337 = .ok (.iload_n 3, 1) := dk_29 (dk_at dksL_law_8 13 rfl rfl)
theorem dL_law_338 : decode cL_law 338 = .ok (.iconst 4, 1) := dk_7 (dk_at dksL_law_8 14 rfl rfl)
theorem dL_law_339 : decode cL_law 339 = .ok (.iadd, 1) := dk_96 (dk_at dksL_law_8 15 rfl rfl)
theorem dL_law_340 : decode cL_law 340 = .ok (.iaload, 1) := dk_46 (dk_at dksL_law_8 16 rfl rfl)
theorem dL_law_341 : decode cL_law 341 = .ok (.aload_n 0, 1) := dk_42 (dk_at dksL_law_8 17 rfl rfl)
theorem dL_law_342 : decode cL_law 342 = .ok (.iload_n 3, 1) := dk_29 (dk_at dksL_law_8 18 rfl rfl)
theorem dL_law_343 : decode cL_law 343 = .ok (.iconst 5, 1) := dk_8 (dk_at dksL_law_8 19 rfl rfl)
theorem dL_law_344 : decode cL_law 344 = .ok (.iadd, 1) := dk_96 (dk_at dksL_law_8 20 rfl rfl)
theorem dL_law_345 : decode cL_law 345 = .ok (.iaload, 1) := dk_46 (dk_at dksL_law_8 21 rfl rfl)
theorem dL_law_346 : decode cL_law 346 = .ok (.invokevirtual 25, 3) := dk_182 0 25 (dk_at dksL_law_9 0 rfl rfl)
theorem dL_law_349 : decode cL_law 349 = .ok (.aload_n 2, 1) := dk_44 (dk_at dksL_law_9 3 rfl rfl)
theorem dL_law_350 : decode cL_law 350 = .ok (.aload_n 0, 1) := dk_42 (dk_at dksL_law_9 4 rfl rfl)
theorem dL_law_351 : decode cL_law 351 = .ok (.iload_n 3, 1) := dk_29 (dk_at dksL_law_9 5 rfl rfl)
theorem dL_law_352 : decode cL_law 352 = .ok (.iconst 1, 1) := dk_4 (dk_at dksL_law_9 6 rfl rfl)
theorem dL_law_353 : decode cL_law 353 = .ok (.iadd, 1) := dk_96 (dk_at dksL_law_9 7 rfl rfl)
theorem dL_law_354 : decode cL_law 354 = .ok (.iaload, 1) := dk_46 (dk_at dksL_law_9 8 rfl rfl)
theorem dL_law_355 : decode cL_law 355 = .ok (.aload_n 0, 1) := dk_42 (dk_at dksL_law_9 9 rfl rfl)
theorem dL_law_356 : decode cL_law 356 = .ok (.iload_n 3, 1) := dk_29 (dk_at dksL_law_9 10 rfl rfl)
theorem dL_law_357 : decode cL_law 357 = .ok (.iconst 2, 1) := dk_5 (dk_at dksL_law_9 11 rfl rfl)
theorem dL_law_358 : decode cL_law 358 = .ok (.iadd, 1) := dk_96 (dk_at dksL_law_9 12 rfl rfl)
theorem dL_law_359 : decode cL_law 359 = .ok (.iaload, 1) := dk_46 (dk_at dksL_law_9 13 rfl rfl)
theorem dL_law_360 : decode cL_law 360 = .ok (.aload_n 0, 1) := dk_42 (dk_at dksL_law_9 14 rfl rfl)
theorem dL_law_361 : decode cL_law 361 = .ok (.iload_n 3, 1) := dk_29 (dk_at dksL_law_9 15 rfl rfl)
theorem dL_law_362 : decode cL_law 362 = .ok (.iconst 3, 1) := dk_6 (dk_at dksL_law_9 16 rfl rfl)
theorem dL_law_363 : decode cL_law 363 = .ok (.iadd, 1) := dk_96 (dk_at dksL_law_9 17 rfl rfl)
theorem dL_law_364 : decode cL_law 364 = .ok (.iaload, 1) := dk_46 (dk_at dksL_law_9 18 rfl rfl)
theorem dL_law_365 : decode cL_law 365 = .ok (.aload_n 0, 1) := dk_42 (dk_at dksL_law_9 19 rfl rfl)
theorem dL_law_366 : decode cL_law 366 = .ok (.iload_n 3, 1) := dk_29 (dk_at dksL_law_9 20 rfl rfl)
theorem dL_law_367 : decode cL_law 367 = .ok (.iconst 4, 1) := dk_7 (dk_at dksL_law_9 21 rfl rfl)
theorem dL_law_368 : decode cL_law 368 = .ok (.iadd, 1) := dk_96 (dk_at dksL_law_9 22 rfl rfl)
theorem dL_law_369 : decode cL_law 369 = .ok (.iaload, 1) := dk_46 (dk_at dksL_law_9 23 rfl rfl)
theorem dL_law_370 : decode cL_law 370 = .ok (.aload_n 0, 1) := dk_42 (dk_at dksL_law_10 0 rfl rfl)
theorem dL_law_371 : decode cL_law 371 = .ok (.iload_n 3, 1) := dk_29 (dk_at dksL_law_10 1 rfl rfl)
theorem dL_law_372 : decode cL_law 372 = .ok (.iconst 5, 1) := dk_8 (dk_at dksL_law_10 2 rfl rfl)
theorem dL_law_373 : decode cL_law 373 = .ok (.iadd, 1) := dk_96 (dk_at dksL_law_10 3 rfl rfl)
theorem dL_law_374 : decode cL_law 374 = .ok (.iaload, 1) := dk_46 (dk_at dksL_law_10 4 rfl rfl)
theorem dL_law_375 : decode cL_law 375 = .ok (.invokevirtual 29, 3) := dk_182 0 29 (dk_at dksL_law_10 5 rfl rfl)
theorem dL_law_378 : decode cL_law 378 = .ok (.if_icmp .eq 1078, 3) := dk_159 4 54 (dk_at dksL_law_10 8 rfl rfl)
theorem dL_law_381 : decode cL_law 381 = .ok (.iconst 0, 1) := dk_3 (dk_at dksL_law_10 11 rfl rfl)
theorem dL_law_382 : decode cL_law 382 = .ok (.ireturn, 1) := dk_172 (dk_at dksL_law_10 12 rfl rfl)
theorem dL_law_383 : decode cL_law 383 = .ok (.aload_n 1, 1) := dk_43 (dk_at dksL_law_10 13 rfl rfl)
theorem dL_law_384 : decode cL_law 384 = .ok (.aload_n 0, 1) := dk_42 (dk_at dksL_law_10 14 rfl rfl)
theorem dL_law_385 : decode cL_law 385 = .ok (.iload_n 3, 1) := dk_29 (dk_at dksL_law_10 15 rfl rfl)
theorem dL_law_386 : decode cL_law 386 = .ok (.iconst 1, 1) := dk_4 (dk_at dksL_law_10 16 rfl rfl)
theorem dL_law_387 : decode cL_law 387 = .ok (.iadd, 1) := dk_96 (dk_at dksL_law_10 17 rfl rfl)
theorem dL_law_388 : decode cL_law 388 = .ok (.iaload, 1) := dk_46 (dk_at dksL_law_10 18 rfl rfl)
theorem dL_law_389 : decode cL_law 389 = .ok (.aload_n 0, 1) := dk_42 (dk_at dksL_law_10 19 rfl rfl)
theorem dL_law_390 : decode cL_law 390 = .ok (.iload_n 3, 1) := dk_29 (dk_at dksL_law_10 20 rfl rfl)
theorem dL_law_391 : decode cL_law 391 = .ok (.iconst 2, 1) := dk_5 (dk_at dksL_law_10 21 rfl rfl)
theorem dL_law_392 : decode cL_law 392 = .ok (.iadd, 1) := dk_96 (dk_at dksL_law_10 22 rfl rfl)
theorem dL_law_393 : decode cL_law 393 = .ok (.iaload, 1) := dk_46 (dk_at dksL_law_10 23 rfl rfl)
theorem dL_law_394 : decode cL_law 394 = .ok (.invokevirtual 30, 3) := dk_182 0 30 (dk_at dksL_law_11 0 rfl rfl)
theorem dL_law_397 : decode cL_law 397 = .ok (.aload_n 2, 1) := dk_44 (dk_at dksL_law_11 3 rfl rfl)
theorem dL_law_398 : decode cL_law 398 = .ok (.aload_n 0, 1) := dk_42 (dk_at dksL_law_11 4 rfl rfl)
theorem dL_law_399 : decode cL_law 399 = .ok (.iload_n 3, 1) := dk_29 (dk_at dksL_law_11 5 rfl rfl)
theorem dL_law_400 : decode cL_law 400 = .ok (.iconst 1, 1) := dk_4 (dk_at dksL_law_11 6 rfl rfl)
theorem dL_law_401 : decode cL_law 401 = .ok (.iadd, 1) := dk_96 (dk_at dksL_law_11 7 rfl rfl)
theorem dL_law_402 : decode cL_law 402 = .ok (.iaload, 1) := dk_46 (dk_at dksL_law_11 8 rfl rfl)
theorem dL_law_403 : decode cL_law 403 = .ok (.aload_n 0, 1) := dk_42 (dk_at dksL_law_11 9 rfl rfl)
theorem dL_law_404 : decode cL_law 404 = .ok (.iload_n 3, 1) := dk_29 (dk_at dksL_law_11 10 rfl rfl)
theorem dL_law_405 : decode cL_law 405 = .ok (.iconst 2, 1) := dk_5 (dk_at dksL_law_11 11 rfl rfl)
theorem dL_law_406 : decode cL_law 406 = .ok (.iadd, 1) := dk_96 (dk_at dksL_law_11 12 rfl rfl)
theorem dL_law_407 : decode cL_law 407 = .ok (.iaload, 1) := dk_46 (dk_at dksL_law_11 13 rfl rfl)
theorem dL_law_408 : decode cL_law 408 = .ok (.invokevirtual 34, 3) := dk_182 0 34 (dk_at dksL_law_11 14 rfl rfl)
theorem dL_law_411 : decode cL_law 411 = .ok (.lcmp, 1) := dk_148 (dk_at dksL_law_11 17 rfl rfl)
theorem dL_law_412 : decode cL_law 412 = .ok (.ifCond .eq 1044, 3) := dk_153 4 20 (dk_at dksL_law_11 18 rfl rfl)
theorem dL_law_415 : decode cL_law 415 = .ok (.iconst 0, 1) := dk_3 (dk_at dksL_law_11 21 rfl rfl)
theorem dL_law_416 : decode cL_law 416 = .ok (.ireturn, 1) := dk_172 (dk_at dksL_law_11 22 rfl rfl)
theorem dL_law_417 : decode cL_law 417 = .ok (.aload_n 1, 1) := dk_43 (dk_at dksL_law_11 23 rfl rfl)
theorem dL_law_418 : decode cL_law 418 = .ok (.aload_n 0, 1) := dk_42 (dk_at dksL_law_12 0 rfl rfl)
theorem dL_law_419 : decode cL_law 419 = .ok (.iload_n 3, 1) := dk_29 (dk_at dksL_law_12 1 rfl rfl)
theorem dL_law_420 : decode cL_law 420 = .ok (.iconst 1, 1) := dk_4 (dk_at dksL_law_12 2 rfl rfl)
theorem dL_law_421 : decode cL_law 421 = .ok (.iadd, 1) := dk_96 (dk_at dksL_law_12 3 rfl rfl)
theorem dL_law_422 : decode cL_law 422 = .ok (.iaload, 1) := dk_46 (dk_at dksL_law_12 4 rfl rfl)
theorem dL_law_423 : decode cL_law 423 = .ok (.aload_n 0, 1) := dk_42 (dk_at dksL_law_12 5 rfl rfl)
theorem dL_law_424 : decode cL_law 424 = .ok (.iload_n 3, 1) := dk_29 (dk_at dksL_law_12 6 rfl rfl)
theorem dL_law_425 : decode cL_law 425 = .ok (.iconst 2, 1) := dk_5 (dk_at dksL_law_12 7 rfl rfl)
theorem dL_law_426 : decode cL_law 426 = .ok (.iadd, 1) := dk_96 (dk_at dksL_law_12 8 rfl rfl)
theorem dL_law_427 : decode cL_law 427 = .ok (.iaload, 1) := dk_46 (dk_at dksL_law_12 9 rfl rfl)
theorem dL_law_428 : decode cL_law 428 = .ok (.invokevirtual 35, 3) := dk_182 0 35 (dk_at dksL_law_12 10 rfl rfl)
theorem dL_law_431 : decode cL_law 431 = .ok (.aload_n 2, 1) := dk_44 (dk_at dksL_law_12 13 rfl rfl)
theorem dL_law_432 : decode cL_law 432 = .ok (.aload_n 0, 1) := dk_42 (dk_at dksL_law_12 14 rfl rfl)
theorem dL_law_433 : decode cL_law 433 = .ok (.iload_n 3, 1) := dk_29 (dk_at dksL_law_12 15 rfl rfl)
theorem dL_law_434 : decode cL_law 434 = .ok (.iconst 1, 1) := dk_4 (dk_at dksL_law_12 16 rfl rfl)
theorem dL_law_435 : decode cL_law 435 = .ok (.iadd, 1) := dk_96 (dk_at dksL_law_12 17 rfl rfl)
theorem dL_law_436 : decode cL_law 436 = .ok (.iaload, 1) := dk_46 (dk_at dksL_law_12 18 rfl rfl)
theorem dL_law_437 : decode cL_law 437 = .ok (.aload_n 0, 1) := dk_42 (dk_at dksL_law_12 19 rfl rfl)
theorem dL_law_438 : decode cL_law 438 = .ok (.iload_n 3, 1) := dk_29 (dk_at dksL_law_12 20 rfl rfl)
theorem dL_law_439 : decode cL_law 439 = .ok (.iconst 2, 1) := dk_5 (dk_at dksL_law_12 21 rfl rfl)
theorem dL_law_440 : decode cL_law 440 = .ok (.iadd, 1) := dk_96 (dk_at dksL_law_12 22 rfl rfl)
theorem dL_law_441 : decode cL_law 441 = .ok (.iaload, 1) := dk_46 (dk_at dksL_law_12 23 rfl rfl)
theorem dL_law_442 : decode cL_law 442 = .ok (.invokevirtual 39, 3) := dk_182 0 39 (dk_at dksL_law_13 0 rfl rfl)
theorem dL_law_445 : decode cL_law 445 = .ok (.if_icmp .eq 1011, 3) := dk_159 3 243 (dk_at dksL_law_13 3 rfl rfl)
theorem dL_law_448 : decode cL_law 448 = .ok (.iconst 0, 1) := dk_3 (dk_at dksL_law_13 6 rfl rfl)
theorem dL_law_449 : decode cL_law 449 = .ok (.ireturn, 1) := dk_172 (dk_at dksL_law_13 7 rfl rfl)
theorem dL_law_450 : decode cL_law 450 = .ok (.aload_n 1, 1) := dk_43 (dk_at dksL_law_13 8 rfl rfl)
theorem dL_law_451 : decode cL_law 451 = .ok (.aload_n 0, 1) := dk_42 (dk_at dksL_law_13 9 rfl rfl)
theorem dL_law_452 : decode cL_law 452 = .ok (.iload_n 3, 1) := dk_29 (dk_at dksL_law_13 10 rfl rfl)
theorem dL_law_453 : decode cL_law 453 = .ok (.iconst 1, 1) := dk_4 (dk_at dksL_law_13 11 rfl rfl)
theorem dL_law_454 : decode cL_law 454 = .ok (.iadd, 1) := dk_96 (dk_at dksL_law_13 12 rfl rfl)
theorem dL_law_455 : decode cL_law 455 = .ok (.iaload, 1) := dk_46 (dk_at dksL_law_13 13 rfl rfl)
theorem dL_law_456 : decode cL_law 456 = .ok (.invokevirtual 40, 3) := dk_182 0 40 (dk_at dksL_law_13 14 rfl rfl)
theorem dL_law_459 : decode cL_law 459 = .ok (.aload_n 2, 1) := dk_44 (dk_at dksL_law_13 17 rfl rfl)
theorem dL_law_460 : decode cL_law 460 = .ok (.aload_n 0, 1) := dk_42 (dk_at dksL_law_13 18 rfl rfl)
theorem dL_law_461 : decode cL_law 461 = .ok (.iload_n 3, 1) := dk_29 (dk_at dksL_law_13 19 rfl rfl)
theorem dL_law_462 : decode cL_law 462 = .ok (.iconst 1, 1) := dk_4 (dk_at dksL_law_13 20 rfl rfl)
theorem dL_law_463 : decode cL_law 463 = .ok (.iadd, 1) := dk_96 (dk_at dksL_law_13 21 rfl rfl)
theorem dL_law_464 : decode cL_law 464 = .ok (.iaload, 1) := dk_46 (dk_at dksL_law_13 22 rfl rfl)
theorem dL_law_465 : decode cL_law 465 = .ok (.invokevirtual 44, 3) := dk_182 0 44 (dk_at dksL_law_14 0 rfl rfl)
theorem dL_law_468 : decode cL_law 468 = .ok (.if_icmp .eq 988, 3) := dk_159 3 220 (dk_at dksL_law_14 3 rfl rfl)
theorem dL_law_471 : decode cL_law 471 = .ok (.iconst 0, 1) := dk_3 (dk_at dksL_law_14 6 rfl rfl)
theorem dL_law_472 : decode cL_law 472 = .ok (.ireturn, 1) := dk_172 (dk_at dksL_law_14 7 rfl rfl)
theorem dL_law_473 : decode cL_law 473 = .ok (.aload_n 1, 1) := dk_43 (dk_at dksL_law_14 8 rfl rfl)
theorem dL_law_474 : decode cL_law 474 = .ok (.aload_n 0, 1) := dk_42 (dk_at dksL_law_14 9 rfl rfl)
theorem dL_law_475 : decode cL_law 475 = .ok (.iload_n 3, 1) := dk_29 (dk_at dksL_law_14 10 rfl rfl)
theorem dL_law_476 : decode cL_law 476 = .ok (.iconst 1, 1) := dk_4 (dk_at dksL_law_14 11 rfl rfl)
theorem dL_law_477 : decode cL_law 477 = .ok (.iadd, 1) := dk_96 (dk_at dksL_law_14 12 rfl rfl)
theorem dL_law_478 : decode cL_law 478 = .ok (.iaload, 1) := dk_46 (dk_at dksL_law_14 13 rfl rfl)
theorem dL_law_479 : decode cL_law 479 = .ok (.aload_n 0, 1) := dk_42 (dk_at dksL_law_14 14 rfl rfl)
theorem dL_law_480 : decode cL_law 480 = .ok (.iload_n 3, 1) := dk_29 (dk_at dksL_law_14 15 rfl rfl)
theorem dL_law_481 : decode cL_law 481 = .ok (.iconst 2, 1) := dk_5 (dk_at dksL_law_14 16 rfl rfl)
theorem dL_law_482 : decode cL_law 482 = .ok (.iadd, 1) := dk_96 (dk_at dksL_law_14 17 rfl rfl)
theorem dL_law_483 : decode cL_law 483 = .ok (.iaload, 1) := dk_46 (dk_at dksL_law_14 18 rfl rfl)
theorem dL_law_484 : decode cL_law 484 = .ok (.invokevirtual 45, 3) := dk_182 0 45 (dk_at dksL_law_14 19 rfl rfl)
theorem dL_law_487 : decode cL_law 487 = .ok (.aload_n 2, 1) := dk_44 (dk_at dksL_law_14 22 rfl rfl)
theorem dL_law_488 : decode cL_law 488 = .ok (.aload_n 0, 1) := dk_42 (dk_at dksL_law_14 23 rfl rfl)
theorem dL_law_489 : decode cL_law 489 = .ok (.iload_n 3, 1) := dk_29 (dk_at dksL_law_15 0 rfl rfl)
theorem dL_law_490 : decode cL_law 490 = .ok (.iconst 1, 1) := dk_4 (dk_at dksL_law_15 1 rfl rfl)
theorem dL_law_491 : decode cL_law 491 = .ok (.iadd, 1) := dk_96 (dk_at dksL_law_15 2 rfl rfl)
theorem dL_law_492 : decode cL_law 492 = .ok (.iaload, 1) := dk_46 (dk_at dksL_law_15 3 rfl rfl)
theorem dL_law_493 : decode cL_law 493 = .ok (.aload_n 0, 1) := dk_42 (dk_at dksL_law_15 4 rfl rfl)
theorem dL_law_494 : decode cL_law 494 = .ok (.iload_n 3, 1) := dk_29 (dk_at dksL_law_15 5 rfl rfl)
theorem dL_law_495 : decode cL_law 495 = .ok (.iconst 2, 1) := dk_5 (dk_at dksL_law_15 6 rfl rfl)
theorem dL_law_496 : decode cL_law 496 = .ok (.iadd, 1) := dk_96 (dk_at dksL_law_15 7 rfl rfl)
theorem dL_law_497 : decode cL_law 497 = .ok (.iaload, 1) := dk_46 (dk_at dksL_law_15 8 rfl rfl)
theorem dL_law_498 : decode cL_law 498 = .ok (.invokevirtual 48, 3) := dk_182 0 48 (dk_at dksL_law_15 9 rfl rfl)
theorem dL_law_501 : decode cL_law 501 = .ok (.if_icmp .eq 955, 3) := dk_159 3 187 (dk_at dksL_law_15 12 rfl rfl)
theorem dL_law_504 : decode cL_law 504 = .ok (.iconst 0, 1) := dk_3 (dk_at dksL_law_15 15 rfl rfl)
theorem dL_law_505 : decode cL_law 505 = .ok (.ireturn, 1) := dk_172 (dk_at dksL_law_15 16 rfl rfl)
theorem dL_law_506 : decode cL_law 506 = .ok (.aload_n 1, 1) := dk_43 (dk_at dksL_law_15 17 rfl rfl)
theorem dL_law_507 : decode cL_law 507 = .ok (.aload_n 0, 1) := dk_42 (dk_at dksL_law_15 18 rfl rfl)
theorem dL_law_508 : decode cL_law 508 = .ok (.iload_n 3, 1) := dk_29 (dk_at dksL_law_15 19 rfl rfl)
theorem dL_law_509 : decode cL_law 509 = .ok (.iconst 1, 1) := dk_4 (dk_at dksL_law_15 20 rfl rfl)
theorem dL_law_510 : decode cL_law 510 = .ok (.iadd, 1) := dk_96 (dk_at dksL_law_15 21 rfl rfl)
theorem dL_law_511 : decode cL_law 511 = .ok (.iaload, 1) := dk_46 (dk_at dksL_law_15 22 rfl rfl)
theorem dL_law_512 : decode cL_law 512 = .ok (.aload_n 0, 1) := dk_42 (dk_at dksL_law_15 23 rfl rfl)
theorem dL_law_513 : decode cL_law 513 = .ok (.iload_n 3, 1) := dk_29 (dk_at dksL_law_16 0 rfl rfl)
theorem dL_law_514 : decode cL_law 514 = .ok (.iconst 2, 1) := dk_5 (dk_at dksL_law_16 1 rfl rfl)
theorem dL_law_515 : decode cL_law 515 = .ok (.iadd, 1) := dk_96 (dk_at dksL_law_16 2 rfl rfl)
theorem dL_law_516 : decode cL_law 516 = .ok (.iaload, 1) := dk_46 (dk_at dksL_law_16 3 rfl rfl)
theorem dL_law_517 : decode cL_law 517 = .ok (.aload_n 0, 1) := dk_42 (dk_at dksL_law_16 4 rfl rfl)
theorem dL_law_518 : decode cL_law 518 = .ok (.iload_n 3, 1) := dk_29 (dk_at dksL_law_16 5 rfl rfl)
theorem dL_law_519 : decode cL_law 519 = .ok (.iconst 3, 1) := dk_6 (dk_at dksL_law_16 6 rfl rfl)
theorem dL_law_520 : decode cL_law 520 = .ok (.iadd, 1) := dk_96 (dk_at dksL_law_16 7 rfl rfl)
theorem dL_law_521 : decode cL_law 521 = .ok (.iaload, 1) := dk_46 (dk_at dksL_law_16 8 rfl rfl)
theorem dL_law_522 : decode cL_law 522 = .ok (.aload_n 0, 1) := dk_42 (dk_at dksL_law_16 9 rfl rfl)
theorem dL_law_523 : decode cL_law 523 = .ok (.iload_n 3, 1) := dk_29 (dk_at dksL_law_16 10 rfl rfl)
theorem dL_law_524 : decode cL_law 524 = .ok (.iconst 4, 1) := dk_7 (dk_at dksL_law_16 11 rfl rfl)
theorem dL_law_525 : decode cL_law 525 = .ok (.iadd, 1) := dk_96 (dk_at dksL_law_16 12 rfl rfl)
theorem dL_law_526 : decode cL_law 526 = .ok (.iaload, 1) := dk_46 (dk_at dksL_law_16 13 rfl rfl)
theorem dL_law_527 : decode cL_law 527 = .ok (.aload_n 0, 1) := dk_42 (dk_at dksL_law_16 14 rfl rfl)
theorem dL_law_528 : decode cL_law 528 = .ok (.iload_n 3, 1) := dk_29 (dk_at dksL_law_16 15 rfl rfl)
theorem dL_law_529 : decode cL_law 529 = .ok (.iconst 5, 1) := dk_8 (dk_at dksL_law_16 16 rfl rfl)
theorem dL_law_530 : decode cL_law 530 = .ok (.iadd, 1) := dk_96 (dk_at dksL_law_16 17 rfl rfl)
theorem dL_law_531 : decode cL_law 531 = .ok (.iaload, 1) := dk_46 (dk_at dksL_law_16 18 rfl rfl)
theorem dL_law_532 : decode cL_law 532 = .ok (.aload_n 0, 1) := dk_42 (dk_at dksL_law_16 19 rfl rfl)
theorem dL_law_533 : decode cL_law 533 = .ok (.iload_n 3, 1) := dk_29 (dk_at dksL_law_16 20 rfl rfl)
theorem dL_law_534 : decode cL_law 534 = .ok (.bipush 6, 2) := dk_16 6 (dk_at dksL_law_16 21 rfl rfl)
theorem dL_law_536 : decode cL_law 536 = .ok (.iadd, 1) := dk_96 (dk_at dksL_law_16 23 rfl rfl)
theorem dL_law_537 : decode cL_law 537 = .ok (.iaload, 1) := dk_46 (dk_at dksL_law_17 0 rfl rfl)
theorem dL_law_538 : decode cL_law 538 = .ok (.invokevirtual 49, 3) := dk_182 0 49 (dk_at dksL_law_17 1 rfl rfl)
theorem dL_law_541 : decode cL_law 541 = .ok (.aload_n 2, 1) := dk_44 (dk_at dksL_law_17 4 rfl rfl)
theorem dL_law_542 : decode cL_law 542 = .ok (.aload_n 0, 1) := dk_42 (dk_at dksL_law_17 5 rfl rfl)
theorem dL_law_543 : decode cL_law 543 = .ok (.iload_n 3, 1) := dk_29 (dk_at dksL_law_17 6 rfl rfl)
theorem dL_law_544 : decode cL_law 544 = .ok (.iconst 1, 1) := dk_4 (dk_at dksL_law_17 7 rfl rfl)
theorem dL_law_545 : decode cL_law 545 = .ok (.iadd, 1) := dk_96 (dk_at dksL_law_17 8 rfl rfl)
theorem dL_law_546 : decode cL_law 546 = .ok (.iaload, 1) := dk_46 (dk_at dksL_law_17 9 rfl rfl)
theorem dL_law_547 : decode cL_law 547 = .ok (.aload_n 0, 1) := dk_42 (dk_at dksL_law_17 10 rfl rfl)
theorem dL_law_548 : decode cL_law 548 = .ok (.iload_n 3, 1) := dk_29 (dk_at dksL_law_17 11 rfl rfl)
theorem dL_law_549 : decode cL_law 549 = .ok (.iconst 2, 1) := dk_5 (dk_at dksL_law_17 12 rfl rfl)
theorem dL_law_550 : decode cL_law 550 = .ok (.iadd, 1) := dk_96 (dk_at dksL_law_17 13 rfl rfl)
theorem dL_law_551 : decode cL_law 551 = .ok (.iaload, 1) := dk_46 (dk_at dksL_law_17 14 rfl rfl)
theorem dL_law_552 : decode cL_law 552 = .ok (.aload_n 0, 1) := dk_42 (dk_at dksL_law_17 15 rfl rfl)
theorem dL_law_553 : decode cL_law 553 = .ok (.iload_n 3, 1) := dk_29 (dk_at dksL_law_17 16 rfl rfl)
theorem dL_law_554 : decode cL_law 554 = .ok (.iconst 3, 1) := dk_6 (dk_at dksL_law_17 17 rfl rfl)
theorem dL_law_555 : decode cL_law 555 = .ok (.iadd, 1) := dk_96 (dk_at dksL_law_17 18 rfl rfl)
theorem dL_law_556 : decode cL_law 556 = .ok (.iaload, 1) := dk_46 (dk_at dksL_law_17 19 rfl rfl)
theorem dL_law_557 : decode cL_law 557 = .ok (.aload_n 0, 1) := dk_42 (dk_at dksL_law_17 20 rfl rfl)
theorem dL_law_558 : decode cL_law 558 = .ok (.iload_n 3, 1) := dk_29 (dk_at dksL_law_17 21 rfl rfl)
theorem dL_law_559 : decode cL_law 559 = .ok (.iconst 4, 1) := dk_7 (dk_at dksL_law_17 22 rfl rfl)
theorem dL_law_560 : decode cL_law 560 = .ok (.iadd, 1) := dk_96 (dk_at dksL_law_17 23 rfl rfl)
theorem dL_law_561 : decode cL_law 561 = .ok (.iaload, 1) := dk_46 (dk_at dksL_law_18 0 rfl rfl)
theorem dL_law_562 : decode cL_law 562 = .ok (.aload_n 0, 1) := dk_42 (dk_at dksL_law_18 1 rfl rfl)
theorem dL_law_563 : decode cL_law 563 = .ok (.iload_n 3, 1) := dk_29 (dk_at dksL_law_18 2 rfl rfl)
theorem dL_law_564 : decode cL_law 564 = .ok (.iconst 5, 1) := dk_8 (dk_at dksL_law_18 3 rfl rfl)
theorem dL_law_565 : decode cL_law 565 = .ok (.iadd, 1) := dk_96 (dk_at dksL_law_18 4 rfl rfl)
theorem dL_law_566 : decode cL_law 566 = .ok (.iaload, 1) := dk_46 (dk_at dksL_law_18 5 rfl rfl)
theorem dL_law_567 : decode cL_law 567 = .ok (.aload_n 0, 1) := dk_42 (dk_at dksL_law_18 6 rfl rfl)
theorem dL_law_568 : decode cL_law 568 = .ok (.iload_n 3, 1) := dk_29 (dk_at dksL_law_18 7 rfl rfl)
theorem dL_law_569 : decode cL_law 569 = .ok (.bipush 6, 2) := dk_16 6 (dk_at dksL_law_18 8 rfl rfl)
theorem dL_law_571 : decode cL_law 571 = .ok (.iadd, 1) := dk_96 (dk_at dksL_law_18 10 rfl rfl)
theorem dL_law_572 : decode cL_law 572 = .ok (.iaload, 1) := dk_46 (dk_at dksL_law_18 11 rfl rfl)
theorem dL_law_573 : decode cL_law 573 = .ok (.invokevirtual 53, 3) := dk_182 0 53 (dk_at dksL_law_18 12 rfl rfl)
theorem dL_law_576 : decode cL_law 576 = .ok (.if_icmp .eq 880, 3) := dk_159 3 112 (dk_at dksL_law_18 15 rfl rfl)
theorem dL_law_579 : decode cL_law 579 = .ok (.iconst 0, 1) := dk_3 (dk_at dksL_law_18 18 rfl rfl)
theorem dL_law_580 : decode cL_law 580 = .ok (.ireturn, 1) := dk_172 (dk_at dksL_law_18 19 rfl rfl)
theorem dL_law_581 : decode cL_law 581 = .ok (.aload_n 1, 1) := dk_43 (dk_at dksL_law_18 20 rfl rfl)
theorem dL_law_582 : decode cL_law 582 = .ok (.aload_n 0, 1) := dk_42 (dk_at dksL_law_18 21 rfl rfl)
theorem dL_law_583 : decode cL_law 583 = .ok (.iload_n 3, 1) := dk_29 (dk_at dksL_law_18 22 rfl rfl)
theorem dL_law_584 : decode cL_law 584 = .ok (.iconst 1, 1) := dk_4 (dk_at dksL_law_18 23 rfl rfl)
theorem dL_law_585 : decode cL_law 585 = .ok (.iadd, 1) := dk_96 (dk_at dksL_law_19 0 rfl rfl)
theorem dL_law_586 : decode cL_law 586 = .ok (.iaload, 1) := dk_46 (dk_at dksL_law_19 1 rfl rfl)
theorem dL_law_587 : decode cL_law 587 = .ok (.invokevirtual 54, 3) := dk_182 0 54 (dk_at dksL_law_19 2 rfl rfl)
theorem dL_law_590 : decode cL_law 590 = .ok (.aload_n 2, 1) := dk_44 (dk_at dksL_law_19 5 rfl rfl)
theorem dL_law_591 : decode cL_law 591 = .ok (.aload_n 0, 1) := dk_42 (dk_at dksL_law_19 6 rfl rfl)
theorem dL_law_592 : decode cL_law 592 = .ok (.iload_n 3, 1) := dk_29 (dk_at dksL_law_19 7 rfl rfl)
theorem dL_law_593 : decode cL_law 593 = .ok (.iconst 1, 1) := dk_4 (dk_at dksL_law_19 8 rfl rfl)
theorem dL_law_594 : decode cL_law 594 = .ok (.iadd, 1) := dk_96 (dk_at dksL_law_19 9 rfl rfl)
theorem dL_law_595 : decode cL_law 595 = .ok (.iaload, 1) := dk_46 (dk_at dksL_law_19 10 rfl rfl)
theorem dL_law_596 : decode cL_law 596 = .ok (.invokevirtual 57, 3) := dk_182 0 57 (dk_at dksL_law_19 11 rfl rfl)
theorem dL_law_599 : decode cL_law 599 = .ok (.if_icmp .eq 857, 3) := dk_159 3 89 (dk_at dksL_law_19 14 rfl rfl)
theorem dL_law_602 : decode cL_law 602 = .ok (.iconst 0, 1) := dk_3 (dk_at dksL_law_19 17 rfl rfl)
theorem dL_law_603 : decode cL_law 603 = .ok (.ireturn, 1) := dk_172 (dk_at dksL_law_19 18 rfl rfl)
theorem dL_law_604 : decode cL_law 604 = .ok (.aload_n 1, 1) := dk_43 (dk_at dksL_law_19 19 rfl rfl)
theorem dL_law_605 : decode cL_law 605 = .ok (.invokevirtual 58, 3) := dk_182 0 58 (dk_at dksL_law_19 20 rfl rfl)
theorem dL_law_608 : decode cL_law 608 = .ok (.aload_n 2, 1) := dk_44 (dk_at dksL_law_19 23 rfl rfl)
theorem dL_law_609 : decode cL_law 609 = .ok (.invokevirtual 62, 3) := dk_182 0 62 (dk_at dksL_law_20 0 rfl rfl)
theorem dL_law_612 : decode cL_law 612 = .ok (.if_icmp .eq 844, 3) := dk_159 3 76 (dk_at dksL_law_20 3 rfl rfl)
theorem dL_law_615 : decode cL_law 615 = .ok (.iconst 0, 1) := dk_3 (dk_at dksL_law_20 6 rfl rfl)
theorem dL_law_616 : decode cL_law 616 = .ok (.ireturn, 1) := dk_172 (dk_at dksL_law_20 7 rfl rfl)
theorem dL_law_617 : decode cL_law 617 = .ok (.aload_n 1, 1) := dk_43 (dk_at dksL_law_20 8 rfl rfl)
theorem dL_law_618 : decode cL_law 618 = .ok (.aload_n 0, 1) := dk_42 (dk_at dksL_law_20 9 rfl rfl)
theorem dL_law_619 : decode cL_law 619 = .ok (.iload_n 3, 1) := dk_29 (dk_at dksL_law_20 10 rfl rfl)
theorem dL_law_620 : decode cL_law 620 = .ok (.iconst 1, 1) := dk_4 (dk_at dksL_law_20 11 rfl rfl)
theorem dL_law_621 : decode cL_law 621 = .ok (.iadd, 1) := dk_96 (dk_at dksL_law_20 12 rfl rfl)
theorem dL_law_622 : decode cL_law 622 = .ok (.iaload, 1) := dk_46 (dk_at dksL_law_20 13 rfl rfl)
theorem dL_law_623 : decode cL_law 623 = .ok (.aload_n 0, 1) := dk_42 (dk_at dksL_law_20 14 rfl rfl)
theorem dL_law_624 : decode cL_law 624 = .ok (.iload_n 3, 1) := dk_29 (dk_at dksL_law_20 15 rfl rfl)
theorem dL_law_625 : decode cL_law 625 = .ok (.iconst 2, 1) := dk_5 (dk_at dksL_law_20 16 rfl rfl)
theorem dL_law_626 : decode cL_law 626 = .ok (.iadd, 1) := dk_96 (dk_at dksL_law_20 17 rfl rfl)
theorem dL_law_627 : decode cL_law 627 = .ok (.iaload, 1) := dk_46 (dk_at dksL_law_20 18 rfl rfl)
theorem dL_law_628 : decode cL_law 628 = .ok (.invokevirtual 63, 3) := dk_182 0 63 (dk_at dksL_law_20 19 rfl rfl)
theorem dL_law_631 : decode cL_law 631 = .ok (.aload_n 2, 1) := dk_44 (dk_at dksL_law_20 22 rfl rfl)
theorem dL_law_632 : decode cL_law 632 = .ok (.aload_n 0, 1) := dk_42 (dk_at dksL_law_20 23 rfl rfl)
theorem dL_law_633 : decode cL_law 633 = .ok (.iload_n 3, 1) := dk_29 (dk_at dksL_law_21 0 rfl rfl)
theorem dL_law_634 : decode cL_law 634 = .ok (.iconst 1, 1) := dk_4 (dk_at dksL_law_21 1 rfl rfl)
theorem dL_law_635 : decode cL_law 635 = .ok (.iadd, 1) := dk_96 (dk_at dksL_law_21 2 rfl rfl)
theorem dL_law_636 : decode cL_law 636 = .ok (.iaload, 1) := dk_46 (dk_at dksL_law_21 3 rfl rfl)
theorem dL_law_637 : decode cL_law 637 = .ok (.aload_n 0, 1) := dk_42 (dk_at dksL_law_21 4 rfl rfl)
theorem dL_law_638 : decode cL_law 638 = .ok (.iload_n 3, 1) := dk_29 (dk_at dksL_law_21 5 rfl rfl)
theorem dL_law_639 : decode cL_law 639 = .ok (.iconst 2, 1) := dk_5 (dk_at dksL_law_21 6 rfl rfl)
theorem dL_law_640 : decode cL_law 640 = .ok (.iadd, 1) := dk_96 (dk_at dksL_law_21 7 rfl rfl)
theorem dL_law_641 : decode cL_law 641 = .ok (.iaload, 1) := dk_46 (dk_at dksL_law_21 8 rfl rfl)
theorem dL_law_642 : decode cL_law 642 = .ok (.invokevirtual 66, 3) := dk_182 0 66 (dk_at dksL_law_21 9 rfl rfl)
theorem dL_law_645 : decode cL_law 645 = .ok (.if_icmp .eq 811, 3) := dk_159 3 43 (dk_at dksL_law_21 12 rfl rfl)
theorem dL_law_648 : decode cL_law 648 = .ok (.iconst 0, 1) := dk_3 (dk_at dksL_law_21 15 rfl rfl)
theorem dL_law_649 : decode cL_law 649 = .ok (.ireturn, 1) := dk_172 (dk_at dksL_law_21 16 rfl rfl)
theorem dL_law_650 : decode cL_law 650 = .ok (.aload_n 1, 1) := dk_43 (dk_at dksL_law_21 17 rfl rfl)
theorem dL_law_651 : decode cL_law 651 = .ok (.aload_n 0, 1) := dk_42 (dk_at dksL_law_21 18 rfl rfl)
theorem dL_law_652 : decode cL_law 652 = .ok (.iload_n 3, 1) := dk_29 (dk_at dksL_law_21 19 rfl rfl)
theorem dL_law_653 : decode cL_law 653 = .ok (.iconst 1, 1) := dk_4 (dk_at dksL_law_21 20 rfl rfl)
theorem dL_law_654 : decode cL_law 654 = .ok (.iadd, 1) := dk_96 (dk_at dksL_law_21 21 rfl rfl)
theorem dL_law_655 : decode cL_law 655 = .ok (.iaload, 1) := dk_46 (dk_at dksL_law_21 22 rfl rfl)
theorem dL_law_656 : decode cL_law 656 = .ok (.invokevirtual 67, 3) := dk_182 0 67 (dk_at dksL_law_22 0 rfl rfl)
theorem dL_law_659 : decode cL_law 659 = .ok (.aload_n 2, 1) := dk_44 (dk_at dksL_law_22 3 rfl rfl)
theorem dL_law_660 : decode cL_law 660 = .ok (.aload_n 0, 1) := dk_42 (dk_at dksL_law_22 4 rfl rfl)
theorem dL_law_661 : decode cL_law 661 = .ok (.iload_n 3, 1) := dk_29 (dk_at dksL_law_22 5 rfl rfl)
theorem dL_law_662 : decode cL_law 662 = .ok (.iconst 1, 1) := dk_4 (dk_at dksL_law_22 6 rfl rfl)
theorem dL_law_663 : decode cL_law 663 = .ok (.iadd, 1) := dk_96 (dk_at dksL_law_22 7 rfl rfl)
theorem dL_law_664 : decode cL_law 664 = .ok (.iaload, 1) := dk_46 (dk_at dksL_law_22 8 rfl rfl)
theorem dL_law_665 : decode cL_law 665 = .ok (.invokevirtual 70, 3) := dk_182 0 70 (dk_at dksL_law_22 9 rfl rfl)
theorem dL_law_668 : decode cL_law 668 = .ok (.if_icmp .eq 788, 3) := dk_159 3 20 (dk_at dksL_law_22 12 rfl rfl)
theorem dL_law_671 : decode cL_law 671 = .ok (.iconst 0, 1) := dk_3 (dk_at dksL_law_22 15 rfl rfl)
theorem dL_law_672 : decode cL_law 672 = .ok (.ireturn, 1) := dk_172 (dk_at dksL_law_22 16 rfl rfl)
theorem dL_law_673 : decode cL_law 673 = .ok (.aload_n 1, 1) := dk_43 (dk_at dksL_law_22 17 rfl rfl)
theorem dL_law_674 : decode cL_law 674 = .ok (.aload_n 0, 1) := dk_42 (dk_at dksL_law_22 18 rfl rfl)
theorem dL_law_675 : decode cL_law 675 = .ok (.iload_n 3, 1) := dk_29 (dk_at dksL_law_22 19 rfl rfl)
theorem dL_law_676 : decode cL_law 676 = .ok (.iconst 1, 1) := dk_4 (dk_at dksL_law_22 20 rfl rfl)
theorem dL_law_677 : decode cL_law 677 = .ok (.iadd, 1) := dk_96 (dk_at dksL_law_22 21 rfl rfl)
theorem dL_law_678 : decode cL_law 678 = .ok (.iaload, 1) := dk_46 (dk_at dksL_law_22 22 rfl rfl)
theorem dL_law_679 : decode cL_law 679 = .ok (.invokevirtual 71, 3) := dk_182 0 71 (dk_at dksL_law_23 0 rfl rfl)
theorem dL_law_682 : decode cL_law 682 = .ok (.aload_n 2, 1) := dk_44 (dk_at dksL_law_23 3 rfl rfl)
theorem dL_law_683 : decode cL_law 683 = .ok (.aload_n 0, 1) := dk_42 (dk_at dksL_law_23 4 rfl rfl)
theorem dL_law_684 : decode cL_law 684 = .ok (.iload_n 3, 1) := dk_29 (dk_at dksL_law_23 5 rfl rfl)
theorem dL_law_685 : decode cL_law 685 = .ok (.iconst 1, 1) := dk_4 (dk_at dksL_law_23 6 rfl rfl)
theorem dL_law_686 : decode cL_law 686 = .ok (.iadd, 1) := dk_96 (dk_at dksL_law_23 7 rfl rfl)
theorem dL_law_687 : decode cL_law 687 = .ok (.iaload, 1) := dk_46 (dk_at dksL_law_23 8 rfl rfl)
theorem dL_law_688 : decode cL_law 688 = .ok (.invokevirtual 74, 3) := dk_182 0 74 (dk_at dksL_law_23 9 rfl rfl)
theorem dL_law_691 : decode cL_law 691 = .ok (.if_icmp .eq 765, 3) := dk_159 2 253 (dk_at dksL_law_23 12 rfl rfl)
theorem dL_law_694 : decode cL_law 694 = .ok (.iconst 0, 1) := dk_3 (dk_at dksL_law_23 15 rfl rfl)
theorem dL_law_695 : decode cL_law 695 = .ok (.ireturn, 1) := dk_172 (dk_at dksL_law_23 16 rfl rfl)
theorem dL_law_696 : decode cL_law 696 = .ok (.aload_n 1, 1) := dk_43 (dk_at dksL_law_23 17 rfl rfl)
theorem dL_law_697 : decode cL_law 697 = .ok (.aload_n 0, 1) := dk_42 (dk_at dksL_law_23 18 rfl rfl)
theorem dL_law_698 : decode cL_law 698 = .ok (.iload_n 3, 1) := dk_29 (dk_at dksL_law_23 19 rfl rfl)
theorem dL_law_699 : decode cL_law 699 = .ok (.iconst 1, 1) := dk_4 (dk_at dksL_law_23 20 rfl rfl)
theorem dL_law_700 : decode cL_law 700 = .ok (.iadd, 1) := dk_96 (dk_at dksL_law_23 21 rfl rfl)
theorem dL_law_701 : decode cL_law 701 = .ok (.iaload, 1) := dk_46 (dk_at dksL_law_23 22 rfl rfl)
theorem dL_law_702 : decode cL_law 702 = .ok (.aload_n 0, 1) := dk_42 (dk_at dksL_law_23 23 rfl rfl)
theorem dL_law_703 : decode cL_law 703 = .ok (.iload_n 3, 1) := dk_29 (dk_at dksL_law_24 0 rfl rfl)
theorem dL_law_704 : decode cL_law 704 = .ok (.iconst 2, 1) := dk_5 (dk_at dksL_law_24 1 rfl rfl)
theorem dL_law_705 : decode cL_law 705 = .ok (.iadd, 1) := dk_96 (dk_at dksL_law_24 2 rfl rfl)
theorem dL_law_706 : decode cL_law 706 = .ok (.iaload, 1) := dk_46 (dk_at dksL_law_24 3 rfl rfl)
theorem dL_law_707 : decode cL_law 707 = .ok (.invokevirtual 75, 3) := dk_182 0 75 (dk_at dksL_law_24 4 rfl rfl)
theorem dL_law_710 : decode cL_law 710 = .ok (.aload_n 2, 1) := dk_44 (dk_at dksL_law_24 7 rfl rfl)
theorem dL_law_711 : decode cL_law 711 = .ok (.aload_n 0, 1) := dk_42 (dk_at dksL_law_24 8 rfl rfl)
theorem dL_law_712 : decode cL_law 712 = .ok (.iload_n 3, 1) := dk_29 (dk_at dksL_law_24 9 rfl rfl)
theorem dL_law_713 : decode cL_law 713 = .ok (.iconst 1, 1) := dk_4 (dk_at dksL_law_24 10 rfl rfl)
theorem dL_law_714 : decode cL_law 714 = .ok (.iadd, 1) := dk_96 (dk_at dksL_law_24 11 rfl rfl)
theorem dL_law_715 : decode cL_law 715 = .ok (.iaload, 1) := dk_46 (dk_at dksL_law_24 12 rfl rfl)
theorem dL_law_716 : decode cL_law 716 = .ok (.aload_n 0, 1) := dk_42 (dk_at dksL_law_24 13 rfl rfl)
theorem dL_law_717 : decode cL_law 717 = .ok (.iload_n 3, 1) := dk_29 (dk_at dksL_law_24 14 rfl rfl)
theorem dL_law_718 : decode cL_law 718 = .ok (.iconst 2, 1) := dk_5 (dk_at dksL_law_24 15 rfl rfl)
theorem dL_law_719 : decode cL_law 719 = .ok (.iadd, 1) := dk_96 (dk_at dksL_law_24 16 rfl rfl)
theorem dL_law_720 : decode cL_law 720 = .ok (.iaload, 1) := dk_46 (dk_at dksL_law_24 17 rfl rfl)
theorem dL_law_721 : decode cL_law 721 = .ok (.invokevirtual 78, 3) := dk_182 0 78 (dk_at dksL_law_24 18 rfl rfl)
theorem dL_law_724 : decode cL_law 724 = .ok (.if_icmp .eq 732, 3) := dk_159 2 220 (dk_at dksL_law_24 21 rfl rfl)
theorem dL_law_727 : decode cL_law 727 = .ok (.iconst 0, 1) := dk_3 (dk_at dksL_law_25 0 rfl rfl)
theorem dL_law_728 : decode cL_law 728 = .ok (.ireturn, 1) := dk_172 (dk_at dksL_law_25 1 rfl rfl)
theorem dL_law_729 : decode cL_law 729 = .ok (.aload_n 1, 1) := dk_43 (dk_at dksL_law_25 2 rfl rfl)
theorem dL_law_730 : decode cL_law 730 = .ok (.aload_n 0, 1) := dk_42 (dk_at dksL_law_25 3 rfl rfl)
theorem dL_law_731 : decode cL_law 731 = .ok (.iload_n 3, 1) := dk_29 (dk_at dksL_law_25 4 rfl rfl)
theorem dL_law_732 : decode cL_law 732 = .ok (.iconst 1, 1) := dk_4 (dk_at dksL_law_25 5 rfl rfl)
theorem dL_law_733 : decode cL_law 733 = .ok (.iadd, 1) := dk_96 (dk_at dksL_law_25 6 rfl rfl)
theorem dL_law_734 : decode cL_law 734 = .ok (.iaload, 1) := dk_46 (dk_at dksL_law_25 7 rfl rfl)
theorem dL_law_735 : decode cL_law 735 = .ok (.invokevirtual 79, 3) := dk_182 0 79 (dk_at dksL_law_25 8 rfl rfl)
theorem dL_law_738 : decode cL_law 738 = .ok (.aload_n 2, 1) := dk_44 (dk_at dksL_law_25 11 rfl rfl)
theorem dL_law_739 : decode cL_law 739 = .ok (.aload_n 0, 1) := dk_42 (dk_at dksL_law_25 12 rfl rfl)
theorem dL_law_740 : decode cL_law 740 = .ok (.iload_n 3, 1) := dk_29 (dk_at dksL_law_25 13 rfl rfl)
theorem dL_law_741 : decode cL_law 741 = .ok (.iconst 1, 1) := dk_4 (dk_at dksL_law_25 14 rfl rfl)
theorem dL_law_742 : decode cL_law 742 = .ok (.iadd, 1) := dk_96 (dk_at dksL_law_25 15 rfl rfl)
theorem dL_law_743 : decode cL_law 743 = .ok (.iaload, 1) := dk_46 (dk_at dksL_law_25 16 rfl rfl)
theorem dL_law_744 : decode cL_law 744 = .ok (.invokevirtual 82, 3) := dk_182 0 82 (dk_at dksL_law_25 17 rfl rfl)
theorem dL_law_747 : decode cL_law 747 = .ok (.if_icmp .eq 709, 3) := dk_159 2 197 (dk_at dksL_law_25 20 rfl rfl)
theorem dL_law_750 : decode cL_law 750 = .ok (.iconst 0, 1) := dk_3 (dk_at dksL_law_25 23 rfl rfl)
theorem dL_law_751 : decode cL_law 751 = .ok (.ireturn, 1) := dk_172 (dk_at dksL_law_26 0 rfl rfl)
theorem dL_law_752 : decode cL_law 752 = .ok (.aload_n 1, 1) := dk_43 (dk_at dksL_law_26 1 rfl rfl)
theorem dL_law_753 : decode cL_law 753 = .ok (.aload_n 0, 1) := dk_42 (dk_at dksL_law_26 2 rfl rfl)
theorem dL_law_754 : decode cL_law 754 = .ok (.iload_n 3, 1) := dk_29 (dk_at dksL_law_26 3 rfl rfl)
theorem dL_law_755 : decode cL_law 755 = .ok (.iconst 1, 1) := dk_4 (dk_at dksL_law_26 4 rfl rfl)
theorem dL_law_756 : decode cL_law 756 = .ok (.iadd, 1) := dk_96 (dk_at dksL_law_26 5 rfl rfl)
theorem dL_law_757 : decode cL_law 757 = .ok (.iaload, 1) := dk_46 (dk_at dksL_law_26 6 rfl rfl)
theorem dL_law_758 : decode cL_law 758 = .ok (.aload_n 0, 1) := dk_42 (dk_at dksL_law_26 7 rfl rfl)
theorem dL_law_759 : decode cL_law 759 = .ok (.iload_n 3, 1) := dk_29 (dk_at dksL_law_26 8 rfl rfl)
theorem dL_law_760 : decode cL_law 760 = .ok (.iconst 2, 1) := dk_5 (dk_at dksL_law_26 9 rfl rfl)
theorem dL_law_761 : decode cL_law 761 = .ok (.iadd, 1) := dk_96 (dk_at dksL_law_26 10 rfl rfl)
theorem dL_law_762 : decode cL_law 762 = .ok (.iaload, 1) := dk_46 (dk_at dksL_law_26 11 rfl rfl)
theorem dL_law_763 : decode cL_law 763 = .ok (.invokevirtual 83, 3) := dk_182 0 83 (dk_at dksL_law_26 12 rfl rfl)
theorem dL_law_766 : decode cL_law 766 = .ok (.aload_n 2, 1) := dk_44 (dk_at dksL_law_26 15 rfl rfl)
theorem dL_law_767 : decode cL_law 767 = .ok (.aload_n 0, 1) := dk_42 (dk_at dksL_law_26 16 rfl rfl)
theorem dL_law_768 : decode cL_law 768 = .ok (.iload_n 3, 1) := dk_29 (dk_at dksL_law_26 17 rfl rfl)
theorem dL_law_769 : decode cL_law 769 = .ok (.iconst 1, 1) := dk_4 (dk_at dksL_law_26 18 rfl rfl)
theorem dL_law_770 : decode cL_law 770 = .ok (.iadd, 1) := dk_96 (dk_at dksL_law_26 19 rfl rfl)
theorem dL_law_771 : decode cL_law 771 = .ok (.iaload, 1) := dk_46 (dk_at dksL_law_26 20 rfl rfl)
theorem dL_law_772 : decode cL_law 772 = .ok (.aload_n 0, 1) := dk_42 (dk_at dksL_law_26 21 rfl rfl)
theorem dL_law_773 : decode cL_law 773 = .ok (.iload_n 3, 1) := dk_29 (dk_at dksL_law_26 22 rfl rfl)
theorem dL_law_774 : decode cL_law 774 = .ok (.iconst 2, 1) := dk_5 (dk_at dksL_law_26 23 rfl rfl)
theorem dL_law_775 : decode cL_law 775 = .ok (.iadd, 1) := dk_96 (dk_at dksL_law_27 0 rfl rfl)
theorem dL_law_776 : decode cL_law 776 = .ok (.iaload, 1) := dk_46 (dk_at dksL_law_27 1 rfl rfl)
theorem dL_law_777 : decode cL_law 777 = .ok (.invokevirtual 86, 3) := dk_182 0 86 (dk_at dksL_law_27 2 rfl rfl)
theorem dL_law_780 : decode cL_law 780 = .ok (.if_icmp .eq 676, 3) := dk_159 2 164 (dk_at dksL_law_27 5 rfl rfl)
theorem dL_law_783 : decode cL_law 783 = .ok (.iconst 0, 1) := dk_3 (dk_at dksL_law_27 8 rfl rfl)
theorem dL_law_784 : decode cL_law 784 = .ok (.ireturn, 1) := dk_172 (dk_at dksL_law_27 9 rfl rfl)
theorem dL_law_785 : decode cL_law 785 = .ok (.aload_n 1, 1) := dk_43 (dk_at dksL_law_27 10 rfl rfl)
theorem dL_law_786 : decode cL_law 786 = .ok (.aload_n 0, 1) := dk_42 (dk_at dksL_law_27 11 rfl rfl)
theorem dL_law_787 : decode cL_law 787 = .ok (.iload_n 3, 1) := dk_29 (dk_at dksL_law_27 12 rfl rfl)
theorem dL_law_788 : decode cL_law 788 = .ok (.iconst 1, 1) := dk_4 (dk_at dksL_law_27 13 rfl rfl)
theorem dL_law_789 : decode cL_law 789 = .ok (.iadd, 1) := dk_96 (dk_at dksL_law_27 14 rfl rfl)
theorem dL_law_790 : decode cL_law 790 = .ok (.iaload, 1) := dk_46 (dk_at dksL_law_27 15 rfl rfl)
theorem dL_law_791 : decode cL_law 791 = .ok (.invokevirtual 87, 3) := dk_182 0 87 (dk_at dksL_law_27 16 rfl rfl)
theorem dL_law_794 : decode cL_law 794 = .ok (.aload_n 2, 1) := dk_44 (dk_at dksL_law_27 19 rfl rfl)
theorem dL_law_795 : decode cL_law 795 = .ok (.aload_n 0, 1) := dk_42 (dk_at dksL_law_27 20 rfl rfl)
theorem dL_law_796 : decode cL_law 796 = .ok (.iload_n 3, 1) := dk_29 (dk_at dksL_law_27 21 rfl rfl)
theorem dL_law_797 : decode cL_law 797 = .ok (.iconst 1, 1) := dk_4 (dk_at dksL_law_27 22 rfl rfl)
theorem dL_law_798 : decode cL_law 798 = .ok (.iadd, 1) := dk_96 (dk_at dksL_law_27 23 rfl rfl)
theorem dL_law_799 : decode cL_law 799 = .ok (.iaload, 1) := dk_46 (dk_at dksL_law_28 0 rfl rfl)
theorem dL_law_800 : decode cL_law 800 = .ok (.invokevirtual 90, 3) := dk_182 0 90 (dk_at dksL_law_28 1 rfl rfl)
theorem dL_law_803 : decode cL_law 803 = .ok (.if_icmp .eq 653, 3) := dk_159 2 141 (dk_at dksL_law_28 4 rfl rfl)
theorem dL_law_806 : decode cL_law 806 = .ok (.iconst 0, 1) := dk_3 (dk_at dksL_law_28 7 rfl rfl)
theorem dL_law_807 : decode cL_law 807 = .ok (.ireturn, 1) := dk_172 (dk_at dksL_law_28 8 rfl rfl)
theorem dL_law_808 : decode cL_law 808 = .ok (.aload_n 1, 1) := dk_43 (dk_at dksL_law_28 9 rfl rfl)
theorem dL_law_809 : decode cL_law 809 = .ok (.aload_n 0, 1) := dk_42 (dk_at dksL_law_28 10 rfl rfl)
theorem dL_law_810 : decode cL_law 810 = .ok (.iload_n 3, 1) := dk_29 (dk_at dksL_law_28 11 rfl rfl)
theorem dL_law_811 : decode cL_law 811 = .ok (.iconst 1, 1) := dk_4 (dk_at dksL_law_28 12 rfl rfl)
theorem dL_law_812 : decode cL_law 812 = .ok (.iadd, 1) := dk_96 (dk_at dksL_law_28 13 rfl rfl)
theorem dL_law_813 : decode cL_law 813 = .ok (.iaload, 1) := dk_46 (dk_at dksL_law_28 14 rfl rfl)
theorem dL_law_814 : decode cL_law 814 = .ok (.aload_n 0, 1) := dk_42 (dk_at dksL_law_28 15 rfl rfl)
theorem dL_law_815 : decode cL_law 815 = .ok (.iload_n 3, 1) := dk_29 (dk_at dksL_law_28 16 rfl rfl)
theorem dL_law_816 : decode cL_law 816 = .ok (.iconst 2, 1) := dk_5 (dk_at dksL_law_28 17 rfl rfl)
theorem dL_law_817 : decode cL_law 817 = .ok (.iadd, 1) := dk_96 (dk_at dksL_law_28 18 rfl rfl)
theorem dL_law_818 : decode cL_law 818 = .ok (.iaload, 1) := dk_46 (dk_at dksL_law_28 19 rfl rfl)
theorem dL_law_819 : decode cL_law 819 = .ok (.invokevirtual 91, 3) := dk_182 0 91 (dk_at dksL_law_28 20 rfl rfl)
theorem dL_law_822 : decode cL_law 822 = .ok (.aload_n 2, 1) := dk_44 (dk_at dksL_law_28 23 rfl rfl)
theorem dL_law_823 : decode cL_law 823 = .ok (.aload_n 0, 1) := dk_42 (dk_at dksL_law_29 0 rfl rfl)
theorem dL_law_824 : decode cL_law 824 = .ok (.iload_n 3, 1) := dk_29 (dk_at dksL_law_29 1 rfl rfl)
theorem dL_law_825 : decode cL_law 825 = .ok (.iconst 1, 1) := dk_4 (dk_at dksL_law_29 2 rfl rfl)
theorem dL_law_826 : decode cL_law 826 = .ok (.iadd, 1) := dk_96 (dk_at dksL_law_29 3 rfl rfl)
theorem dL_law_827 : decode cL_law 827 = .ok (.iaload, 1) := dk_46 (dk_at dksL_law_29 4 rfl rfl)
theorem dL_law_828 : decode cL_law 828 = .ok (.aload_n 0, 1) := dk_42 (dk_at dksL_law_29 5 rfl rfl)
theorem dL_law_829 : decode cL_law 829 = .ok (.iload_n 3, 1) := dk_29 (dk_at dksL_law_29 6 rfl rfl)
theorem dL_law_830 : decode cL_law 830 = .ok (.iconst 2, 1) := dk_5 (dk_at dksL_law_29 7 rfl rfl)
theorem dL_law_831 : decode cL_law 831 = .ok (.iadd, 1) := dk_96 (dk_at dksL_law_29 8 rfl rfl)
theorem dL_law_832 : decode cL_law 832 = .ok (.iaload, 1) := dk_46 (dk_at dksL_law_29 9 rfl rfl)
theorem dL_law_833 : decode cL_law 833 = .ok (.invokevirtual 94, 3) := dk_182 0 94 (dk_at dksL_law_29 10 rfl rfl)
theorem dL_law_836 : decode cL_law 836 = .ok (.if_icmp .eq 620, 3) := dk_159 2 108 (dk_at dksL_law_29 13 rfl rfl)
theorem dL_law_839 : decode cL_law 839 = .ok (.iconst 0, 1) := dk_3 (dk_at dksL_law_29 16 rfl rfl)
theorem dL_law_840 : decode cL_law 840 = .ok (.ireturn, 1) := dk_172 (dk_at dksL_law_29 17 rfl rfl)
theorem dL_law_841 : decode cL_law 841 = .ok (.aload_n 1, 1) := dk_43 (dk_at dksL_law_29 18 rfl rfl)
theorem dL_law_842 : decode cL_law 842 = .ok (.aload_n 0, 1) := dk_42 (dk_at dksL_law_29 19 rfl rfl)
theorem dL_law_843 : decode cL_law 843 = .ok (.iload_n 3, 1) := dk_29 (dk_at dksL_law_29 20 rfl rfl)
theorem dL_law_844 : decode cL_law 844 = .ok (.iconst 1, 1) := dk_4 (dk_at dksL_law_29 21 rfl rfl)
theorem dL_law_845 : decode cL_law 845 = .ok (.iadd, 1) := dk_96 (dk_at dksL_law_29 22 rfl rfl)
theorem dL_law_846 : decode cL_law 846 = .ok (.iaload, 1) := dk_46 (dk_at dksL_law_29 23 rfl rfl)
theorem dL_law_847 : decode cL_law 847 = .ok (.invokevirtual 95, 3) := dk_182 0 95 (dk_at dksL_law_30 0 rfl rfl)
theorem dL_law_850 : decode cL_law 850 = .ok (.aload_n 2, 1) := dk_44 (dk_at dksL_law_30 3 rfl rfl)
theorem dL_law_851 : decode cL_law 851 = .ok (.aload_n 0, 1) := dk_42 (dk_at dksL_law_30 4 rfl rfl)
theorem dL_law_852 : decode cL_law 852 = .ok (.iload_n 3, 1) := dk_29 (dk_at dksL_law_30 5 rfl rfl)
theorem dL_law_853 : decode cL_law 853 = .ok (.iconst 1, 1) := dk_4 (dk_at dksL_law_30 6 rfl rfl)
theorem dL_law_854 : decode cL_law 854 = .ok (.iadd, 1) := dk_96 (dk_at dksL_law_30 7 rfl rfl)
theorem dL_law_855 : decode cL_law 855 = .ok (.iaload, 1) := dk_46 (dk_at dksL_law_30 8 rfl rfl)
theorem dL_law_856 : decode cL_law 856 = .ok (.invokevirtual 98, 3) := dk_182 0 98 (dk_at dksL_law_30 9 rfl rfl)
theorem dL_law_859 : decode cL_law 859 = .ok (.if_icmp .eq 597, 3) := dk_159 2 85 (dk_at dksL_law_30 12 rfl rfl)
theorem dL_law_862 : decode cL_law 862 = .ok (.iconst 0, 1) := dk_3 (dk_at dksL_law_30 15 rfl rfl)
theorem dL_law_863 : decode cL_law 863 = .ok (.ireturn, 1) := dk_172 (dk_at dksL_law_30 16 rfl rfl)
theorem dL_law_864 : decode cL_law 864 = .ok (.aload_n 1, 1) := dk_43 (dk_at dksL_law_30 17 rfl rfl)
theorem dL_law_865 : decode cL_law 865 = .ok (.aload_n 0, 1) := dk_42 (dk_at dksL_law_30 18 rfl rfl)
theorem dL_law_866 : decode cL_law 866 = .ok (.iload_n 3, 1) := dk_29 (dk_at dksL_law_30 19 rfl rfl)
theorem dL_law_867 : decode cL_law 867 = .ok (.iconst 1, 1) := dk_4 (dk_at dksL_law_30 20 rfl rfl)
theorem dL_law_868 : decode cL_law 868 = .ok (.iadd, 1) := dk_96 (dk_at dksL_law_30 21 rfl rfl)
theorem dL_law_869 : decode cL_law 869 = .ok (.iaload, 1) := dk_46 (dk_at dksL_law_30 22 rfl rfl)
theorem dL_law_870 : decode cL_law 870 = .ok (.invokevirtual 99, 3) := dk_182 0 99 (dk_at dksL_law_31 0 rfl rfl)
theorem dL_law_873 : decode cL_law 873 = .ok (.aload_n 2, 1) := dk_44 (dk_at dksL_law_31 3 rfl rfl)
theorem dL_law_874 : decode cL_law 874 = .ok (.aload_n 0, 1) := dk_42 (dk_at dksL_law_31 4 rfl rfl)
theorem dL_law_875 : decode cL_law 875 = .ok (.iload_n 3, 1) := dk_29 (dk_at dksL_law_31 5 rfl rfl)
theorem dL_law_876 : decode cL_law 876 = .ok (.iconst 1, 1) := dk_4 (dk_at dksL_law_31 6 rfl rfl)
theorem dL_law_877 : decode cL_law 877 = .ok (.iadd, 1) := dk_96 (dk_at dksL_law_31 7 rfl rfl)
theorem dL_law_878 : decode cL_law 878 = .ok (.iaload, 1) := dk_46 (dk_at dksL_law_31 8 rfl rfl)
theorem dL_law_879 : decode cL_law 879 = .ok (.invokevirtual 102, 3) := dk_182 0 102 (dk_at dksL_law_31 9 rfl rfl)
theorem dL_law_882 : decode cL_law 882 = .ok (.if_icmp .eq 574, 3) := dk_159 2 62 (dk_at dksL_law_31 12 rfl rfl)
theorem dL_law_885 : decode cL_law 885 = .ok (.iconst 0, 1) := dk_3 (dk_at dksL_law_31 15 rfl rfl)
theorem dL_law_886 : decode cL_law 886 = .ok (.ireturn, 1) := dk_172 (dk_at dksL_law_31 16 rfl rfl)
theorem dL_law_887 : decode cL_law 887 = .ok (.aload_n 1, 1) := dk_43 (dk_at dksL_law_31 17 rfl rfl)
theorem dL_law_888 : decode cL_law 888 = .ok (.aload_n 0, 1) := dk_42 (dk_at dksL_law_31 18 rfl rfl)
theorem dL_law_889 : decode cL_law 889 = .ok (.iload_n 3, 1) := dk_29 (dk_at dksL_law_31 19 rfl rfl)
theorem dL_law_890 : decode cL_law 890 = .ok (.iconst 1, 1) := dk_4 (dk_at dksL_law_31 20 rfl rfl)
theorem dL_law_891 : decode cL_law 891 = .ok (.iadd, 1) := dk_96 (dk_at dksL_law_31 21 rfl rfl)
theorem dL_law_892 : decode cL_law 892 = .ok (.iaload, 1) := dk_46 (dk_at dksL_law_31 22 rfl rfl)
theorem dL_law_893 : decode cL_law 893 = .ok (.aload_n 0, 1) := dk_42 (dk_at dksL_law_31 23 rfl rfl)
theorem dL_law_894 : decode cL_law 894 = .ok (.iload_n 3, 1) := dk_29 (dk_at dksL_law_32 0 rfl rfl)
theorem dL_law_895 : decode cL_law 895 = .ok (.iconst 2, 1) := dk_5 (dk_at dksL_law_32 1 rfl rfl)
theorem dL_law_896 : decode cL_law 896 = .ok (.iadd, 1) := dk_96 (dk_at dksL_law_32 2 rfl rfl)
theorem dL_law_897 : decode cL_law 897 = .ok (.iaload, 1) := dk_46 (dk_at dksL_law_32 3 rfl rfl)
theorem dL_law_898 : decode cL_law 898 = .ok (.invokevirtual 103, 3) := dk_182 0 103 (dk_at dksL_law_32 4 rfl rfl)
theorem dL_law_901 : decode cL_law 901 = .ok (.aload_n 2, 1) := dk_44 (dk_at dksL_law_32 7 rfl rfl)
theorem dL_law_902 : decode cL_law 902 = .ok (.aload_n 0, 1) := dk_42 (dk_at dksL_law_32 8 rfl rfl)
theorem dL_law_903 : decode cL_law 903 = .ok (.iload_n 3, 1) := dk_29 (dk_at dksL_law_32 9 rfl rfl)
theorem dL_law_904 : decode cL_law 904 = .ok (.iconst 1, 1) := dk_4 (dk_at dksL_law_32 10 rfl rfl)
theorem dL_law_905 : decode cL_law 905 = .ok (.iadd, 1) := dk_96 (dk_at dksL_law_32 11 rfl rfl)
theorem dL_law_906 : decode cL_law 906 = .ok (.iaload, 1) := dk_46 (dk_at dksL_law_32 12 rfl rfl)
theorem dL_law_907 : decode cL_law 907 = .ok (.aload_n 0, 1) := dk_42 (dk_at dksL_law_32 13 rfl rfl)
theorem dL_law_908 : decode cL_law 908 = .ok (.iload_n 3, 1) := dk_29 (dk_at dksL_law_32 14 rfl rfl)
theorem dL_law_909 : decode cL_law 909 = .ok (.iconst 2, 1) := dk_5 (dk_at dksL_law_32 15 rfl rfl)
theorem dL_law_910 : decode cL_law 910 = .ok (.iadd, 1) := dk_96 (dk_at dksL_law_32 16 rfl rfl)
theorem dL_law_911 : decode cL_law 911 = .ok (.iaload, 1) := dk_46 (dk_at dksL_law_32 17 rfl rfl)
theorem dL_law_912 : decode cL_law 912 = .ok (.invokevirtual 106, 3) := dk_182 0 106 (dk_at dksL_law_32 18 rfl rfl)
theorem dL_law_915 : decode cL_law 915 = .ok (.if_icmp .eq 541, 3) := dk_159 2 29 (dk_at dksL_law_32 21 rfl rfl)
theorem dL_law_918 : decode cL_law 918 = .ok (.iconst 0, 1) := dk_3 (dk_at dksL_law_33 0 rfl rfl)
theorem dL_law_919 : decode cL_law 919 = .ok (.ireturn, 1) := dk_172 (dk_at dksL_law_33 1 rfl rfl)
theorem dL_law_920 : decode cL_law 920 = .ok (.aload_n 1, 1) := dk_43 (dk_at dksL_law_33 2 rfl rfl)
theorem dL_law_921 : decode cL_law 921 = .ok (.aload_n 0, 1) := dk_42 (dk_at dksL_law_33 3 rfl rfl)
theorem dL_law_922 : decode cL_law 922 = .ok (.iload_n 3, 1) := dk_29 (dk_at dksL_law_33 4 rfl rfl)
theorem dL_law_923 : decode cL_law 923 = .ok (.iconst 1, 1) := dk_4 (dk_at dksL_law_33 5 rfl rfl)
theorem dL_law_924 : decode cL_law 924 = .ok (.iadd, 1) := dk_96 (dk_at dksL_law_33 6 rfl rfl)
theorem dL_law_925 : decode cL_law 925 = .ok (.iaload, 1) := dk_46 (dk_at dksL_law_33 7 rfl rfl)
theorem dL_law_926 : decode cL_law 926 = .ok (.invokevirtual 107, 3) := dk_182 0 107 (dk_at dksL_law_33 8 rfl rfl)
theorem dL_law_929 : decode cL_law 929 = .ok (.aload_n 2, 1) := dk_44 (dk_at dksL_law_33 11 rfl rfl)
theorem dL_law_930 : decode cL_law 930 = .ok (.aload_n 0, 1) := dk_42 (dk_at dksL_law_33 12 rfl rfl)
theorem dL_law_931 : decode cL_law 931 = .ok (.iload_n 3, 1) := dk_29 (dk_at dksL_law_33 13 rfl rfl)
theorem dL_law_932 : decode cL_law 932 = .ok (.iconst 1, 1) := dk_4 (dk_at dksL_law_33 14 rfl rfl)
theorem dL_law_933 : decode cL_law 933 = .ok (.iadd, 1) := dk_96 (dk_at dksL_law_33 15 rfl rfl)
theorem dL_law_934 : decode cL_law 934 = .ok (.iaload, 1) := dk_46 (dk_at dksL_law_33 16 rfl rfl)
theorem dL_law_935 : decode cL_law 935 = .ok (.invokevirtual 110, 3) := dk_182 0 110 (dk_at dksL_law_33 17 rfl rfl)
theorem dL_law_938 : decode cL_law 938 = .ok (.if_icmp .eq 518, 3) := dk_159 2 6 (dk_at dksL_law_33 20 rfl rfl)
theorem dL_law_941 : decode cL_law 941 = .ok (.iconst 0, 1) := dk_3 (dk_at dksL_law_33 23 rfl rfl)
theorem dL_law_942 : decode cL_law 942 = .ok (.ireturn, 1) := dk_172 (dk_at dksL_law_34 0 rfl rfl)
theorem dL_law_943 : decode cL_law 943 = .ok (.aload_n 1, 1) := dk_43 (dk_at dksL_law_34 1 rfl rfl)
theorem dL_law_944 : decode cL_law 944 = .ok (.aload_n 0, 1) := dk_42 (dk_at dksL_law_34 2 rfl rfl)
theorem dL_law_945 : decode cL_law 945 = .ok (.iload_n 3, 1) := dk_29 (dk_at dksL_law_34 3 rfl rfl)
theorem dL_law_946 : decode cL_law 946 = .ok (.iconst 1, 1) := dk_4 (dk_at dksL_law_34 4 rfl rfl)
theorem dL_law_947 : decode cL_law 947 = .ok (.iadd, 1) := dk_96 (dk_at dksL_law_34 5 rfl rfl)
theorem dL_law_948 : decode cL_law 948 = .ok (.iaload, 1) := dk_46 (dk_at dksL_law_34 6 rfl rfl)
theorem dL_law_949 : decode cL_law 949 = .ok (.invokevirtual 111, 3) := dk_182 0 111 (dk_at dksL_law_34 7 rfl rfl)
theorem dL_law_952 : decode cL_law 952 = .ok (.aload_n 2, 1) := dk_44 (dk_at dksL_law_34 10 rfl rfl)
theorem dL_law_953 : decode cL_law 953 = .ok (.aload_n 0, 1) := dk_42 (dk_at dksL_law_34 11 rfl rfl)
theorem dL_law_954 : decode cL_law 954 = .ok (.iload_n 3, 1) := dk_29 (dk_at dksL_law_34 12 rfl rfl)
theorem dL_law_955 : decode cL_law 955 = .ok (.iconst 1, 1) := dk_4 (dk_at dksL_law_34 13 rfl rfl)
theorem dL_law_956 : decode cL_law 956 = .ok (.iadd, 1) := dk_96 (dk_at dksL_law_34 14 rfl rfl)
theorem dL_law_957 : decode cL_law 957 = .ok (.iaload, 1) := dk_46 (dk_at dksL_law_34 15 rfl rfl)
theorem dL_law_958 : decode cL_law 958 = .ok (.invokevirtual 114, 3) := dk_182 0 114 (dk_at dksL_law_34 16 rfl rfl)
theorem dL_law_961 : decode cL_law 961 = .ok (.if_icmp .eq 495, 3) := dk_159 1 239 (dk_at dksL_law_34 19 rfl rfl)
theorem dL_law_964 : decode cL_law 964 = .ok (.iconst 0, 1) := dk_3 (dk_at dksL_law_34 22 rfl rfl)
theorem dL_law_965 : decode cL_law 965 = .ok (.ireturn, 1) := dk_172 (dk_at dksL_law_34 23 rfl rfl)
theorem dL_law_966 : decode cL_law 966 = .ok (.aload_n 1, 1) := dk_43 (dk_at dksL_law_35 0 rfl rfl)
theorem dL_law_967 : decode cL_law 967 = .ok (.aload_n 0, 1) := dk_42 (dk_at dksL_law_35 1 rfl rfl)
theorem dL_law_968 : decode cL_law 968 = .ok (.iload_n 3, 1) := dk_29 (dk_at dksL_law_35 2 rfl rfl)
theorem dL_law_969 : decode cL_law 969 = .ok (.iconst 1, 1) := dk_4 (dk_at dksL_law_35 3 rfl rfl)
theorem dL_law_970 : decode cL_law 970 = .ok (.iadd, 1) := dk_96 (dk_at dksL_law_35 4 rfl rfl)
theorem dL_law_971 : decode cL_law 971 = .ok (.iaload, 1) := dk_46 (dk_at dksL_law_35 5 rfl rfl)
theorem dL_law_972 : decode cL_law 972 = .ok (.aload_n 0, 1) := dk_42 (dk_at dksL_law_35 6 rfl rfl)
theorem dL_law_973 : decode cL_law 973 = .ok (.iload_n 3, 1) := dk_29 (dk_at dksL_law_35 7 rfl rfl)
theorem dL_law_974 : decode cL_law 974 = .ok (.iconst 2, 1) := dk_5 (dk_at dksL_law_35 8 rfl rfl)
theorem dL_law_975 : decode cL_law 975 = .ok (.iadd, 1) := dk_96 (dk_at dksL_law_35 9 rfl rfl)
theorem dL_law_976 : decode cL_law 976 = .ok (.iaload, 1) := dk_46 (dk_at dksL_law_35 10 rfl rfl)
theorem dL_law_977 : decode cL_law 977 = .ok (.aload_n 0, 1) := dk_42 (dk_at dksL_law_35 11 rfl rfl)
theorem dL_law_978 : decode cL_law 978 = .ok (.iload_n 3, 1) := dk_29 (dk_at dksL_law_35 12 rfl rfl)
theorem dL_law_979 : decode cL_law 979 = .ok (.iconst 3, 1) := dk_6 (dk_at dksL_law_35 13 rfl rfl)
theorem dL_law_980 : decode cL_law 980 = .ok (.iadd, 1) := dk_96 (dk_at dksL_law_35 14 rfl rfl)
theorem dL_law_981 : decode cL_law 981 = .ok (.iaload, 1) := dk_46 (dk_at dksL_law_35 15 rfl rfl)
theorem dL_law_982 : decode cL_law 982 = .ok (.aload_n 0, 1) := dk_42 (dk_at dksL_law_35 16 rfl rfl)
theorem dL_law_983 : decode cL_law 983 = .ok (.iload_n 3, 1) := dk_29 (dk_at dksL_law_35 17 rfl rfl)
theorem dL_law_984 : decode cL_law 984 = .ok (.iconst 4, 1) := dk_7 (dk_at dksL_law_35 18 rfl rfl)
theorem dL_law_985 : decode cL_law 985 = .ok (.iadd, 1) := dk_96 (dk_at dksL_law_35 19 rfl rfl)
theorem dL_law_986 : decode cL_law 986 = .ok (.iaload, 1) := dk_46 (dk_at dksL_law_35 20 rfl rfl)
theorem dL_law_987 : decode cL_law 987 = .ok (.aload_n 0, 1) := dk_42 (dk_at dksL_law_35 21 rfl rfl)
theorem dL_law_988 : decode cL_law 988 = .ok (.iload_n 3, 1) := dk_29 (dk_at dksL_law_35 22 rfl rfl)
theorem dL_law_989 : decode cL_law 989 = .ok (.iconst 5, 1) := dk_8 (dk_at dksL_law_35 23 rfl rfl)
theorem dL_law_990 : decode cL_law 990 = .ok (.iadd, 1) := dk_96 (dk_at dksL_law_36 0 rfl rfl)
theorem dL_law_991 : decode cL_law 991 = .ok (.iaload, 1) := dk_46 (dk_at dksL_law_36 1 rfl rfl)
theorem dL_law_992 : decode cL_law 992 = .ok (.invokevirtual 115, 3) := dk_182 0 115 (dk_at dksL_law_36 2 rfl rfl)
theorem dL_law_995 : decode cL_law 995 = .ok (.aload_n 2, 1) := dk_44 (dk_at dksL_law_36 5 rfl rfl)
theorem dL_law_996 : decode cL_law 996 = .ok (.aload_n 0, 1) := dk_42 (dk_at dksL_law_36 6 rfl rfl)
theorem dL_law_997 : decode cL_law 997 = .ok (.iload_n 3, 1) := dk_29 (dk_at dksL_law_36 7 rfl rfl)
theorem dL_law_998 : decode cL_law 998 = .ok (.iconst 1, 1) := dk_4 (dk_at dksL_law_36 8 rfl rfl)
theorem dL_law_999 : decode cL_law 999 = .ok (.iadd, 1) := dk_96 (dk_at dksL_law_36 9 rfl rfl)
theorem dL_law_1000 : decode cL_law 1000 = .ok (.iaload, 1) := dk_46 (dk_at dksL_law_36 10 rfl rfl)
theorem dL_law_1001 : decode cL_law 1001 = .ok (.aload_n 0, 1) := dk_42 (dk_at dksL_law_36 11 rfl rfl)
theorem dL_law_1002 : decode cL_law 1002 = .ok (.iload_n 3, 1) := dk_29 (dk_at dksL_law_36 12 rfl rfl)
theorem dL_law_1003 : decode cL_law 1003 = .ok (.iconst 2, 1) := dk_5 (dk_at dksL_law_36 13 rfl rfl)
theorem dL_law_1004 : decode cL_law 1004 = .ok (.iadd, 1) := dk_96 (dk_at dksL_law_36 14 rfl rfl)
theorem dL_law_1005 : decode cL_law 1005 = .ok (.iaload, 1) := dk_46 (dk_at dksL_law_36 15 rfl rfl)
theorem dL_law_1006 : decode cL_law 1006 = .ok (.aload_n 0, 1) := dk_42 (dk_at dksL_law_36 16 rfl rfl)
theorem dL_law_1007 : decode cL_law 1007 = .ok (.iload_n 3, 1) := dk_29 (dk_at dksL_law_36 17 rfl rfl)
theorem dL_law_1008 : decode cL_law 1008 = .ok (.iconst 3, 1) := dk_6 (dk_at dksL_law_36 18 rfl rfl)
theorem dL_law_1009 : decode cL_law 1009 = .ok (.iadd, 1) := dk_96 (dk_at dksL_law_36 19 rfl rfl)
theorem dL_law_1010 : decode cL_law 1010 = .ok (.iaload, 1) := dk_46 (dk_at dksL_law_36 20 rfl rfl)
theorem dL_law_1011 : decode cL_law 1011 = .ok (.aload_n 0, 1) := dk_42 (dk_at dksL_law_36 21 rfl rfl)
theorem dL_law_1012 : decode cL_law 1012 = .ok (.iload_n 3, 1) := dk_29 (dk_at dksL_law_36 22 rfl rfl)
theorem dL_law_1013 : decode cL_law 1013 = .ok (.iconst 4, 1) := dk_7 (dk_at dksL_law_36 23 rfl rfl)
theorem dL_law_1014 : decode cL_law 1014 = .ok (.iadd, 1) := dk_96 (dk_at dksL_law_37 0 rfl rfl)
theorem dL_law_1015 : decode cL_law 1015 = .ok (.iaload, 1) := dk_46 (dk_at dksL_law_37 1 rfl rfl)
theorem dL_law_1016 : decode cL_law 1016 = .ok (.aload_n 0, 1) := dk_42 (dk_at dksL_law_37 2 rfl rfl)
theorem dL_law_1017 : decode cL_law 1017 = .ok (.iload_n 3, 1) := dk_29 (dk_at dksL_law_37 3 rfl rfl)
theorem dL_law_1018 : decode cL_law 1018 = .ok (.iconst 5, 1) := dk_8 (dk_at dksL_law_37 4 rfl rfl)
theorem dL_law_1019 : decode cL_law 1019 = .ok (.iadd, 1) := dk_96 (dk_at dksL_law_37 5 rfl rfl)
theorem dL_law_1020 : decode cL_law 1020 = .ok (.iaload, 1) := dk_46 (dk_at dksL_law_37 6 rfl rfl)
theorem dL_law_1021 : decode cL_law 1021 = .ok (.invokevirtual 118, 3) := dk_182 0 118 (dk_at dksL_law_37 7 rfl rfl)
theorem dL_law_1024 : decode cL_law 1024 = .ok (.if_icmp .eq 432, 3) := dk_159 1 176 (dk_at dksL_law_37 10 rfl rfl)
theorem dL_law_1027 : decode cL_law 1027 = .ok (.iconst 0, 1) := dk_3 (dk_at dksL_law_37 13 rfl rfl)
theorem dL_law_1028 : decode cL_law 1028 = .ok (.ireturn, 1) := dk_172 (dk_at dksL_law_37 14 rfl rfl)
theorem dL_law_1029 : decode cL_law 1029 = .ok (.aload_n 1, 1) := dk_43 (dk_at dksL_law_37 15 rfl rfl)
theorem dL_law_1030 : decode cL_law 1030 = .ok (.aload_n 0, 1) := dk_42 (dk_at dksL_law_37 16 rfl rfl)
theorem dL_law_1031 : decode cL_law 1031 = .ok (.iload_n 3, 1) := dk_29 (dk_at dksL_law_37 17 rfl rfl)
theorem dL_law_1032 : decode cL_law 1032 = .ok (.iconst 1, 1) := dk_4 (dk_at dksL_law_37 18 rfl rfl)
theorem dL_law_1033 : decode cL_law 1033 = .ok (.iadd, 1) := dk_96 (dk_at dksL_law_37 19 rfl rfl)
theorem dL_law_1034 : decode cL_law 1034 = .ok (.iaload, 1) := dk_46 (dk_at dksL_law_37 20 rfl rfl)
theorem dL_law_1035 : decode cL_law 1035 = .ok (.aload_n 0, 1) := dk_42 (dk_at dksL_law_37 21 rfl rfl)
theorem dL_law_1036 : decode cL_law 1036 = .ok (.iload_n 3, 1) := dk_29 (dk_at dksL_law_37 22 rfl rfl)
theorem dL_law_1037 : decode cL_law 1037 = .ok (.iconst 2, 1) := dk_5 (dk_at dksL_law_37 23 rfl rfl)
theorem dL_law_1038 : decode cL_law 1038 = .ok (.iadd, 1) := dk_96 (dk_at dksL_law_38 0 rfl rfl)
theorem dL_law_1039 : decode cL_law 1039 = .ok (.iaload, 1) := dk_46 (dk_at dksL_law_38 1 rfl rfl)
theorem dL_law_1040 : decode cL_law 1040 = .ok (.invokevirtual 119, 3) := dk_182 0 119 (dk_at dksL_law_38 2 rfl rfl)
theorem dL_law_1043 : decode cL_law 1043 = .ok (.aload_n 2, 1) := dk_44 (dk_at dksL_law_38 5 rfl rfl)
theorem dL_law_1044 : decode cL_law 1044 = .ok (.aload_n 0, 1) := dk_42 (dk_at dksL_law_38 6 rfl rfl)
theorem dL_law_1045 : decode cL_law 1045 = .ok (.iload_n 3, 1) := dk_29 (dk_at dksL_law_38 7 rfl rfl)
theorem dL_law_1046 : decode cL_law 1046 = .ok (.iconst 1, 1) := dk_4 (dk_at dksL_law_38 8 rfl rfl)
theorem dL_law_1047 : decode cL_law 1047 = .ok (.iadd, 1) := dk_96 (dk_at dksL_law_38 9 rfl rfl)
theorem dL_law_1048 : decode cL_law 1048 = .ok (.iaload, 1) := dk_46 (dk_at dksL_law_38 10 rfl rfl)
theorem dL_law_1049 : decode cL_law 1049 = .ok (.aload_n 0, 1) := dk_42 (dk_at dksL_law_38 11 rfl rfl)
theorem dL_law_1050 : decode cL_law 1050 = .ok (.iload_n 3, 1) := dk_29 (dk_at dksL_law_38 12 rfl rfl)
theorem dL_law_1051 : decode cL_law 1051 = .ok (.iconst 2, 1) := dk_5 (dk_at dksL_law_38 13 rfl rfl)
theorem dL_law_1052 : decode cL_law 1052 = .ok (.iadd, 1) := dk_96 (dk_at dksL_law_38 14 rfl rfl)
theorem dL_law_1053 : decode cL_law 1053 = .ok (.iaload, 1) := dk_46 (dk_at dksL_law_38 15 rfl rfl)
theorem dL_law_1054 : decode cL_law 1054 = .ok (.invokevirtual 122, 3) := dk_182 0 122 (dk_at dksL_law_38 16 rfl rfl)
theorem dL_law_1057 : decode cL_law 1057 = .ok (.if_icmp .eq 399, 3) := dk_159 1 143 (dk_at dksL_law_38 19 rfl rfl)
theorem dL_law_1060 : decode cL_law 1060 = .ok (.iconst 0, 1) := dk_3 (dk_at dksL_law_38 22 rfl rfl)
theorem dL_law_1061 : decode cL_law 1061 = .ok (.ireturn, 1) := dk_172 (dk_at dksL_law_38 23 rfl rfl)
theorem dL_law_1062 : decode cL_law 1062 = .ok (.aload_n 1, 1) := dk_43 (dk_at dksL_law_39 0 rfl rfl)
theorem dL_law_1063 : decode cL_law 1063 = .ok (.aload_n 0, 1) := dk_42 (dk_at dksL_law_39 1 rfl rfl)
theorem dL_law_1064 : decode cL_law 1064 = .ok (.iload_n 3, 1) := dk_29 (dk_at dksL_law_39 2 rfl rfl)
theorem dL_law_1065 : decode cL_law 1065 = .ok (.iconst 1, 1) := dk_4 (dk_at dksL_law_39 3 rfl rfl)
theorem dL_law_1066 : decode cL_law 1066 = .ok (.iadd, 1) := dk_96 (dk_at dksL_law_39 4 rfl rfl)
theorem dL_law_1067 : decode cL_law 1067 = .ok (.iaload, 1) := dk_46 (dk_at dksL_law_39 5 rfl rfl)
theorem dL_law_1068 : decode cL_law 1068 = .ok (.aload_n 0, 1) := dk_42 (dk_at dksL_law_39 6 rfl rfl)
theorem dL_law_1069 : decode cL_law 1069 = .ok (.iload_n 3, 1) := dk_29 (dk_at dksL_law_39 7 rfl rfl)
theorem dL_law_1070 : decode cL_law 1070 = .ok (.iconst 2, 1) := dk_5 (dk_at dksL_law_39 8 rfl rfl)
theorem dL_law_1071 : decode cL_law 1071 = .ok (.iadd, 1) := dk_96 (dk_at dksL_law_39 9 rfl rfl)
theorem dL_law_1072 : decode cL_law 1072 = .ok (.iaload, 1) := dk_46 (dk_at dksL_law_39 10 rfl rfl)
theorem dL_law_1073 : decode cL_law 1073 = .ok (.invokevirtual 123, 3) := dk_182 0 123 (dk_at dksL_law_39 11 rfl rfl)
theorem dL_law_1076 : decode cL_law 1076 = .ok (.aload_n 2, 1) := dk_44 (dk_at dksL_law_39 14 rfl rfl)
theorem dL_law_1077 : decode cL_law 1077 = .ok (.aload_n 0, 1) := dk_42 (dk_at dksL_law_39 15 rfl rfl)
theorem dL_law_1078 : decode cL_law 1078 = .ok (.iload_n 3, 1) := dk_29 (dk_at dksL_law_39 16 rfl rfl)
theorem dL_law_1079 : decode cL_law 1079 = .ok (.iconst 1, 1) := dk_4 (dk_at dksL_law_39 17 rfl rfl)
theorem dL_law_1080 : decode cL_law 1080 = .ok (.iadd, 1) := dk_96 (dk_at dksL_law_39 18 rfl rfl)
theorem dL_law_1081 : decode cL_law 1081 = .ok (.iaload, 1) := dk_46 (dk_at dksL_law_39 19 rfl rfl)
theorem dL_law_1082 : decode cL_law 1082 = .ok (.aload_n 0, 1) := dk_42 (dk_at dksL_law_39 20 rfl rfl)
theorem dL_law_1083 : decode cL_law 1083 = .ok (.iload_n 3, 1) := dk_29 (dk_at dksL_law_39 21 rfl rfl)
theorem dL_law_1084 : decode cL_law 1084 = .ok (.iconst 2, 1) := dk_5 (dk_at dksL_law_39 22 rfl rfl)
theorem dL_law_1085 : decode cL_law 1085 = .ok (.iadd, 1) := dk_96 (dk_at dksL_law_39 23 rfl rfl)
theorem dL_law_1086 : decode cL_law 1086 = .ok (.iaload, 1) := dk_46 (dk_at dksL_law_40 0 rfl rfl)
theorem dL_law_1087 : decode cL_law 1087 = .ok (.invokevirtual 126, 3) := dk_182 0 126 (dk_at dksL_law_40 1 rfl rfl)
theorem dL_law_1090 : decode cL_law 1090 = .ok (.if_icmp .eq 366, 3) := dk_159 1 110 (dk_at dksL_law_40 4 rfl rfl)
theorem dL_law_1093 : decode cL_law 1093 = .ok (.iconst 0, 1) := dk_3 (dk_at dksL_law_40 7 rfl rfl)
theorem dL_law_1094 : decode cL_law 1094 = .ok (.ireturn, 1) := dk_172 (dk_at dksL_law_40 8 rfl rfl)
theorem dL_law_1095 : decode cL_law 1095 = .ok (.aload_n 1, 1) := dk_43 (dk_at dksL_law_40 9 rfl rfl)
theorem dL_law_1096 : decode cL_law 1096 = .ok (.aload_n 0, 1) := dk_42 (dk_at dksL_law_40 10 rfl rfl)
theorem dL_law_1097 : decode cL_law 1097 = .ok (.iload_n 3, 1) := dk_29 (dk_at dksL_law_40 11 rfl rfl)
theorem dL_law_1098 : decode cL_law 1098 = .ok (.iconst 1, 1) := dk_4 (dk_at dksL_law_40 12 rfl rfl)
theorem dL_law_1099 : decode cL_law 1099 = .ok (.iadd, 1) := dk_96 (dk_at dksL_law_40 13 rfl rfl)
theorem dL_law_1100 : decode cL_law 1100 = .ok (.iaload, 1) := dk_46 (dk_at dksL_law_40 14 rfl rfl)
theorem dL_law_1101 : decode cL_law 1101 = .ok (.aload_n 0, 1) := dk_42 (dk_at dksL_law_40 15 rfl rfl)
theorem dL_law_1102 : decode cL_law 1102 = .ok (.iload_n 3, 1) := dk_29 (dk_at dksL_law_40 16 rfl rfl)
theorem dL_law_1103 : decode cL_law 1103 = .ok (.iconst 2, 1) := dk_5 (dk_at dksL_law_40 17 rfl rfl)
theorem dL_law_1104 : decode cL_law 1104 = .ok (.iadd, 1) := dk_96 (dk_at dksL_law_40 18 rfl rfl)
theorem dL_law_1105 : decode cL_law 1105 = .ok (.iaload, 1) := dk_46 (dk_at dksL_law_40 19 rfl rfl)
theorem dL_law_1106 : decode cL_law 1106 = .ok (.invokevirtual 127, 3) := dk_182 0 127 (dk_at dksL_law_40 20 rfl rfl)
theorem dL_law_1109 : decode cL_law 1109 = .ok (.aload_n 2, 1) := dk_44 (dk_at dksL_law_40 23 rfl rfl)
theorem dL_law_1110 : decode cL_law 1110 = .ok (.aload_n 0, 1) := dk_42 (dk_at dksL_law_41 0 rfl rfl)
theorem dL_law_1111 : decode cL_law 1111 = .ok (.iload_n 3, 1) := dk_29 (dk_at dksL_law_41 1 rfl rfl)
theorem dL_law_1112 : decode cL_law 1112 = .ok (.iconst 1, 1) := dk_4 (dk_at dksL_law_41 2 rfl rfl)
theorem dL_law_1113 : decode cL_law 1113 = .ok (.iadd, 1) := dk_96 (dk_at dksL_law_41 3 rfl rfl)
theorem dL_law_1114 : decode cL_law 1114 = .ok (.iaload, 1) := dk_46 (dk_at dksL_law_41 4 rfl rfl)
theorem dL_law_1115 : decode cL_law 1115 = .ok (.aload_n 0, 1) := dk_42 (dk_at dksL_law_41 5 rfl rfl)
theorem dL_law_1116 : decode cL_law 1116 = .ok (.iload_n 3, 1) := dk_29 (dk_at dksL_law_41 6 rfl rfl)
theorem dL_law_1117 : decode cL_law 1117 = .ok (.iconst 2, 1) := dk_5 (dk_at dksL_law_41 7 rfl rfl)
theorem dL_law_1118 : decode cL_law 1118 = .ok (.iadd, 1) := dk_96 (dk_at dksL_law_41 8 rfl rfl)
theorem dL_law_1119 : decode cL_law 1119 = .ok (.iaload, 1) := dk_46 (dk_at dksL_law_41 9 rfl rfl)
theorem dL_law_1120 : decode cL_law 1120 = .ok (.invokevirtual 130, 3) := dk_182 0 130 (dk_at dksL_law_41 10 rfl rfl)
theorem dL_law_1123 : decode cL_law 1123 = .ok (.if_icmp .eq 333, 3) := dk_159 1 77 (dk_at dksL_law_41 13 rfl rfl)
theorem dL_law_1126 : decode cL_law 1126 = .ok (.iconst 0, 1) := dk_3 (dk_at dksL_law_41 16 rfl rfl)
theorem dL_law_1127 : decode cL_law 1127 = .ok (.ireturn, 1) := dk_172 (dk_at dksL_law_41 17 rfl rfl)
theorem dL_law_1128 : decode cL_law 1128 = .ok (.aload_n 1, 1) := dk_43 (dk_at dksL_law_41 18 rfl rfl)
theorem dL_law_1129 : decode cL_law 1129 = .ok (.invokevirtual 131, 3) := dk_182 0 131 (dk_at dksL_law_41 19 rfl rfl)
theorem dL_law_1132 : decode cL_law 1132 = .ok (.aload_n 2, 1) := dk_44 (dk_at dksL_law_41 22 rfl rfl)
theorem dL_law_1133 : decode cL_law 1133 = .ok (.invokevirtual 134, 3) := dk_182 0 134 (dk_at dksL_law_42 0 rfl rfl)
theorem dL_law_1136 : decode cL_law 1136 = .ok (.if_icmp .eq 320, 3) := dk_159 1 64 (dk_at dksL_law_42 3 rfl rfl)
theorem dL_law_1139 : decode cL_law 1139 = .ok (.iconst 0, 1) := dk_3 (dk_at dksL_law_42 6 rfl rfl)
theorem dL_law_1140 : decode cL_law 1140 = .ok (.ireturn, 1) := dk_172 (dk_at dksL_law_42 7 rfl rfl)
theorem dL_law_1141 : decode cL_law 1141 = .ok (.aload_n 1, 1) := dk_43 (dk_at dksL_law_42 8 rfl rfl)
theorem dL_law_1142 : decode cL_law 1142 = .ok (.aload_n 0, 1) := dk_42 (dk_at dksL_law_42 9 rfl rfl)
theorem dL_law_1143 : decode cL_law 1143 = .ok (.iload_n 3, 1) := dk_29 (dk_at dksL_law_42 10 rfl rfl)
theorem dL_law_1144 : decode cL_law 1144 = .ok (.iconst 1, 1) := dk_4 (dk_at dksL_law_42 11 rfl rfl)
theorem dL_law_1145 : decode cL_law 1145 = .ok (.iadd, 1) := dk_96 (dk_at dksL_law_42 12 rfl rfl)
theorem dL_law_1146 : decode cL_law 1146 = .ok (.iaload, 1) := dk_46 (dk_at dksL_law_42 13 rfl rfl)
theorem dL_law_1147 : decode cL_law 1147 = .ok (.aload_n 0, 1) := dk_42 (dk_at dksL_law_42 14 rfl rfl)
theorem dL_law_1148 : decode cL_law 1148 = .ok (.iload_n 3, 1) := dk_29 (dk_at dksL_law_42 15 rfl rfl)
theorem dL_law_1149 : decode cL_law 1149 = .ok (.iconst 2, 1) := dk_5 (dk_at dksL_law_42 16 rfl rfl)
theorem dL_law_1150 : decode cL_law 1150 = .ok (.iadd, 1) := dk_96 (dk_at dksL_law_42 17 rfl rfl)
theorem dL_law_1151 : decode cL_law 1151 = .ok (.iaload, 1) := dk_46 (dk_at dksL_law_42 18 rfl rfl)
theorem dL_law_1152 : decode cL_law 1152 = .ok (.aload_n 0, 1) := dk_42 (dk_at dksL_law_42 19 rfl rfl)
theorem dL_law_1153 : decode cL_law 1153 = .ok (.iload_n 3, 1) := dk_29 (dk_at dksL_law_42 20 rfl rfl)
theorem dL_law_1154 : decode cL_law 1154 = .ok (.iconst 3, 1) := dk_6 (dk_at dksL_law_42 21 rfl rfl)
theorem dL_law_1155 : decode cL_law 1155 = .ok (.iadd, 1) := dk_96 (dk_at dksL_law_42 22 rfl rfl)
theorem dL_law_1156 : decode cL_law 1156 = .ok (.iaload, 1) := dk_46 (dk_at dksL_law_42 23 rfl rfl)
theorem dL_law_1157 : decode cL_law 1157 = .ok (.invokevirtual 135, 3) := dk_182 0 135 (dk_at dksL_law_43 0 rfl rfl)
theorem dL_law_1160 : decode cL_law 1160 = .ok (.aload_n 2, 1) := dk_44 (dk_at dksL_law_43 3 rfl rfl)
theorem dL_law_1161 : decode cL_law 1161 = .ok (.aload_n 0, 1) := dk_42 (dk_at dksL_law_43 4 rfl rfl)
theorem dL_law_1162 : decode cL_law 1162 = .ok (.iload_n 3, 1) := dk_29 (dk_at dksL_law_43 5 rfl rfl)
theorem dL_law_1163 : decode cL_law 1163 = .ok (.iconst 1, 1) := dk_4 (dk_at dksL_law_43 6 rfl rfl)
theorem dL_law_1164 : decode cL_law 1164 = .ok (.iadd, 1) := dk_96 (dk_at dksL_law_43 7 rfl rfl)
theorem dL_law_1165 : decode cL_law 1165 = .ok (.iaload, 1) := dk_46 (dk_at dksL_law_43 8 rfl rfl)
theorem dL_law_1166 : decode cL_law 1166 = .ok (.aload_n 0, 1) := dk_42 (dk_at dksL_law_43 9 rfl rfl)
theorem dL_law_1167 : decode cL_law 1167 = .ok (.iload_n 3, 1) := dk_29 (dk_at dksL_law_43 10 rfl rfl)
theorem dL_law_1168 : decode cL_law 1168 = .ok (.iconst 2, 1) := dk_5 (dk_at dksL_law_43 11 rfl rfl)
theorem dL_law_1169 : decode cL_law 1169 = .ok (.iadd, 1) := dk_96 (dk_at dksL_law_43 12 rfl rfl)
theorem dL_law_1170 : decode cL_law 1170 = .ok (.iaload, 1) := dk_46 (dk_at dksL_law_43 13 rfl rfl)
theorem dL_law_1171 : decode cL_law 1171 = .ok (.aload_n 0, 1) := dk_42 (dk_at dksL_law_43 14 rfl rfl)
theorem dL_law_1172 : decode cL_law 1172 = .ok (.iload_n 3, 1) := dk_29 (dk_at dksL_law_43 15 rfl rfl)
theorem dL_law_1173 : decode cL_law 1173 = .ok (.iconst 3, 1) := dk_6 (dk_at dksL_law_43 16 rfl rfl)
theorem dL_law_1174 : decode cL_law 1174 = .ok (.iadd, 1) := dk_96 (dk_at dksL_law_43 17 rfl rfl)
theorem dL_law_1175 : decode cL_law 1175 = .ok (.iaload, 1) := dk_46 (dk_at dksL_law_43 18 rfl rfl)
theorem dL_law_1176 : decode cL_law 1176 = .ok (.invokevirtual 139, 3) := dk_182 0 139 (dk_at dksL_law_43 19 rfl rfl)
theorem dL_law_1179 : decode cL_law 1179 = .ok (.lcmp, 1) := dk_148 (dk_at dksL_law_43 22 rfl rfl)
theorem dL_law_1180 : decode cL_law 1180 = .ok (.ifCond .eq 276, 3) := dk_153 1 20 (dk_at dksL_law_44 0 rfl rfl)
theorem dL_law_1183 : decode cL_law 1183 = .ok (.iconst 0, 1) := dk_3 (dk_at dksL_law_44 3 rfl rfl)
theorem dL_law_1184 : decode cL_law 1184 = .ok (.ireturn, 1) := dk_172 (dk_at dksL_law_44 4 rfl rfl)
theorem dL_law_1185 : decode cL_law 1185 = .ok (.aload_n 1, 1) := dk_43 (dk_at dksL_law_44 5 rfl rfl)
theorem dL_law_1186 : decode cL_law 1186 = .ok (.aload_n 0, 1) := dk_42 (dk_at dksL_law_44 6 rfl rfl)
theorem dL_law_1187 : decode cL_law 1187 = .ok (.iload_n 3, 1) := dk_29 (dk_at dksL_law_44 7 rfl rfl)
theorem dL_law_1188 : decode cL_law 1188 = .ok (.iconst 1, 1) := dk_4 (dk_at dksL_law_44 8 rfl rfl)
theorem dL_law_1189 : decode cL_law 1189 = .ok (.iadd, 1) := dk_96 (dk_at dksL_law_44 9 rfl rfl)
theorem dL_law_1190 : decode cL_law 1190 = .ok (.iaload, 1) := dk_46 (dk_at dksL_law_44 10 rfl rfl)
theorem dL_law_1191 : decode cL_law 1191 = .ok (.aload_n 0, 1) := dk_42 (dk_at dksL_law_44 11 rfl rfl)
theorem dL_law_1192 : decode cL_law 1192 = .ok (.iload_n 3, 1) := dk_29 (dk_at dksL_law_44 12 rfl rfl)
theorem dL_law_1193 : decode cL_law 1193 = .ok (.iconst 2, 1) := dk_5 (dk_at dksL_law_44 13 rfl rfl)
theorem dL_law_1194 : decode cL_law 1194 = .ok (.iadd, 1) := dk_96 (dk_at dksL_law_44 14 rfl rfl)
theorem dL_law_1195 : decode cL_law 1195 = .ok (.iaload, 1) := dk_46 (dk_at dksL_law_44 15 rfl rfl)
theorem dL_law_1196 : decode cL_law 1196 = .ok (.invokevirtual 140, 3) := dk_182 0 140 (dk_at dksL_law_44 16 rfl rfl)
theorem dL_law_1199 : decode cL_law 1199 = .ok (.aload_n 2, 1) := dk_44 (dk_at dksL_law_44 19 rfl rfl)
theorem dL_law_1200 : decode cL_law 1200 = .ok (.aload_n 0, 1) := dk_42 (dk_at dksL_law_44 20 rfl rfl)
theorem dL_law_1201 : decode cL_law 1201 = .ok (.iload_n 3, 1) := dk_29 (dk_at dksL_law_44 21 rfl rfl)
theorem dL_law_1202 : decode cL_law 1202 = .ok (.iconst 1, 1) := dk_4 (dk_at dksL_law_44 22 rfl rfl)
theorem dL_law_1203 : decode cL_law 1203 = .ok (.iadd, 1) := dk_96 (dk_at dksL_law_44 23 rfl rfl)
theorem dL_law_1204 : decode cL_law 1204 = .ok (.iaload, 1) := dk_46 (dk_at dksL_law_45 0 rfl rfl)
theorem dL_law_1205 : decode cL_law 1205 = .ok (.aload_n 0, 1) := dk_42 (dk_at dksL_law_45 1 rfl rfl)
theorem dL_law_1206 : decode cL_law 1206 = .ok (.iload_n 3, 1) := dk_29 (dk_at dksL_law_45 2 rfl rfl)
theorem dL_law_1207 : decode cL_law 1207 = .ok (.iconst 2, 1) := dk_5 (dk_at dksL_law_45 3 rfl rfl)
theorem dL_law_1208 : decode cL_law 1208 = .ok (.iadd, 1) := dk_96 (dk_at dksL_law_45 4 rfl rfl)
theorem dL_law_1209 : decode cL_law 1209 = .ok (.iaload, 1) := dk_46 (dk_at dksL_law_45 5 rfl rfl)
theorem dL_law_1210 : decode cL_law 1210 = .ok (.invokevirtual 143, 3) := dk_182 0 143 (dk_at dksL_law_45 6 rfl rfl)
theorem dL_law_1213 : decode cL_law 1213 = .ok (.if_icmp .eq 243, 3) := dk_159 0 243 (dk_at dksL_law_45 9 rfl rfl)
theorem dL_law_1216 : decode cL_law 1216 = .ok (.iconst 0, 1) := dk_3 (dk_at dksL_law_45 12 rfl rfl)
theorem dL_law_1217 : decode cL_law 1217 = .ok (.ireturn, 1) := dk_172 (dk_at dksL_law_45 13 rfl rfl)
theorem dL_law_1218 : decode cL_law 1218 = .ok (.aload_n 1, 1) := dk_43 (dk_at dksL_law_45 14 rfl rfl)
theorem dL_law_1219 : decode cL_law 1219 = .ok (.aload_n 0, 1) := dk_42 (dk_at dksL_law_45 15 rfl rfl)
theorem dL_law_1220 : decode cL_law 1220 = .ok (.iload_n 3, 1) := dk_29 (dk_at dksL_law_45 16 rfl rfl)
theorem dL_law_1221 : decode cL_law 1221 = .ok (.iconst 1, 1) := dk_4 (dk_at dksL_law_45 17 rfl rfl)
theorem dL_law_1222 : decode cL_law 1222 = .ok (.iadd, 1) := dk_96 (dk_at dksL_law_45 18 rfl rfl)
theorem dL_law_1223 : decode cL_law 1223 = .ok (.iaload, 1) := dk_46 (dk_at dksL_law_45 19 rfl rfl)
theorem dL_law_1224 : decode cL_law 1224 = .ok (.aload_n 0, 1) := dk_42 (dk_at dksL_law_45 20 rfl rfl)
theorem dL_law_1225 : decode cL_law 1225 = .ok (.iload_n 3, 1) := dk_29 (dk_at dksL_law_45 21 rfl rfl)
theorem dL_law_1226 : decode cL_law 1226 = .ok (.iconst 2, 1) := dk_5 (dk_at dksL_law_45 22 rfl rfl)
theorem dL_law_1227 : decode cL_law 1227 = .ok (.iadd, 1) := dk_96 (dk_at dksL_law_45 23 rfl rfl)
theorem dL_law_1228 : decode cL_law 1228 = .ok (.iaload, 1) := dk_46 (dk_at dksL_law_46 0 rfl rfl)
theorem dL_law_1229 : decode cL_law 1229 = .ok (.aload_n 0, 1) := dk_42 (dk_at dksL_law_46 1 rfl rfl)
theorem dL_law_1230 : decode cL_law 1230 = .ok (.iload_n 3, 1) := dk_29 (dk_at dksL_law_46 2 rfl rfl)
theorem dL_law_1231 : decode cL_law 1231 = .ok (.iconst 3, 1) := dk_6 (dk_at dksL_law_46 3 rfl rfl)
theorem dL_law_1232 : decode cL_law 1232 = .ok (.iadd, 1) := dk_96 (dk_at dksL_law_46 4 rfl rfl)
theorem dL_law_1233 : decode cL_law 1233 = .ok (.iaload, 1) := dk_46 (dk_at dksL_law_46 5 rfl rfl)
theorem dL_law_1234 : decode cL_law 1234 = .ok (.aload_n 0, 1) := dk_42 (dk_at dksL_law_46 6 rfl rfl)
theorem dL_law_1235 : decode cL_law 1235 = .ok (.iload_n 3, 1) := dk_29 (dk_at dksL_law_46 7 rfl rfl)
theorem dL_law_1236 : decode cL_law 1236 = .ok (.iconst 4, 1) := dk_7 (dk_at dksL_law_46 8 rfl rfl)
theorem dL_law_1237 : decode cL_law 1237 = .ok (.iadd, 1) := dk_96 (dk_at dksL_law_46 9 rfl rfl)
theorem dL_law_1238 : decode cL_law 1238 = .ok (.iaload, 1) := dk_46 (dk_at dksL_law_46 10 rfl rfl)
theorem dL_law_1239 : decode cL_law 1239 = .ok (.invokevirtual 144, 3) := dk_182 0 144 (dk_at dksL_law_46 11 rfl rfl)
theorem dL_law_1242 : decode cL_law 1242 = .ok (.aload_n 2, 1) := dk_44 (dk_at dksL_law_46 14 rfl rfl)
theorem dL_law_1243 : decode cL_law 1243 = .ok (.aload_n 0, 1) := dk_42 (dk_at dksL_law_46 15 rfl rfl)
theorem dL_law_1244 : decode cL_law 1244 = .ok (.iload_n 3, 1) := dk_29 (dk_at dksL_law_46 16 rfl rfl)
theorem dL_law_1245 : decode cL_law 1245 = .ok (.iconst 1, 1) := dk_4 (dk_at dksL_law_46 17 rfl rfl)
theorem dL_law_1246 : decode cL_law 1246 = .ok (.iadd, 1) := dk_96 (dk_at dksL_law_46 18 rfl rfl)
theorem dL_law_1247 : decode cL_law 1247 = .ok (.iaload, 1) := dk_46 (dk_at dksL_law_46 19 rfl rfl)
theorem dL_law_1248 : decode cL_law 1248 = .ok (.aload_n 0, 1) := dk_42 (dk_at dksL_law_46 20 rfl rfl)
theorem dL_law_1249 : decode cL_law 1249 = .ok (.iload_n 3, 1) := dk_29 (dk_at dksL_law_46 21 rfl rfl)
theorem dL_law_1250 : decode cL_law 1250 = .ok (.iconst 2, 1) := dk_5 (dk_at dksL_law_46 22 rfl rfl)
theorem dL_law_1251 : decode cL_law 1251 = .ok (.iadd, 1) := dk_96 (dk_at dksL_law_46 23 rfl rfl)
theorem dL_law_1252 : decode cL_law 1252 = .ok (.iaload, 1) := dk_46 (dk_at dksL_law_47 0 rfl rfl)
theorem dL_law_1253 : decode cL_law 1253 = .ok (.aload_n 0, 1) := dk_42 (dk_at dksL_law_47 1 rfl rfl)
theorem dL_law_1254 : decode cL_law 1254 = .ok (.iload_n 3, 1) := dk_29 (dk_at dksL_law_47 2 rfl rfl)
theorem dL_law_1255 : decode cL_law 1255 = .ok (.iconst 3, 1) := dk_6 (dk_at dksL_law_47 3 rfl rfl)
theorem dL_law_1256 : decode cL_law 1256 = .ok (.iadd, 1) := dk_96 (dk_at dksL_law_47 4 rfl rfl)
theorem dL_law_1257 : decode cL_law 1257 = .ok (.iaload, 1) := dk_46 (dk_at dksL_law_47 5 rfl rfl)
theorem dL_law_1258 : decode cL_law 1258 = .ok (.aload_n 0, 1) := dk_42 (dk_at dksL_law_47 6 rfl rfl)
theorem dL_law_1259 : decode cL_law 1259 = .ok (.iload_n 3, 1) := dk_29 (dk_at dksL_law_47 7 rfl rfl)
theorem dL_law_1260 : decode cL_law 1260 = .ok (.iconst 4, 1) := dk_7 (dk_at dksL_law_47 8 rfl rfl)
theorem dL_law_1261 : decode cL_law 1261 = .ok (.iadd, 1) := dk_96 (dk_at dksL_law_47 9 rfl rfl)
theorem dL_law_1262 : decode cL_law 1262 = .ok (.iaload, 1) := dk_46 (dk_at dksL_law_47 10 rfl rfl)
theorem dL_law_1263 : decode cL_law 1263 = .ok (.invokevirtual 148, 3) := dk_182 0 148 (dk_at dksL_law_47 11 rfl rfl)
theorem dL_law_1266 : decode cL_law 1266 = .ok (.lcmp, 1) := dk_148 (dk_at dksL_law_47 14 rfl rfl)
theorem dL_law_1267 : decode cL_law 1267 = .ok (.ifCond .eq 189, 3) := dk_153 0 189 (dk_at dksL_law_47 15 rfl rfl)
theorem dL_law_1270 : decode cL_law 1270 = .ok (.iconst 0, 1) := dk_3 (dk_at dksL_law_47 18 rfl rfl)
theorem dL_law_1271 : decode cL_law 1271 = .ok (.ireturn, 1) := dk_172 (dk_at dksL_law_47 19 rfl rfl)
theorem dL_law_1272 : decode cL_law 1272 = .ok (.aload_n 1, 1) := dk_43 (dk_at dksL_law_47 20 rfl rfl)
theorem dL_law_1273 : decode cL_law 1273 = .ok (.aload_n 0, 1) := dk_42 (dk_at dksL_law_47 21 rfl rfl)
theorem dL_law_1274 : decode cL_law 1274 = .ok (.iload_n 3, 1) := dk_29 (dk_at dksL_law_47 22 rfl rfl)
theorem dL_law_1275 : decode cL_law 1275 = .ok (.iconst 1, 1) := dk_4 (dk_at dksL_law_47 23 rfl rfl)
theorem dL_law_1276 : decode cL_law 1276 = .ok (.iadd, 1) := dk_96 (dk_at dksL_law_48 0 rfl rfl)
theorem dL_law_1277 : decode cL_law 1277 = .ok (.iaload, 1) := dk_46 (dk_at dksL_law_48 1 rfl rfl)
theorem dL_law_1278 : decode cL_law 1278 = .ok (.aload_n 0, 1) := dk_42 (dk_at dksL_law_48 2 rfl rfl)
theorem dL_law_1279 : decode cL_law 1279 = .ok (.iload_n 3, 1) := dk_29 (dk_at dksL_law_48 3 rfl rfl)
theorem dL_law_1280 : decode cL_law 1280 = .ok (.iconst 2, 1) := dk_5 (dk_at dksL_law_48 4 rfl rfl)
theorem dL_law_1281 : decode cL_law 1281 = .ok (.iadd, 1) := dk_96 (dk_at dksL_law_48 5 rfl rfl)
theorem dL_law_1282 : decode cL_law 1282 = .ok (.iaload, 1) := dk_46 (dk_at dksL_law_48 6 rfl rfl)
theorem dL_law_1283 : decode cL_law 1283 = .ok (.aload_n 0, 1) := dk_42 (dk_at dksL_law_48 7 rfl rfl)
theorem dL_law_1284 : decode cL_law 1284 = .ok (.iload_n 3, 1) := dk_29 (dk_at dksL_law_48 8 rfl rfl)
theorem dL_law_1285 : decode cL_law 1285 = .ok (.iconst 3, 1) := dk_6 (dk_at dksL_law_48 9 rfl rfl)
theorem dL_law_1286 : decode cL_law 1286 = .ok (.iadd, 1) := dk_96 (dk_at dksL_law_48 10 rfl rfl)
theorem dL_law_1287 : decode cL_law 1287 = .ok (.iaload, 1) := dk_46 (dk_at dksL_law_48 11 rfl rfl)
theorem dL_law_1288 : decode cL_law 1288 = .ok (.invokevirtual 149, 3) := dk_182 0 149 (dk_at dksL_law_48 12 rfl rfl)
theorem dL_law_1291 : decode cL_law 1291 = .ok (.aload_n 2, 1) := dk_44 (dk_at dksL_law_48 15 rfl rfl)
theorem dL_law_1292 : decode cL_law 1292 = .ok (.aload_n 0, 1) := dk_42 (dk_at dksL_law_48 16 rfl rfl)
theorem dL_law_1293 : decode cL_law 1293 = .ok (.iload_n 3, 1) := dk_29 (dk_at dksL_law_48 17 rfl rfl)
theorem dL_law_1294 : decode cL_law 1294 = .ok (.iconst 1, 1) := dk_4 (dk_at dksL_law_48 18 rfl rfl)
theorem dL_law_1295 : decode cL_law 1295 = .ok (.iadd, 1) := dk_96 (dk_at dksL_law_48 19 rfl rfl)
theorem dL_law_1296 : decode cL_law 1296 = .ok (.iaload, 1) := dk_46 (dk_at dksL_law_48 20 rfl rfl)
theorem dL_law_1297 : decode cL_law 1297 = .ok (.aload_n 0, 1) := dk_42 (dk_at dksL_law_48 21 rfl rfl)
theorem dL_law_1298 : decode cL_law 1298 = .ok (.iload_n 3, 1) := dk_29 (dk_at dksL_law_48 22 rfl rfl)
theorem dL_law_1299 : decode cL_law 1299 = .ok (.iconst 2, 1) := dk_5 (dk_at dksL_law_48 23 rfl rfl)
theorem dL_law_1300 : decode cL_law 1300 = .ok (.iadd, 1) := dk_96 (dk_at dksL_law_49 0 rfl rfl)
theorem dL_law_1301 : decode cL_law 1301 = .ok (.iaload, 1) := dk_46 (dk_at dksL_law_49 1 rfl rfl)
theorem dL_law_1302 : decode cL_law 1302 = .ok (.aload_n 0, 1) := dk_42 (dk_at dksL_law_49 2 rfl rfl)
theorem dL_law_1303 : decode cL_law 1303 = .ok (.iload_n 3, 1) := dk_29 (dk_at dksL_law_49 3 rfl rfl)
theorem dL_law_1304 : decode cL_law 1304 = .ok (.iconst 3, 1) := dk_6 (dk_at dksL_law_49 4 rfl rfl)
theorem dL_law_1305 : decode cL_law 1305 = .ok (.iadd, 1) := dk_96 (dk_at dksL_law_49 5 rfl rfl)
theorem dL_law_1306 : decode cL_law 1306 = .ok (.iaload, 1) := dk_46 (dk_at dksL_law_49 6 rfl rfl)
theorem dL_law_1307 : decode cL_law 1307 = .ok (.invokevirtual 152, 3) := dk_182 0 152 (dk_at dksL_law_49 7 rfl rfl)
theorem dL_law_1310 : decode cL_law 1310 = .ok (.if_icmp .eq 146, 3) := dk_159 0 146 (dk_at dksL_law_49 10 rfl rfl)
theorem dL_law_1313 : decode cL_law 1313 = .ok (.iconst 0, 1) := dk_3 (dk_at dksL_law_49 13 rfl rfl)
theorem dL_law_1314 : decode cL_law 1314 = .ok (.ireturn, 1) := dk_172 (dk_at dksL_law_49 14 rfl rfl)
theorem dL_law_1315 : decode cL_law 1315 = .ok (.aload_n 1, 1) := dk_43 (dk_at dksL_law_49 15 rfl rfl)
theorem dL_law_1316 : decode cL_law 1316 = .ok (.aload_n 0, 1) := dk_42 (dk_at dksL_law_49 16 rfl rfl)
theorem dL_law_1317 : decode cL_law 1317 = .ok (.iload_n 3, 1) := dk_29 (dk_at dksL_law_49 17 rfl rfl)
theorem dL_law_1318 : decode cL_law 1318 = .ok (.iconst 1, 1) := dk_4 (dk_at dksL_law_49 18 rfl rfl)
theorem dL_law_1319 : decode cL_law 1319 = .ok (.iadd, 1) := dk_96 (dk_at dksL_law_49 19 rfl rfl)
theorem dL_law_1320 : decode cL_law 1320 = .ok (.iaload, 1) := dk_46 (dk_at dksL_law_49 20 rfl rfl)
theorem dL_law_1321 : decode cL_law 1321 = .ok (.invokevirtual 153, 3) := dk_182 0 153 (dk_at dksL_law_49 21 rfl rfl)
theorem dL_law_1324 : decode cL_law 1324 = .ok (.aload_n 2, 1) := dk_44 (dk_at dksL_law_50 0 rfl rfl)
theorem dL_law_1325 : decode cL_law 1325 = .ok (.aload_n 0, 1) := dk_42 (dk_at dksL_law_50 1 rfl rfl)
theorem dL_law_1326 : decode cL_law 1326 = .ok (.iload_n 3, 1) := dk_29 (dk_at dksL_law_50 2 rfl rfl)
theorem dL_law_1327 : decode cL_law 1327 = .ok (.iconst 1, 1) := dk_4 (dk_at dksL_law_50 3 rfl rfl)
theorem dL_law_1328 : decode cL_law 1328 = .ok (.iadd, 1) := dk_96 (dk_at dksL_law_50 4 rfl rfl)
theorem dL_law_1329 : decode cL_law 1329 = .ok (.iaload, 1) := dk_46 (dk_at dksL_law_50 5 rfl rfl)
theorem dL_law_1330 : decode cL_law 1330 = .ok (.invokevirtual 156, 3) := dk_182 0 156 (dk_at dksL_law_50 6 rfl rfl)
theorem dL_law_1333 : decode cL_law 1333 = .ok (.if_icmp .eq 123, 3) := dk_159 0 123 (dk_at dksL_law_50 9 rfl rfl)
theorem dL_law_1336 : decode cL_law 1336 = .ok (.iconst 0, 1) := dk_3 (dk_at dksL_law_50 12 rfl rfl)
theorem dL_law_1337 : decode cL_law 1337 = .ok (.ireturn, 1) := dk_172 (dk_at dksL_law_50 13 rfl rfl)
theorem dL_law_1338 : decode cL_law 1338 = .ok (.aload_n 1, 1) := dk_43 (dk_at dksL_law_50 14 rfl rfl)
theorem dL_law_1339 : decode cL_law 1339 = .ok (.aload_n 0, 1) := dk_42 (dk_at dksL_law_50 15 rfl rfl)
theorem dL_law_1340 : decode cL_law 1340 = .ok (.iload_n 3, 1) := dk_29 (dk_at dksL_law_50 16 rfl rfl)
theorem dL_law_1341 : decode cL_law 1341 = .ok (.iconst 1, 1) := dk_4 (dk_at dksL_law_50 17 rfl rfl)
theorem dL_law_1342 : decode cL_law 1342 = .ok (.iadd, 1) := dk_96 (dk_at dksL_law_50 18 rfl rfl)
theorem dL_law_1343 : decode cL_law 1343 = .ok (.iaload, 1) := dk_46 (dk_at dksL_law_50 19 rfl rfl)
theorem dL_law_1344 : decode cL_law 1344 = .ok (.invokevirtual 157, 3) := dk_182 0 157 (dk_at dksL_law_50 20 rfl rfl)
theorem dL_law_1347 : decode cL_law 1347 = .ok (.aload_n 2, 1) := dk_44 (dk_at dksL_law_50 23 rfl rfl)
theorem dL_law_1348 : decode cL_law 1348 = .ok (.aload_n 0, 1) := dk_42 (dk_at dksL_law_51 0 rfl rfl)
theorem dL_law_1349 : decode cL_law 1349 = .ok (.iload_n 3, 1) := dk_29 (dk_at dksL_law_51 1 rfl rfl)
theorem dL_law_1350 : decode cL_law 1350 = .ok (.iconst 1, 1) := dk_4 (dk_at dksL_law_51 2 rfl rfl)
theorem dL_law_1351 : decode cL_law 1351 = .ok (.iadd, 1) := dk_96 (dk_at dksL_law_51 3 rfl rfl)
theorem dL_law_1352 : decode cL_law 1352 = .ok (.iaload, 1) := dk_46 (dk_at dksL_law_51 4 rfl rfl)
theorem dL_law_1353 : decode cL_law 1353 = .ok (.invokevirtual 160, 3) := dk_182 0 160 (dk_at dksL_law_51 5 rfl rfl)
theorem dL_law_1356 : decode cL_law 1356 = .ok (.if_icmp .eq 100, 3) := dk_159 0 100 (dk_at dksL_law_51 8 rfl rfl)
theorem dL_law_1359 : decode cL_law 1359 = .ok (.iconst 0, 1) := dk_3 (dk_at dksL_law_51 11 rfl rfl)
theorem dL_law_1360 : decode cL_law 1360 = .ok (.ireturn, 1) := dk_172 (dk_at dksL_law_51 12 rfl rfl)
theorem dL_law_1361 : decode cL_law 1361 = .ok (.aload_n 1, 1) := dk_43 (dk_at dksL_law_51 13 rfl rfl)
theorem dL_law_1362 : decode cL_law 1362 = .ok (.aload_n 0, 1) := dk_42 (dk_at dksL_law_51 14 rfl rfl)
theorem dL_law_1363 : decode cL_law 1363 = .ok (.iload_n 3, 1) := dk_29 (dk_at dksL_law_51 15 rfl rfl)
theorem dL_law_1364 : decode cL_law 1364 = .ok (.iconst 1, 1) := dk_4 (dk_at dksL_law_51 16 rfl rfl)
theorem dL_law_1365 : decode cL_law 1365 = .ok (.iadd, 1) := dk_96 (dk_at dksL_law_51 17 rfl rfl)
theorem dL_law_1366 : decode cL_law 1366 = .ok (.iaload, 1) := dk_46 (dk_at dksL_law_51 18 rfl rfl)
theorem dL_law_1367 : decode cL_law 1367 = .ok (.invokevirtual 161, 3) := dk_182 0 161 (dk_at dksL_law_51 19 rfl rfl)
theorem dL_law_1370 : decode cL_law 1370 = .ok (.aload_n 2, 1) := dk_44 (dk_at dksL_law_51 22 rfl rfl)
theorem dL_law_1371 : decode cL_law 1371 = .ok (.aload_n 0, 1) := dk_42 (dk_at dksL_law_51 23 rfl rfl)
theorem dL_law_1372 : decode cL_law 1372 = .ok (.iload_n 3, 1) := dk_29 (dk_at dksL_law_52 0 rfl rfl)
theorem dL_law_1373 : decode cL_law 1373 = .ok (.iconst 1, 1) := dk_4 (dk_at dksL_law_52 1 rfl rfl)
theorem dL_law_1374 : decode cL_law 1374 = .ok (.iadd, 1) := dk_96 (dk_at dksL_law_52 2 rfl rfl)
theorem dL_law_1375 : decode cL_law 1375 = .ok (.iaload, 1) := dk_46 (dk_at dksL_law_52 3 rfl rfl)
theorem dL_law_1376 : decode cL_law 1376 = .ok (.invokevirtual 164, 3) := dk_182 0 164 (dk_at dksL_law_52 4 rfl rfl)
theorem dL_law_1379 : decode cL_law 1379 = .ok (.if_icmp .eq 77, 3) := dk_159 0 77 (dk_at dksL_law_52 7 rfl rfl)
theorem dL_law_1382 : decode cL_law 1382 = .ok (.iconst 0, 1) := dk_3 (dk_at dksL_law_52 10 rfl rfl)
theorem dL_law_1383 : decode cL_law 1383 = .ok (.ireturn, 1) := dk_172 (dk_at dksL_law_52 11 rfl rfl)
theorem dL_law_1384 : decode cL_law 1384 = .ok (.aload_n 1, 1) := dk_43 (dk_at dksL_law_52 12 rfl rfl)
theorem dL_law_1385 : decode cL_law 1385 = .ok (.aload_n 0, 1) := dk_42 (dk_at dksL_law_52 13 rfl rfl)
theorem dL_law_1386 : decode cL_law 1386 = .ok (.iload_n 3, 1) := dk_29 (dk_at dksL_law_52 14 rfl rfl)
theorem dL_law_1387 : decode cL_law 1387 = .ok (.iconst 1, 1) := dk_4 (dk_at dksL_law_52 15 rfl rfl)
theorem dL_law_1388 : decode cL_law 1388 = .ok (.iadd, 1) := dk_96 (dk_at dksL_law_52 16 rfl rfl)
theorem dL_law_1389 : decode cL_law 1389 = .ok (.iaload, 1) := dk_46 (dk_at dksL_law_52 17 rfl rfl)
theorem dL_law_1390 : decode cL_law 1390 = .ok (.invokevirtual 165, 3) := dk_182 0 165 (dk_at dksL_law_52 18 rfl rfl)
theorem dL_law_1393 : decode cL_law 1393 = .ok (.aload_n 2, 1) := dk_44 (dk_at dksL_law_52 21 rfl rfl)
theorem dL_law_1394 : decode cL_law 1394 = .ok (.aload_n 0, 1) := dk_42 (dk_at dksL_law_52 22 rfl rfl)
theorem dL_law_1395 : decode cL_law 1395 = .ok (.iload_n 3, 1) := dk_29 (dk_at dksL_law_52 23 rfl rfl)
theorem dL_law_1396 : decode cL_law 1396 = .ok (.iconst 1, 1) := dk_4 (dk_at dksL_law_53 0 rfl rfl)
theorem dL_law_1397 : decode cL_law 1397 = .ok (.iadd, 1) := dk_96 (dk_at dksL_law_53 1 rfl rfl)
theorem dL_law_1398 : decode cL_law 1398 = .ok (.iaload, 1) := dk_46 (dk_at dksL_law_53 2 rfl rfl)
theorem dL_law_1399 : decode cL_law 1399 = .ok (.invokevirtual 168, 3) := dk_182 0 168 (dk_at dksL_law_53 3 rfl rfl)
theorem dL_law_1402 : decode cL_law 1402 = .ok (.if_icmp .eq 54, 3) := dk_159 0 54 (dk_at dksL_law_53 6 rfl rfl)
theorem dL_law_1405 : decode cL_law 1405 = .ok (.iconst 0, 1) := dk_3 (dk_at dksL_law_53 9 rfl rfl)
theorem dL_law_1406 : decode cL_law 1406 = .ok (.ireturn, 1) := dk_172 (dk_at dksL_law_53 10 rfl rfl)
theorem dL_law_1407 : decode cL_law 1407 = .ok (.aload_n 1, 1) := dk_43 (dk_at dksL_law_53 11 rfl rfl)
theorem dL_law_1408 : decode cL_law 1408 = .ok (.invokevirtual 169, 3) := dk_182 0 169 (dk_at dksL_law_53 12 rfl rfl)
theorem dL_law_1411 : decode cL_law 1411 = .ok (.aload_n 2, 1) := dk_44 (dk_at dksL_law_53 15 rfl rfl)
theorem dL_law_1412 : decode cL_law 1412 = .ok (.invokevirtual 172, 3) := dk_182 0 172 (dk_at dksL_law_53 16 rfl rfl)
theorem dL_law_1415 : decode cL_law 1415 = .ok (.if_icmp .eq 41, 3) := dk_159 0 41 (dk_at dksL_law_53 19 rfl rfl)
theorem dL_law_1418 : decode cL_law 1418 = .ok (.iconst 0, 1) := dk_3 (dk_at dksL_law_53 22 rfl rfl)
theorem dL_law_1419 : decode cL_law 1419 = .ok (.ireturn, 1) := dk_172 (dk_at dksL_law_53 23 rfl rfl)
theorem dL_law_1420 : decode cL_law 1420 = .ok (.aload_n 1, 1) := dk_43 (dk_at dksL_law_54 0 rfl rfl)
theorem dL_law_1421 : decode cL_law 1421 = .ok (.invokevirtual 173, 3) := dk_182 0 173 (dk_at dksL_law_54 1 rfl rfl)
theorem dL_law_1424 : decode cL_law 1424 = .ok (.aload_n 2, 1) := dk_44 (dk_at dksL_law_54 4 rfl rfl)
theorem dL_law_1425 : decode cL_law 1425 = .ok (.invokevirtual 176, 3) := dk_182 0 176 (dk_at dksL_law_54 5 rfl rfl)
theorem dL_law_1428 : decode cL_law 1428 = .ok (.if_icmp .eq 28, 3) := dk_159 0 28 (dk_at dksL_law_54 8 rfl rfl)
theorem dL_law_1431 : decode cL_law 1431 = .ok (.iconst 0, 1) := dk_3 (dk_at dksL_law_54 11 rfl rfl)
theorem dL_law_1432 : decode cL_law 1432 = .ok (.ireturn, 1) := dk_172 (dk_at dksL_law_54 12 rfl rfl)
theorem dL_law_1433 : decode cL_law 1433 = .ok (.aload_n 1, 1) := dk_43 (dk_at dksL_law_54 13 rfl rfl)
theorem dL_law_1434 : decode cL_law 1434 = .ok (.aload_n 0, 1) := dk_42 (dk_at dksL_law_54 14 rfl rfl)
theorem dL_law_1435 : decode cL_law 1435 = .ok (.iload_n 3, 1) := dk_29 (dk_at dksL_law_54 15 rfl rfl)
theorem dL_law_1436 : decode cL_law 1436 = .ok (.iconst 1, 1) := dk_4 (dk_at dksL_law_54 16 rfl rfl)
theorem dL_law_1437 : decode cL_law 1437 = .ok (.iadd, 1) := dk_96 (dk_at dksL_law_54 17 rfl rfl)
theorem dL_law_1438 : decode cL_law 1438 = .ok (.iaload, 1) := dk_46 (dk_at dksL_law_54 18 rfl rfl)
theorem dL_law_1439 : decode cL_law 1439 = .ok (.invokevirtual 177, 3) := dk_182 0 177 (dk_at dksL_law_54 19 rfl rfl)
theorem dL_law_1442 : decode cL_law 1442 = .ok (.aload_n 2, 1) := dk_44 (dk_at dksL_law_54 22 rfl rfl)
theorem dL_law_1443 : decode cL_law 1443 = .ok (.aload_n 0, 1) := dk_42 (dk_at dksL_law_54 23 rfl rfl)
theorem dL_law_1444 : decode cL_law 1444 = .ok (.iload_n 3, 1) := dk_29 (dk_at dksL_law_55 0 rfl rfl)
theorem dL_law_1445 : decode cL_law 1445 = .ok (.iconst 1, 1) := dk_4 (dk_at dksL_law_55 1 rfl rfl)
theorem dL_law_1446 : decode cL_law 1446 = .ok (.iadd, 1) := dk_96 (dk_at dksL_law_55 2 rfl rfl)
theorem dL_law_1447 : decode cL_law 1447 = .ok (.iaload, 1) := dk_46 (dk_at dksL_law_55 3 rfl rfl)
theorem dL_law_1448 : decode cL_law 1448 = .ok (.invokevirtual 180, 3) := dk_182 0 180 (dk_at dksL_law_55 4 rfl rfl)
theorem dL_law_1451 : decode cL_law 1451 = .ok (.if_icmp .eq 5, 3) := dk_159 0 5 (dk_at dksL_law_55 7 rfl rfl)
theorem dL_law_1454 : decode cL_law 1454 = .ok (.iconst 0, 1) := dk_3 (dk_at dksL_law_55 10 rfl rfl)
theorem dL_law_1455 : decode cL_law 1455 = .ok (.ireturn, 1) := dk_172 (dk_at dksL_law_55 11 rfl rfl)
theorem dL_law_1456 : decode cL_law 1456 = .ok (.iinc 3 7, 3) := dk_132 3 7 (dk_at dksL_law_55 12 rfl rfl)
theorem dL_law_1459 : decode cL_law 1459 = .ok (.goto (-1441), 3) := dk_167 250 95 (dk_at dksL_law_55 15 rfl rfl)
theorem dL_law_1462 : decode cL_law 1462 = .ok (.iconst 1, 1) := dk_4 (dk_at dksL_law_55 18 rfl rfl)
theorem dL_law_1463 : decode cL_law 1463 = .ok (.ireturn, 1) := dk_172 (dk_at dksL_law_55 19 rfl rfl)

