/-! CallMigratorModel -/
set_option maxRecDepth 100000
def RX5 : String := "CallMigratorModel"
def TX5 : u_T := fun k => match k with
  | 0 => ("CallMigratorModel", "all", "[I", true)
  | 1 => ("CallMigratorModel", "saved", "[I", true)
  | 2 => ("CallMigratorModel", "savedMany", "I", false)
  | 3 => ("CallMigratorModel", "errors", "[I", true)
  | 4 => ("CallMigratorModel", "text", "[I", true)
  | 5 => ("CallMigratorModel", "textLong", "I", false)
  | 6 => ("CallMigratorModel", "read", "[I", true)
  | 7 => ("CallMigratorModel", "readMany", "I", false)
  | 8 => ("CallMigratorModel", "waits", "[I", true)
  | 9 => ("CallMigratorModel", "open", "I", false)
  | 10 => ("CallMigratorModel", "place", "I", false)
  | 11 => ("CallMigratorModel", "built", "[I", true)
  | 12 => ("CallMigratorModel", "builtMany", "I", false)
  | 13 => ("CallMigratorModel", "parts", "[I", true)
  | 14 => ("CallMigratorModel", "partMany", "I", false)
  | 15 => ("CallMigratorModel", "taken", "[I", true)
  | 16 => ("CallMigratorModel", "calls", "[I", true)
  | 17 => ("CallMigratorModel", "lacks", "[I", true)
  | 18 => ("CallMigratorModel", "callMany", "I", false)
  | 19 => ("CallMigratorModel", "total", "I", false)
  | 20 => ("CallMigratorModel", "values", "[I", true)
  | 21 => ("CallMigratorModel", "told", "[I", true)
  | _ => ("CallMigratorModel", "toldLong", "I", false)
def tyX5 : Nat → FieldType := fun k => match k with
  | 0 => .array .int
  | 1 => .array .int
  | 2 => .int
  | 3 => .array .int
  | 4 => .array .int
  | 5 => .int
  | 6 => .array .int
  | 7 => .int
  | 8 => .array .int
  | 9 => .int
  | 10 => .int
  | 11 => .array .int
  | 12 => .int
  | 13 => .array .int
  | 14 => .int
  | 15 => .array .int
  | 16 => .array .int
  | 17 => .array .int
  | 18 => .int
  | 19 => .int
  | 20 => .array .int
  | 21 => .array .int
  | _ => .int
abbrev wsX50 : List Cond := u_ws RX5 TX5 23
set_option maxRecDepth 100000 in
theorem nmX5 : ∀ a, a < 23 → ∀ b, b < 23 → a ≠ b → (TX5 a).2.1 ≠ (TX5 b).2.1 := by decide +kernel
set_option maxRecDepth 100000 in
theorem tyX5_ok : ∀ k, k < 23 → parseFieldDescriptor (TX5 k).2.2.1 = some (tyX5 k) := by decide +kernel
abbrev cX5_init : ByteArray := prog_10_method_1_code
def yX5_init : MethodName := ⟨RX5, "<init>", "()V"⟩
def dkwX5_init_7 : List UInt8 := [4, 79, 42, 180, 0, 7, 17, 0, 149, 3, 79, 177]
abbrev dktX5_init_7 : List UInt8 := dkwX5_init_7 ++ []
def dkwX5_init_6 : List UInt8 := [180, 0, 7, 16, 117, 8, 27, 104, 96, 2, 79, 132, 1, 1, 167, 255, 235, 42, 180, 0, 7, 17, 0, 148]
abbrev dktX5_init_6 : List UInt8 := dkwX5_init_6 ++ dktX5_init_7
def dkwX5_init_5 : List UInt8 := [180, 0, 7, 16, 7, 27, 104, 4, 79, 132, 1, 1, 167, 255, 237, 3, 60, 27, 16, 6, 162, 0, 21, 42]
abbrev dktX5_init_5 : List UInt8 := dkwX5_init_5 ++ dktX5_init_6
def dkwX5_init_4 : List UInt8 := [188, 10, 181, 0, 43, 42, 17, 0, 200, 188, 10, 181, 0, 46, 3, 60, 27, 16, 12, 162, 0, 19, 42]
abbrev dktX5_init_4 : List UInt8 := dkwX5_init_4 ++ dktX5_init_5
def dkwX5_init_3 : List UInt8 := [188, 10, 181, 0, 34, 42, 16, 30, 188, 10, 181, 0, 37, 42, 16, 30, 188, 10, 181, 0, 40, 42, 16, 30]
abbrev dktX5_init_3 : List UInt8 := dkwX5_init_3 ++ dktX5_init_4
def dkwX5_init_2 : List UInt8 := [188, 10, 181, 0, 25, 42, 16, 30, 188, 10, 181, 0, 28, 42, 16, 31, 188, 10, 181, 0, 31, 42, 16, 30]
abbrev dktX5_init_2 : List UInt8 := dkwX5_init_2 ++ dktX5_init_3
def dkwX5_init_1 : List UInt8 := [188, 10, 181, 0, 16, 42, 16, 120, 188, 10, 181, 0, 19, 42, 16, 30, 188, 10, 181, 0, 22, 42, 16, 30]
abbrev dktX5_init_1 : List UInt8 := dkwX5_init_1 ++ dktX5_init_2
def dkwX5_init_0 : List UInt8 := [42, 183, 0, 1, 42, 17, 0, 186, 188, 10, 181, 0, 7, 42, 17, 2, 232, 188, 10, 181, 0, 13, 42, 7]
abbrev dktX5_init_0 : List UInt8 := dkwX5_init_0 ++ dktX5_init_1
theorem dksX5_init_0 : cX5_init.data.toList.drop 0 = dktX5_init_0 := by decide +kernel
theorem dksX5_init_1 : cX5_init.data.toList.drop 24 = dktX5_init_1 := dk_seg dksX5_init_0 24 rfl rfl
theorem dksX5_init_2 : cX5_init.data.toList.drop 48 = dktX5_init_2 := dk_seg dksX5_init_1 24 rfl rfl
theorem dksX5_init_3 : cX5_init.data.toList.drop 72 = dktX5_init_3 := dk_seg dksX5_init_2 24 rfl rfl
theorem dksX5_init_4 : cX5_init.data.toList.drop 96 = dktX5_init_4 := dk_seg dksX5_init_3 24 rfl rfl
theorem dksX5_init_5 : cX5_init.data.toList.drop 119 = dktX5_init_5 := dk_seg dksX5_init_4 23 rfl rfl
theorem dksX5_init_6 : cX5_init.data.toList.drop 143 = dktX5_init_6 := dk_seg dksX5_init_5 24 rfl rfl
theorem dksX5_init_7 : cX5_init.data.toList.drop 167 = dktX5_init_7 := dk_seg dksX5_init_6 24 rfl rfl
theorem dX5_init_0 : decode cX5_init 0 = .ok (.aload_n 0, 1) := dk_42 (dk_at dksX5_init_0 0 rfl rfl)
theorem dX5_init_1 : decode cX5_init 1 = .ok (.invokespecial 1, 3) := dk_183 0 1 (dk_at dksX5_init_0 1 rfl rfl)
theorem dX5_init_4 : decode cX5_init 4 = .ok (.aload_n 0, 1) := dk_42 (dk_at dksX5_init_0 4 rfl rfl)
theorem dX5_init_5 : decode cX5_init 5 = .ok (.sipush 186, 3) := dk_17 0 186 (dk_at dksX5_init_0 5 rfl rfl)
theorem dX5_init_8 : decode cX5_init 8 = .ok (.newarray .int, 2) := dk_188_10 (dk_at dksX5_init_0 8 rfl rfl)
theorem dX5_init_10 : decode cX5_init 10 = .ok (.putfield 7, 3) := dk_181 0 7 (dk_at dksX5_init_0 10 rfl rfl)
theorem dX5_init_13 : decode cX5_init 13 = .ok (.aload_n 0, 1) := dk_42 (dk_at dksX5_init_0 13 rfl rfl)
theorem dX5_init_14 : decode cX5_init 14 = .ok (.sipush 744, 3) := dk_17 2 232 (dk_at dksX5_init_0 14 rfl rfl)
theorem dX5_init_17 : decode cX5_init 17 = .ok (.newarray .int, 2) := dk_188_10 (dk_at dksX5_init_0 17 rfl rfl)
theorem dX5_init_19 : decode cX5_init 19 = .ok (.putfield 13, 3) := dk_181 0 13 (dk_at dksX5_init_0 19 rfl rfl)
theorem dX5_init_22 : decode cX5_init 22 = .ok (.aload_n 0, 1) := dk_42 (dk_at dksX5_init_0 22 rfl rfl)
theorem dX5_init_23 : decode cX5_init 23 = .ok (.iconst 4, 1) := dk_7 (dk_at dksX5_init_0 23 rfl rfl)
theorem dX5_init_24 : decode cX5_init 24 = .ok (.newarray .int, 2) := dk_188_10 (dk_at dksX5_init_1 0 rfl rfl)
theorem dX5_init_26 : decode cX5_init 26 = .ok (.putfield 16, 3) := dk_181 0 16 (dk_at dksX5_init_1 2 rfl rfl)
theorem dX5_init_29 : decode cX5_init 29 = .ok (.aload_n 0, 1) := dk_42 (dk_at dksX5_init_1 5 rfl rfl)
theorem dX5_init_30 : decode cX5_init 30 = .ok (.bipush 120, 2) := dk_16 120 (dk_at dksX5_init_1 6 rfl rfl)
theorem dX5_init_32 : decode cX5_init 32 = .ok (.newarray .int, 2) := dk_188_10 (dk_at dksX5_init_1 8 rfl rfl)
theorem dX5_init_34 : decode cX5_init 34 = .ok (.putfield 19, 3) := dk_181 0 19 (dk_at dksX5_init_1 10 rfl rfl)
theorem dX5_init_37 : decode cX5_init 37 = .ok (.aload_n 0, 1) := dk_42 (dk_at dksX5_init_1 13 rfl rfl)
theorem dX5_init_38 : decode cX5_init 38 = .ok (.bipush 30, 2) := dk_16 30 (dk_at dksX5_init_1 14 rfl rfl)
theorem dX5_init_40 : decode cX5_init 40 = .ok (.newarray .int, 2) := dk_188_10 (dk_at dksX5_init_1 16 rfl rfl)
theorem dX5_init_42 : decode cX5_init 42 = .ok (.putfield 22, 3) := dk_181 0 22 (dk_at dksX5_init_1 18 rfl rfl)
theorem dX5_init_45 : decode cX5_init 45 = .ok (.aload_n 0, 1) := dk_42 (dk_at dksX5_init_1 21 rfl rfl)
theorem dX5_init_46 : decode cX5_init 46 = .ok (.bipush 30, 2) := dk_16 30 (dk_at dksX5_init_1 22 rfl rfl)
theorem dX5_init_48 : decode cX5_init 48 = .ok (.newarray .int, 2) := dk_188_10 (dk_at dksX5_init_2 0 rfl rfl)
theorem dX5_init_50 : decode cX5_init 50 = .ok (.putfield 25, 3) := dk_181 0 25 (dk_at dksX5_init_2 2 rfl rfl)
theorem dX5_init_53 : decode cX5_init 53 = .ok (.aload_n 0, 1) := dk_42 (dk_at dksX5_init_2 5 rfl rfl)
theorem dX5_init_54 : decode cX5_init 54 = .ok (.bipush 30, 2) := dk_16 30 (dk_at dksX5_init_2 6 rfl rfl)
theorem dX5_init_56 : decode cX5_init 56 = .ok (.newarray .int, 2) := dk_188_10 (dk_at dksX5_init_2 8 rfl rfl)
theorem dX5_init_58 : decode cX5_init 58 = .ok (.putfield 28, 3) := dk_181 0 28 (dk_at dksX5_init_2 10 rfl rfl)
theorem dX5_init_61 : decode cX5_init 61 = .ok (.aload_n 0, 1) := dk_42 (dk_at dksX5_init_2 13 rfl rfl)
theorem dX5_init_62 : decode cX5_init 62 = .ok (.bipush 31, 2) := dk_16 31 (dk_at dksX5_init_2 14 rfl rfl)
theorem dX5_init_64 : decode cX5_init 64 = .ok (.newarray .int, 2) := dk_188_10 (dk_at dksX5_init_2 16 rfl rfl)
theorem dX5_init_66 : decode cX5_init 66 = .ok (.putfield 31, 3) := dk_181 0 31 (dk_at dksX5_init_2 18 rfl rfl)
theorem dX5_init_69 : decode cX5_init 69 = .ok (.aload_n 0, 1) := dk_42 (dk_at dksX5_init_2 21 rfl rfl)
theorem dX5_init_70 : decode cX5_init 70 = .ok (.bipush 30, 2) := dk_16 30 (dk_at dksX5_init_2 22 rfl rfl)
theorem dX5_init_72 : decode cX5_init 72 = .ok (.newarray .int, 2) := dk_188_10 (dk_at dksX5_init_3 0 rfl rfl)
theorem dX5_init_74 : decode cX5_init 74 = .ok (.putfield 34, 3) := dk_181 0 34 (dk_at dksX5_init_3 2 rfl rfl)
theorem dX5_init_77 : decode cX5_init 77 = .ok (.aload_n 0, 1) := dk_42 (dk_at dksX5_init_3 5 rfl rfl)
theorem dX5_init_78 : decode cX5_init 78 = .ok (.bipush 30, 2) := dk_16 30 (dk_at dksX5_init_3 6 rfl rfl)
theorem dX5_init_80 : decode cX5_init 80 = .ok (.newarray .int, 2) := dk_188_10 (dk_at dksX5_init_3 8 rfl rfl)
theorem dX5_init_82 : decode cX5_init 82 = .ok (.putfield 37, 3) := dk_181 0 37 (dk_at dksX5_init_3 10 rfl rfl)
theorem dX5_init_85 : decode cX5_init 85 = .ok (.aload_n 0, 1) := dk_42 (dk_at dksX5_init_3 13 rfl rfl)
theorem dX5_init_86 : decode cX5_init 86 = .ok (.bipush 30, 2) := dk_16 30 (dk_at dksX5_init_3 14 rfl rfl)
theorem dX5_init_88 : decode cX5_init 88 = .ok (.newarray .int, 2) := dk_188_10 (dk_at dksX5_init_3 16 rfl rfl)
theorem dX5_init_90 : decode cX5_init 90 = .ok (.putfield 40, 3) := dk_181 0 40 (dk_at dksX5_init_3 18 rfl rfl)
theorem dX5_init_93 : decode cX5_init 93 = .ok (.aload_n 0, 1) := dk_42 (dk_at dksX5_init_3 21 rfl rfl)
theorem dX5_init_94 : decode cX5_init 94 = .ok (.bipush 30, 2) := dk_16 30 (dk_at dksX5_init_3 22 rfl rfl)
theorem dX5_init_96 : decode cX5_init 96 = .ok (.newarray .int, 2) := dk_188_10 (dk_at dksX5_init_4 0 rfl rfl)
theorem dX5_init_98 : decode cX5_init 98 = .ok (.putfield 43, 3) := dk_181 0 43 (dk_at dksX5_init_4 2 rfl rfl)
theorem dX5_init_101 : decode cX5_init 101 = .ok (.aload_n 0, 1) := dk_42 (dk_at dksX5_init_4 5 rfl rfl)
theorem dX5_init_102 : decode cX5_init 102 = .ok (.sipush 200, 3) := dk_17 0 200 (dk_at dksX5_init_4 6 rfl rfl)
theorem dX5_init_105 : decode cX5_init 105 = .ok (.newarray .int, 2) := dk_188_10 (dk_at dksX5_init_4 9 rfl rfl)
theorem dX5_init_107 : decode cX5_init 107 = .ok (.putfield 46, 3) := dk_181 0 46 (dk_at dksX5_init_4 11 rfl rfl)
theorem dX5_init_110 : decode cX5_init 110 = .ok (.iconst 0, 1) := dk_3 (dk_at dksX5_init_4 14 rfl rfl)
theorem dX5_init_111 : decode cX5_init 111 = .ok (.istore_n 1, 1) := dk_60 (dk_at dksX5_init_4 15 rfl rfl)
theorem dX5_init_112 : decode cX5_init 112 = .ok (.iload_n 1, 1) := dk_27 (dk_at dksX5_init_4 16 rfl rfl)
theorem dX5_init_113 : decode cX5_init 113 = .ok (.bipush 12, 2) := dk_16 12 (dk_at dksX5_init_4 17 rfl rfl)
theorem dX5_init_115 : decode cX5_init 115 = .ok (.if_icmp .ge 19, 3) := dk_162 0 19 (dk_at dksX5_init_4 19 rfl rfl)
theorem dX5_init_118 : decode cX5_init 118 = .ok (.aload_n 0, 1) := dk_42 (dk_at dksX5_init_4 22 rfl rfl)
theorem dX5_init_119 : decode cX5_init 119 = .ok (.getfield 7, 3) := dk_180 0 7 (dk_at dksX5_init_5 0 rfl rfl)
theorem dX5_init_122 : decode cX5_init 122 = .ok (.bipush 7, 2) := dk_16 7 (dk_at dksX5_init_5 3 rfl rfl)
theorem dX5_init_124 : decode cX5_init 124 = .ok (.iload_n 1, 1) := dk_27 (dk_at dksX5_init_5 5 rfl rfl)
theorem dX5_init_125 : decode cX5_init 125 = .ok (.imul, 1) := dk_104 (dk_at dksX5_init_5 6 rfl rfl)
theorem dX5_init_126 : decode cX5_init 126 = .ok (.iconst 1, 1) := dk_4 (dk_at dksX5_init_5 7 rfl rfl)
theorem dX5_init_127 : decode cX5_init 127 = .ok (.iastore, 1) := dk_79 (dk_at dksX5_init_5 8 rfl rfl)
theorem dX5_init_128 : decode cX5_init 128 = .ok (.iinc 1 1, 3) := dk_132 1 1 (dk_at dksX5_init_5 9 rfl rfl)
theorem dX5_init_131 : decode cX5_init 131 = .ok (.goto (-19), 3) := dk_167 255 237 (dk_at dksX5_init_5 12 rfl rfl)
theorem dX5_init_134 : decode cX5_init 134 = .ok (.iconst 0, 1) := dk_3 (dk_at dksX5_init_5 15 rfl rfl)
theorem dX5_init_135 : decode cX5_init 135 = .ok (.istore_n 1, 1) := dk_60 (dk_at dksX5_init_5 16 rfl rfl)
theorem dX5_init_136 : decode cX5_init 136 = .ok (.iload_n 1, 1) := dk_27 (dk_at dksX5_init_5 17 rfl rfl)
theorem dX5_init_137 : decode cX5_init 137 = .ok (.bipush 6, 2) := dk_16 6 (dk_at dksX5_init_5 18 rfl rfl)
theorem dX5_init_139 : decode cX5_init 139 = .ok (.if_icmp .ge 21, 3) := dk_162 0 21 (dk_at dksX5_init_5 20 rfl rfl)
theorem dX5_init_142 : decode cX5_init 142 = .ok (.aload_n 0, 1) := dk_42 (dk_at dksX5_init_5 23 rfl rfl)
theorem dX5_init_143 : decode cX5_init 143 = .ok (.getfield 7, 3) := dk_180 0 7 (dk_at dksX5_init_6 0 rfl rfl)
theorem dX5_init_146 : decode cX5_init 146 = .ok (.bipush 117, 2) := dk_16 117 (dk_at dksX5_init_6 3 rfl rfl)
theorem dX5_init_148 : decode cX5_init 148 = .ok (.iconst 5, 1) := dk_8 (dk_at dksX5_init_6 5 rfl rfl)
theorem dX5_init_149 : decode cX5_init 149 = .ok (.iload_n 1, 1) := dk_27 (dk_at dksX5_init_6 6 rfl rfl)
theorem dX5_init_150 : decode cX5_init 150 = .ok (.imul, 1) := dk_104 (dk_at dksX5_init_6 7 rfl rfl)
theorem dX5_init_151 : decode cX5_init 151 = .ok (.iadd, 1) := dk_96 (dk_at dksX5_init_6 8 rfl rfl)
theorem dX5_init_152 : decode cX5_init 152 = .ok (.iconst (-1), 1) := dk_2 (dk_at dksX5_init_6 9 rfl rfl)
theorem dX5_init_153 : decode cX5_init 153 = .ok (.iastore, 1) := dk_79 (dk_at dksX5_init_6 10 rfl rfl)
theorem dX5_init_154 : decode cX5_init 154 = .ok (.iinc 1 1, 3) := dk_132 1 1 (dk_at dksX5_init_6 11 rfl rfl)
theorem dX5_init_157 : decode cX5_init 157 = .ok (.goto (-21), 3) := dk_167 255 235 (dk_at dksX5_init_6 14 rfl rfl)
theorem dX5_init_160 : decode cX5_init 160 = .ok (.aload_n 0, 1) := dk_42 (dk_at dksX5_init_6 17 rfl rfl)
theorem dX5_init_161 : decode cX5_init 161 = .ok (.getfield 7, 3) := dk_180 0 7 (dk_at dksX5_init_6 18 rfl rfl)
theorem dX5_init_164 : decode cX5_init 164 = .ok (.sipush 148, 3) := dk_17 0 148 (dk_at dksX5_init_6 21 rfl rfl)
theorem dX5_init_167 : decode cX5_init 167 = .ok (.iconst 1, 1) := dk_4 (dk_at dksX5_init_7 0 rfl rfl)
theorem dX5_init_168 : decode cX5_init 168 = .ok (.iastore, 1) := dk_79 (dk_at dksX5_init_7 1 rfl rfl)
theorem dX5_init_169 : decode cX5_init 169 = .ok (.aload_n 0, 1) := dk_42 (dk_at dksX5_init_7 2 rfl rfl)
theorem dX5_init_170 : decode cX5_init 170 = .ok (.getfield 7, 3) := dk_180 0 7 (dk_at dksX5_init_7 3 rfl rfl)
theorem dX5_init_173 : decode cX5_init 173 = .ok (.sipush 149, 3) := dk_17 0 149 (dk_at dksX5_init_7 6 rfl rfl)
theorem dX5_init_176 : decode cX5_init 176 = .ok (.iconst 0, 1) := dk_3 (dk_at dksX5_init_7 9 rfl rfl)
theorem dX5_init_177 : decode cX5_init 177 = .ok (.iastore, 1) := dk_79 (dk_at dksX5_init_7 10 rfl rfl)
theorem dX5_init_178 : decode cX5_init 178 = .ok (.return_, 1) := dk_177 (dk_at dksX5_init_7 11 rfl rfl)
abbrev cX5_setOld : ByteArray := prog_10_method_8_code
def yX5_setOld : MethodName := ⟨RX5, "setOld", "(III)I"⟩
def dkwX5_setOld_2 : List UInt8 := [96, 28, 29, 182, 0, 68, 167, 0, 9, 42, 16, 254, 182, 0, 72, 172]
abbrev dktX5_setOld_2 : List UInt8 := dkwX5_setOld_2 ++ []
def dkwX5_setOld_1 : List UInt8 := [184, 0, 55, 153, 0, 7, 4, 167, 0, 4, 3, 54, 4, 21, 4, 153, 0, 18, 42, 3, 16, 7, 27, 104]
abbrev dktX5_setOld_1 : List UInt8 := dkwX5_setOld_1 ++ dktX5_setOld_2
def dkwX5_setOld_0 : List UInt8 := [27, 184, 0, 62, 153, 0, 29, 28, 133, 9, 20, 0, 66, 184, 0, 55, 153, 0, 17, 29, 133, 9, 10]
abbrev dktX5_setOld_0 : List UInt8 := dkwX5_setOld_0 ++ dktX5_setOld_1
theorem dksX5_setOld_0 : cX5_setOld.data.toList.drop 0 = dktX5_setOld_0 := by decide +kernel
theorem dksX5_setOld_1 : cX5_setOld.data.toList.drop 23 = dktX5_setOld_1 := dk_seg dksX5_setOld_0 23 rfl rfl
theorem dksX5_setOld_2 : cX5_setOld.data.toList.drop 47 = dktX5_setOld_2 := dk_seg dksX5_setOld_1 24 rfl rfl
theorem dX5_setOld_0 : decode cX5_setOld 0 = .ok (.iload_n 1, 1) := dk_27 (dk_at dksX5_setOld_0 0 rfl rfl)
theorem dX5_setOld_1 : decode cX5_setOld 1 = .ok (.invokestatic 62, 3) := dk_184 0 62 (dk_at dksX5_setOld_0 1 rfl rfl)
theorem dX5_setOld_4 : decode cX5_setOld 4 = .ok (.ifCond .eq 29, 3) := dk_153 0 29 (dk_at dksX5_setOld_0 4 rfl rfl)
theorem dX5_setOld_7 : decode cX5_setOld 7 = .ok (.iload_n 2, 1) := dk_28 (dk_at dksX5_setOld_0 7 rfl rfl)
theorem dX5_setOld_8 : decode cX5_setOld 8 = .ok (.i2l, 1) := dk_133 (dk_at dksX5_setOld_0 8 rfl rfl)
theorem dX5_setOld_9 : decode cX5_setOld 9 = .ok (.lconst 0, 1) := dk_9 (dk_at dksX5_setOld_0 9 rfl rfl)
theorem dX5_setOld_10 : decode cX5_setOld 10 = .ok (.ldc2_w 66, 3) := dk_20 0 66 (dk_at dksX5_setOld_0 10 rfl rfl)
theorem dX5_setOld_13 : decode cX5_setOld 13 = .ok (.invokestatic 55, 3) := dk_184 0 55 (dk_at dksX5_setOld_0 13 rfl rfl)
theorem dX5_setOld_16 : decode cX5_setOld 16 = .ok (.ifCond .eq 17, 3) := dk_153 0 17 (dk_at dksX5_setOld_0 16 rfl rfl)
theorem dX5_setOld_19 : decode cX5_setOld 19 = .ok (.iload_n 3, 1) := dk_29 (dk_at dksX5_setOld_0 19 rfl rfl)
theorem dX5_setOld_20 : decode cX5_setOld 20 = .ok (.i2l, 1) := dk_133 (dk_at dksX5_setOld_0 20 rfl rfl)
theorem dX5_setOld_21 : decode cX5_setOld 21 = .ok (.lconst 0, 1) := dk_9 (dk_at dksX5_setOld_0 21 rfl rfl)
theorem dX5_setOld_22 : decode cX5_setOld 22 = .ok (.lconst 1, 1) := dk_10 (dk_at dksX5_setOld_0 22 rfl rfl)
theorem dX5_setOld_23 : decode cX5_setOld 23 = .ok (.invokestatic 55, 3) := dk_184 0 55 (dk_at dksX5_setOld_1 0 rfl rfl)
theorem dX5_setOld_26 : decode cX5_setOld 26 = .ok (.ifCond .eq 7, 3) := dk_153 0 7 (dk_at dksX5_setOld_1 3 rfl rfl)
theorem dX5_setOld_29 : decode cX5_setOld 29 = .ok (.iconst 1, 1) := dk_4 (dk_at dksX5_setOld_1 6 rfl rfl)
theorem dX5_setOld_30 : decode cX5_setOld 30 = .ok (.goto 4, 3) := dk_167 0 4 (dk_at dksX5_setOld_1 7 rfl rfl)
theorem dX5_setOld_33 : decode cX5_setOld 33 = .ok (.iconst 0, 1) := dk_3 (dk_at dksX5_setOld_1 10 rfl rfl)
theorem dX5_setOld_34 : decode cX5_setOld 34 = .ok (.istore 4, 2) := dk_54 4 (dk_at dksX5_setOld_1 11 rfl rfl)
theorem dX5_setOld_36 : decode cX5_setOld 36 = .ok (.iload 4, 2) := dk_21 4 (dk_at dksX5_setOld_1 13 rfl rfl)
theorem dX5_setOld_38 : decode cX5_setOld 38 = .ok (.ifCond .eq 18, 3) := dk_153 0 18 (dk_at dksX5_setOld_1 15 rfl rfl)
theorem dX5_setOld_41 : decode cX5_setOld 41 = .ok (.aload_n 0, 1) := dk_42 (dk_at dksX5_setOld_1 18 rfl rfl)
theorem dX5_setOld_42 : decode cX5_setOld 42 = .ok (.iconst 0, 1) := dk_3 (dk_at dksX5_setOld_1 19 rfl rfl)
theorem dX5_setOld_43 : decode cX5_setOld 43 = .ok (.bipush 7, 2) := dk_16 7 (dk_at dksX5_setOld_1 20 rfl rfl)
theorem dX5_setOld_45 : decode cX5_setOld 45 = .ok (.iload_n 1, 1) := dk_27 (dk_at dksX5_setOld_1 22 rfl rfl)
theorem dX5_setOld_46 : decode cX5_setOld 46 = .ok (.imul, 1) := dk_104 (dk_at dksX5_setOld_1 23 rfl rfl)
theorem dX5_setOld_47 : decode cX5_setOld 47 = .ok (.iadd, 1) := dk_96 (dk_at dksX5_setOld_2 0 rfl rfl)
theorem dX5_setOld_48 : decode cX5_setOld 48 = .ok (.iload_n 2, 1) := dk_28 (dk_at dksX5_setOld_2 1 rfl rfl)
theorem dX5_setOld_49 : decode cX5_setOld 49 = .ok (.iload_n 3, 1) := dk_29 (dk_at dksX5_setOld_2 2 rfl rfl)
theorem dX5_setOld_50 : decode cX5_setOld 50 = .ok (.invokevirtual 68, 3) := dk_182 0 68 (dk_at dksX5_setOld_2 3 rfl rfl)
theorem dX5_setOld_53 : decode cX5_setOld 53 = .ok (.goto 9, 3) := dk_167 0 9 (dk_at dksX5_setOld_2 6 rfl rfl)
theorem dX5_setOld_56 : decode cX5_setOld 56 = .ok (.aload_n 0, 1) := dk_42 (dk_at dksX5_setOld_2 9 rfl rfl)
theorem dX5_setOld_57 : decode cX5_setOld 57 = .ok (.bipush (-2), 2) := dk_16 254 (dk_at dksX5_setOld_2 10 rfl rfl)
theorem dX5_setOld_59 : decode cX5_setOld 59 = .ok (.invokevirtual 72, 3) := dk_182 0 72 (dk_at dksX5_setOld_2 12 rfl rfl)
theorem dX5_setOld_62 : decode cX5_setOld 62 = .ok (.ireturn, 1) := dk_172 (dk_at dksX5_setOld_2 15 rfl rfl)
abbrev cX5_isFunction : ByteArray := prog_10_method_6_code
def yX5_isFunction : MethodName := ⟨RX5, "isFunction", "(I)Z"⟩
def dkwX5_isFunction_0 : List UInt8 := [26, 133, 9, 20, 0, 53, 184, 0, 55, 172]
abbrev dktX5_isFunction_0 : List UInt8 := dkwX5_isFunction_0 ++ []
theorem dksX5_isFunction_0 : cX5_isFunction.data.toList.drop 0 = dktX5_isFunction_0 := by decide +kernel
theorem dX5_isFunction_0 : decode cX5_isFunction 0 = .ok (.iload_n 0, 1) := dk_26 (dk_at dksX5_isFunction_0 0 rfl rfl)
theorem dX5_isFunction_1 : decode cX5_isFunction 1 = .ok (.i2l, 1) := dk_133 (dk_at dksX5_isFunction_0 1 rfl rfl)
theorem dX5_isFunction_2 : decode cX5_isFunction 2 = .ok (.lconst 0, 1) := dk_9 (dk_at dksX5_isFunction_0 2 rfl rfl)
theorem dX5_isFunction_3 : decode cX5_isFunction 3 = .ok (.ldc2_w 53, 3) := dk_20 0 53 (dk_at dksX5_isFunction_0 3 rfl rfl)
theorem dX5_isFunction_6 : decode cX5_isFunction 6 = .ok (.invokestatic 55, 3) := dk_184 0 55 (dk_at dksX5_isFunction_0 6 rfl rfl)
theorem dX5_isFunction_9 : decode cX5_isFunction 9 = .ok (.ireturn, 1) := dk_172 (dk_at dksX5_isFunction_0 9 rfl rfl)
abbrev cX5_in : ByteArray := prog_10_method_3_code
def yX5_in : MethodName := ⟨RX5, "in", "(JJJ)Z"⟩
def dkwX5_in_0 : List UInt8 := [30, 32, 148, 155, 0, 14, 30, 22, 4, 148, 157, 0, 7, 4, 167, 0, 4, 3, 172]
abbrev dktX5_in_0 : List UInt8 := dkwX5_in_0 ++ []
theorem dksX5_in_0 : cX5_in.data.toList.drop 0 = dktX5_in_0 := by decide +kernel
theorem dX5_in_0 : decode cX5_in 0 = .ok (.lload_n 0, 1) := dk_30 (dk_at dksX5_in_0 0 rfl rfl)
theorem dX5_in_1 : decode cX5_in 1 = .ok (.lload_n 2, 1) := dk_32 (dk_at dksX5_in_0 1 rfl rfl)
theorem dX5_in_2 : decode cX5_in 2 = .ok (.lcmp, 1) := dk_148 (dk_at dksX5_in_0 2 rfl rfl)
theorem dX5_in_3 : decode cX5_in 3 = .ok (.ifCond .lt 14, 3) := dk_155 0 14 (dk_at dksX5_in_0 3 rfl rfl)
theorem dX5_in_6 : decode cX5_in 6 = .ok (.lload_n 0, 1) := dk_30 (dk_at dksX5_in_0 6 rfl rfl)
theorem dX5_in_7 : decode cX5_in 7 = .ok (.lload 4, 2) := dk_22 4 (dk_at dksX5_in_0 7 rfl rfl)
theorem dX5_in_9 : decode cX5_in 9 = .ok (.lcmp, 1) := dk_148 (dk_at dksX5_in_0 9 rfl rfl)
theorem dX5_in_10 : decode cX5_in 10 = .ok (.ifCond .gt 7, 3) := dk_157 0 7 (dk_at dksX5_in_0 10 rfl rfl)
theorem dX5_in_13 : decode cX5_in 13 = .ok (.iconst 1, 1) := dk_4 (dk_at dksX5_in_0 13 rfl rfl)
theorem dX5_in_14 : decode cX5_in 14 = .ok (.goto 4, 3) := dk_167 0 4 (dk_at dksX5_in_0 14 rfl rfl)
theorem dX5_in_17 : decode cX5_in 17 = .ok (.iconst 0, 1) := dk_3 (dk_at dksX5_in_0 17 rfl rfl)
theorem dX5_in_18 : decode cX5_in 18 = .ok (.ireturn, 1) := dk_172 (dk_at dksX5_in_0 18 rfl rfl)
abbrev cX5_sets : ByteArray := prog_10_method_7_code
def yX5_sets : MethodName := ⟨RX5, "sets", "(III)I"⟩
def dkwX5_sets_1 : List UInt8 := [180, 0, 7, 27, 4, 96, 29, 79, 21, 4, 172]
abbrev dktX5_sets_1 : List UInt8 := dkwX5_sets_1 ++ []
def dkwX5_sets_0 : List UInt8 := [42, 182, 0, 59, 42, 180, 0, 7, 27, 3, 96, 46, 54, 4, 42, 180, 0, 7, 27, 3, 96, 28, 79, 42]
abbrev dktX5_sets_0 : List UInt8 := dkwX5_sets_0 ++ dktX5_sets_1
theorem dksX5_sets_0 : cX5_sets.data.toList.drop 0 = dktX5_sets_0 := by decide +kernel
theorem dksX5_sets_1 : cX5_sets.data.toList.drop 24 = dktX5_sets_1 := dk_seg dksX5_sets_0 24 rfl rfl
theorem dX5_sets_0 : decode cX5_sets 0 = .ok (.aload_n 0, 1) := dk_42 (dk_at dksX5_sets_0 0 rfl rfl)
theorem dX5_sets_1 : decode cX5_sets 1 = .ok (.invokevirtual 59, 3) := dk_182 0 59 (dk_at dksX5_sets_0 1 rfl rfl)
theorem dX5_sets_4 : decode cX5_sets 4 = .ok (.aload_n 0, 1) := dk_42 (dk_at dksX5_sets_0 4 rfl rfl)
theorem dX5_sets_5 : decode cX5_sets 5 = .ok (.getfield 7, 3) := dk_180 0 7 (dk_at dksX5_sets_0 5 rfl rfl)
theorem dX5_sets_8 : decode cX5_sets 8 = .ok (.iload_n 1, 1) := dk_27 (dk_at dksX5_sets_0 8 rfl rfl)
theorem dX5_sets_9 : decode cX5_sets 9 = .ok (.iconst 0, 1) := dk_3 (dk_at dksX5_sets_0 9 rfl rfl)
theorem dX5_sets_10 : decode cX5_sets 10 = .ok (.iadd, 1) := dk_96 (dk_at dksX5_sets_0 10 rfl rfl)
theorem dX5_sets_11 : decode cX5_sets 11 = .ok (.iaload, 1) := dk_46 (dk_at dksX5_sets_0 11 rfl rfl)
theorem dX5_sets_12 : decode cX5_sets 12 = .ok (.istore 4, 2) := dk_54 4 (dk_at dksX5_sets_0 12 rfl rfl)
theorem dX5_sets_14 : decode cX5_sets 14 = .ok (.aload_n 0, 1) := dk_42 (dk_at dksX5_sets_0 14 rfl rfl)
theorem dX5_sets_15 : decode cX5_sets 15 = .ok (.getfield 7, 3) := dk_180 0 7 (dk_at dksX5_sets_0 15 rfl rfl)
theorem dX5_sets_18 : decode cX5_sets 18 = .ok (.iload_n 1, 1) := dk_27 (dk_at dksX5_sets_0 18 rfl rfl)
theorem dX5_sets_19 : decode cX5_sets 19 = .ok (.iconst 0, 1) := dk_3 (dk_at dksX5_sets_0 19 rfl rfl)
theorem dX5_sets_20 : decode cX5_sets 20 = .ok (.iadd, 1) := dk_96 (dk_at dksX5_sets_0 20 rfl rfl)
theorem dX5_sets_21 : decode cX5_sets 21 = .ok (.iload_n 2, 1) := dk_28 (dk_at dksX5_sets_0 21 rfl rfl)
theorem dX5_sets_22 : decode cX5_sets 22 = .ok (.iastore, 1) := dk_79 (dk_at dksX5_sets_0 22 rfl rfl)
theorem dX5_sets_23 : decode cX5_sets 23 = .ok (.aload_n 0, 1) := dk_42 (dk_at dksX5_sets_0 23 rfl rfl)
theorem dX5_sets_24 : decode cX5_sets 24 = .ok (.getfield 7, 3) := dk_180 0 7 (dk_at dksX5_sets_1 0 rfl rfl)
theorem dX5_sets_27 : decode cX5_sets 27 = .ok (.iload_n 1, 1) := dk_27 (dk_at dksX5_sets_1 3 rfl rfl)
theorem dX5_sets_28 : decode cX5_sets 28 = .ok (.iconst 1, 1) := dk_4 (dk_at dksX5_sets_1 4 rfl rfl)
theorem dX5_sets_29 : decode cX5_sets 29 = .ok (.iadd, 1) := dk_96 (dk_at dksX5_sets_1 5 rfl rfl)
theorem dX5_sets_30 : decode cX5_sets 30 = .ok (.iload_n 3, 1) := dk_29 (dk_at dksX5_sets_1 6 rfl rfl)
theorem dX5_sets_31 : decode cX5_sets 31 = .ok (.iastore, 1) := dk_79 (dk_at dksX5_sets_1 7 rfl rfl)
theorem dX5_sets_32 : decode cX5_sets 32 = .ok (.iload 4, 2) := dk_21 4 (dk_at dksX5_sets_1 8 rfl rfl)
theorem dX5_sets_34 : decode cX5_sets 34 = .ok (.ireturn, 1) := dk_172 (dk_at dksX5_sets_1 10 rfl rfl)
abbrev cX5_save : ByteArray := prog_10_method_5_code
def yX5_save : MethodName := ⟨RX5, "save", "()V"⟩
def dkwX5_save_4 : List UInt8 := [181, 0, 49, 177]
abbrev dktX5_save_4 : List UInt8 := dkwX5_save_4 ++ []
def dkwX5_save_3 : List UInt8 := [27, 96, 42, 180, 0, 7, 27, 46, 79, 132, 1, 1, 167, 255, 225, 42, 89, 180, 0, 49, 4, 96]
abbrev dktX5_save_3 : List UInt8 := dkwX5_save_3 ++ dktX5_save_4
def dkwX5_save_2 : List UInt8 := [181, 0, 49, 3, 60, 27, 17, 0, 186, 162, 0, 30, 42, 180, 0, 13, 17, 0, 186, 42, 180, 0, 49, 104]
abbrev dktX5_save_2 : List UInt8 := dkwX5_save_2 ++ dktX5_save_3
def dkwX5_save_1 : List UInt8 := [180, 0, 13, 27, 17, 0, 186, 96, 46, 79, 132, 1, 1, 167, 255, 230, 42, 89, 180, 0, 49, 4, 100]
abbrev dktX5_save_1 : List UInt8 := dkwX5_save_1 ++ dktX5_save_2
def dkwX5_save_0 : List UInt8 := [42, 180, 0, 49, 7, 160, 0, 44, 3, 60, 27, 17, 2, 46, 162, 0, 25, 42, 180, 0, 13, 27, 42]
abbrev dktX5_save_0 : List UInt8 := dkwX5_save_0 ++ dktX5_save_1
theorem dksX5_save_0 : cX5_save.data.toList.drop 0 = dktX5_save_0 := by decide +kernel
theorem dksX5_save_1 : cX5_save.data.toList.drop 23 = dktX5_save_1 := dk_seg dksX5_save_0 23 rfl rfl
theorem dksX5_save_2 : cX5_save.data.toList.drop 46 = dktX5_save_2 := dk_seg dksX5_save_1 23 rfl rfl
theorem dksX5_save_3 : cX5_save.data.toList.drop 70 = dktX5_save_3 := dk_seg dksX5_save_2 24 rfl rfl
theorem dksX5_save_4 : cX5_save.data.toList.drop 92 = dktX5_save_4 := dk_seg dksX5_save_3 22 rfl rfl
theorem dX5_save_0 : decode cX5_save 0 = .ok (.aload_n 0, 1) := dk_42 (dk_at dksX5_save_0 0 rfl rfl)
theorem dX5_save_1 : decode cX5_save 1 = .ok (.getfield 49, 3) := dk_180 0 49 (dk_at dksX5_save_0 1 rfl rfl)
theorem dX5_save_4 : decode cX5_save 4 = .ok (.iconst 4, 1) := dk_7 (dk_at dksX5_save_0 4 rfl rfl)
theorem dX5_save_5 : decode cX5_save 5 = .ok (.if_icmp .ne 44, 3) := dk_160 0 44 (dk_at dksX5_save_0 5 rfl rfl)
theorem dX5_save_8 : decode cX5_save 8 = .ok (.iconst 0, 1) := dk_3 (dk_at dksX5_save_0 8 rfl rfl)
theorem dX5_save_9 : decode cX5_save 9 = .ok (.istore_n 1, 1) := dk_60 (dk_at dksX5_save_0 9 rfl rfl)
theorem dX5_save_10 : decode cX5_save 10 = .ok (.iload_n 1, 1) := dk_27 (dk_at dksX5_save_0 10 rfl rfl)
theorem dX5_save_11 : decode cX5_save 11 = .ok (.sipush 558, 3) := dk_17 2 46 (dk_at dksX5_save_0 11 rfl rfl)
theorem dX5_save_14 : decode cX5_save 14 = .ok (.if_icmp .ge 25, 3) := dk_162 0 25 (dk_at dksX5_save_0 14 rfl rfl)
theorem dX5_save_17 : decode cX5_save 17 = .ok (.aload_n 0, 1) := dk_42 (dk_at dksX5_save_0 17 rfl rfl)
theorem dX5_save_18 : decode cX5_save 18 = .ok (.getfield 13, 3) := dk_180 0 13 (dk_at dksX5_save_0 18 rfl rfl)
theorem dX5_save_21 : decode cX5_save 21 = .ok (.iload_n 1, 1) := dk_27 (dk_at dksX5_save_0 21 rfl rfl)
theorem dX5_save_22 : decode cX5_save 22 = .ok (.aload_n 0, 1) := dk_42 (dk_at dksX5_save_0 22 rfl rfl)
theorem dX5_save_23 : decode cX5_save 23 = .ok (.getfield 13, 3) := dk_180 0 13 (dk_at dksX5_save_1 0 rfl rfl)
theorem dX5_save_26 : decode cX5_save 26 = .ok (.iload_n 1, 1) := dk_27 (dk_at dksX5_save_1 3 rfl rfl)
theorem dX5_save_27 : decode cX5_save 27 = .ok (.sipush 186, 3) := dk_17 0 186 (dk_at dksX5_save_1 4 rfl rfl)
theorem dX5_save_30 : decode cX5_save 30 = .ok (.iadd, 1) := dk_96 (dk_at dksX5_save_1 7 rfl rfl)
theorem dX5_save_31 : decode cX5_save 31 = .ok (.iaload, 1) := dk_46 (dk_at dksX5_save_1 8 rfl rfl)
theorem dX5_save_32 : decode cX5_save 32 = .ok (.iastore, 1) := dk_79 (dk_at dksX5_save_1 9 rfl rfl)
theorem dX5_save_33 : decode cX5_save 33 = .ok (.iinc 1 1, 3) := dk_132 1 1 (dk_at dksX5_save_1 10 rfl rfl)
theorem dX5_save_36 : decode cX5_save 36 = .ok (.goto (-26), 3) := dk_167 255 230 (dk_at dksX5_save_1 13 rfl rfl)
theorem dX5_save_39 : decode cX5_save 39 = .ok (.aload_n 0, 1) := dk_42 (dk_at dksX5_save_1 16 rfl rfl)
theorem dX5_save_40 : decode cX5_save 40 = .ok (.dup, 1) := dk_89 (dk_at dksX5_save_1 17 rfl rfl)
theorem dX5_save_41 : decode cX5_save 41 = .ok (.getfield 49, 3) := dk_180 0 49 (dk_at dksX5_save_1 18 rfl rfl)
theorem dX5_save_44 : decode cX5_save 44 = .ok (.iconst 1, 1) := dk_4 (dk_at dksX5_save_1 21 rfl rfl)
theorem dX5_save_45 : decode cX5_save 45 = .ok (.isub, 1) := dk_100 (dk_at dksX5_save_1 22 rfl rfl)
theorem dX5_save_46 : decode cX5_save 46 = .ok (.putfield 49, 3) := dk_181 0 49 (dk_at dksX5_save_2 0 rfl rfl)
theorem dX5_save_49 : decode cX5_save 49 = .ok (.iconst 0, 1) := dk_3 (dk_at dksX5_save_2 3 rfl rfl)
theorem dX5_save_50 : decode cX5_save 50 = .ok (.istore_n 1, 1) := dk_60 (dk_at dksX5_save_2 4 rfl rfl)
theorem dX5_save_51 : decode cX5_save 51 = .ok (.iload_n 1, 1) := dk_27 (dk_at dksX5_save_2 5 rfl rfl)
theorem dX5_save_52 : decode cX5_save 52 = .ok (.sipush 186, 3) := dk_17 0 186 (dk_at dksX5_save_2 6 rfl rfl)
theorem dX5_save_55 : decode cX5_save 55 = .ok (.if_icmp .ge 30, 3) := dk_162 0 30 (dk_at dksX5_save_2 9 rfl rfl)
theorem dX5_save_58 : decode cX5_save 58 = .ok (.aload_n 0, 1) := dk_42 (dk_at dksX5_save_2 12 rfl rfl)
theorem dX5_save_59 : decode cX5_save 59 = .ok (.getfield 13, 3) := dk_180 0 13 (dk_at dksX5_save_2 13 rfl rfl)
theorem dX5_save_62 : decode cX5_save 62 = .ok (.sipush 186, 3) := dk_17 0 186 (dk_at dksX5_save_2 16 rfl rfl)
theorem dX5_save_65 : decode cX5_save 65 = .ok (.aload_n 0, 1) := dk_42 (dk_at dksX5_save_2 19 rfl rfl)
theorem dX5_save_66 : decode cX5_save 66 = .ok (.getfield 49, 3) := dk_180 0 49 (dk_at dksX5_save_2 20 rfl rfl)
theorem dX5_save_69 : decode cX5_save 69 = .ok (.imul, 1) := dk_104 (dk_at dksX5_save_2 23 rfl rfl)
theorem dX5_save_70 : decode cX5_save 70 = .ok (.iload_n 1, 1) := dk_27 (dk_at dksX5_save_3 0 rfl rfl)
theorem dX5_save_71 : decode cX5_save 71 = .ok (.iadd, 1) := dk_96 (dk_at dksX5_save_3 1 rfl rfl)
theorem dX5_save_72 : decode cX5_save 72 = .ok (.aload_n 0, 1) := dk_42 (dk_at dksX5_save_3 2 rfl rfl)
theorem dX5_save_73 : decode cX5_save 73 = .ok (.getfield 7, 3) := dk_180 0 7 (dk_at dksX5_save_3 3 rfl rfl)
theorem dX5_save_76 : decode cX5_save 76 = .ok (.iload_n 1, 1) := dk_27 (dk_at dksX5_save_3 6 rfl rfl)
theorem dX5_save_77 : decode cX5_save 77 = .ok (.iaload, 1) := dk_46 (dk_at dksX5_save_3 7 rfl rfl)
theorem dX5_save_78 : decode cX5_save 78 = .ok (.iastore, 1) := dk_79 (dk_at dksX5_save_3 8 rfl rfl)
theorem dX5_save_79 : decode cX5_save 79 = .ok (.iinc 1 1, 3) := dk_132 1 1 (dk_at dksX5_save_3 9 rfl rfl)
theorem dX5_save_82 : decode cX5_save 82 = .ok (.goto (-31), 3) := dk_167 255 225 (dk_at dksX5_save_3 12 rfl rfl)
theorem dX5_save_85 : decode cX5_save 85 = .ok (.aload_n 0, 1) := dk_42 (dk_at dksX5_save_3 15 rfl rfl)
theorem dX5_save_86 : decode cX5_save 86 = .ok (.dup, 1) := dk_89 (dk_at dksX5_save_3 16 rfl rfl)
theorem dX5_save_87 : decode cX5_save 87 = .ok (.getfield 49, 3) := dk_180 0 49 (dk_at dksX5_save_3 17 rfl rfl)
theorem dX5_save_90 : decode cX5_save 90 = .ok (.iconst 1, 1) := dk_4 (dk_at dksX5_save_3 20 rfl rfl)
theorem dX5_save_91 : decode cX5_save 91 = .ok (.iadd, 1) := dk_96 (dk_at dksX5_save_3 21 rfl rfl)
theorem dX5_save_92 : decode cX5_save 92 = .ok (.putfield 49, 3) := dk_181 0 49 (dk_at dksX5_save_4 0 rfl rfl)
theorem dX5_save_95 : decode cX5_save 95 = .ok (.return_, 1) := dk_177 (dk_at dksX5_save_4 3 rfl rfl)
abbrev cX5_error : ByteArray := prog_10_method_4_code
def yX5_error : MethodName := ⟨RX5, "error", "(I)I"⟩
def dkwX5_error_0 : List UInt8 := [42, 180, 0, 16, 16, 254, 27, 100, 92, 46, 4, 96, 79, 27, 172]
abbrev dktX5_error_0 : List UInt8 := dkwX5_error_0 ++ []
theorem dksX5_error_0 : cX5_error.data.toList.drop 0 = dktX5_error_0 := by decide +kernel
theorem dX5_error_0 : decode cX5_error 0 = .ok (.aload_n 0, 1) := dk_42 (dk_at dksX5_error_0 0 rfl rfl)
theorem dX5_error_1 : decode cX5_error 1 = .ok (.getfield 16, 3) := dk_180 0 16 (dk_at dksX5_error_0 1 rfl rfl)
theorem dX5_error_4 : decode cX5_error 4 = .ok (.bipush (-2), 2) := dk_16 254 (dk_at dksX5_error_0 4 rfl rfl)
theorem dX5_error_6 : decode cX5_error 6 = .ok (.iload_n 1, 1) := dk_27 (dk_at dksX5_error_0 6 rfl rfl)
theorem dX5_error_7 : decode cX5_error 7 = .ok (.isub, 1) := dk_100 (dk_at dksX5_error_0 7 rfl rfl)
theorem dX5_error_8 : decode cX5_error 8 = .ok (.dup2, 1) := dk_92 (dk_at dksX5_error_0 8 rfl rfl)
theorem dX5_error_9 : decode cX5_error 9 = .ok (.iaload, 1) := dk_46 (dk_at dksX5_error_0 9 rfl rfl)
theorem dX5_error_10 : decode cX5_error 10 = .ok (.iconst 1, 1) := dk_4 (dk_at dksX5_error_0 10 rfl rfl)
theorem dX5_error_11 : decode cX5_error 11 = .ok (.iadd, 1) := dk_96 (dk_at dksX5_error_0 11 rfl rfl)
theorem dX5_error_12 : decode cX5_error 12 = .ok (.iastore, 1) := dk_79 (dk_at dksX5_error_0 12 rfl rfl)
theorem dX5_error_13 : decode cX5_error 13 = .ok (.iload_n 1, 1) := dk_27 (dk_at dksX5_error_0 13 rfl rfl)
theorem dX5_error_14 : decode cX5_error 14 = .ok (.ireturn, 1) := dk_172 (dk_at dksX5_error_0 14 rfl rfl)
abbrev cX5_setNew : ByteArray := prog_10_method_9_code
def yX5_setNew : MethodName := ⟨RX5, "setNew", "(III)I"⟩
def dkwX5_setNew_2 : List UInt8 := [104, 96, 28, 29, 182, 0, 68, 167, 0, 9, 42, 16, 254, 182, 0, 72, 172]
abbrev dktX5_setNew_2 : List UInt8 := dkwX5_setNew_2 ++ []
def dkwX5_setNew_1 : List UInt8 := [184, 0, 55, 153, 0, 7, 4, 167, 0, 4, 3, 54, 4, 21, 4, 153, 0, 19, 42, 16, 42, 16, 7, 27]
abbrev dktX5_setNew_1 : List UInt8 := dkwX5_setNew_1 ++ dktX5_setNew_2
def dkwX5_setNew_0 : List UInt8 := [27, 184, 0, 62, 153, 0, 29, 28, 133, 9, 20, 0, 76, 184, 0, 55, 153, 0, 17, 29, 133, 9, 10]
abbrev dktX5_setNew_0 : List UInt8 := dkwX5_setNew_0 ++ dktX5_setNew_1
theorem dksX5_setNew_0 : cX5_setNew.data.toList.drop 0 = dktX5_setNew_0 := by decide +kernel
theorem dksX5_setNew_1 : cX5_setNew.data.toList.drop 23 = dktX5_setNew_1 := dk_seg dksX5_setNew_0 23 rfl rfl
theorem dksX5_setNew_2 : cX5_setNew.data.toList.drop 47 = dktX5_setNew_2 := dk_seg dksX5_setNew_1 24 rfl rfl
theorem dX5_setNew_0 : decode cX5_setNew 0 = .ok (.iload_n 1, 1) := dk_27 (dk_at dksX5_setNew_0 0 rfl rfl)
theorem dX5_setNew_1 : decode cX5_setNew 1 = .ok (.invokestatic 62, 3) := dk_184 0 62 (dk_at dksX5_setNew_0 1 rfl rfl)
theorem dX5_setNew_4 : decode cX5_setNew 4 = .ok (.ifCond .eq 29, 3) := dk_153 0 29 (dk_at dksX5_setNew_0 4 rfl rfl)
theorem dX5_setNew_7 : decode cX5_setNew 7 = .ok (.iload_n 2, 1) := dk_28 (dk_at dksX5_setNew_0 7 rfl rfl)
theorem dX5_setNew_8 : decode cX5_setNew 8 = .ok (.i2l, 1) := dk_133 (dk_at dksX5_setNew_0 8 rfl rfl)
theorem dX5_setNew_9 : decode cX5_setNew 9 = .ok (.lconst 0, 1) := dk_9 (dk_at dksX5_setNew_0 9 rfl rfl)
theorem dX5_setNew_10 : decode cX5_setNew 10 = .ok (.ldc2_w 76, 3) := dk_20 0 76 (dk_at dksX5_setNew_0 10 rfl rfl)
theorem dX5_setNew_13 : decode cX5_setNew 13 = .ok (.invokestatic 55, 3) := dk_184 0 55 (dk_at dksX5_setNew_0 13 rfl rfl)
theorem dX5_setNew_16 : decode cX5_setNew 16 = .ok (.ifCond .eq 17, 3) := dk_153 0 17 (dk_at dksX5_setNew_0 16 rfl rfl)
theorem dX5_setNew_19 : decode cX5_setNew 19 = .ok (.iload_n 3, 1) := dk_29 (dk_at dksX5_setNew_0 19 rfl rfl)
theorem dX5_setNew_20 : decode cX5_setNew 20 = .ok (.i2l, 1) := dk_133 (dk_at dksX5_setNew_0 20 rfl rfl)
theorem dX5_setNew_21 : decode cX5_setNew 21 = .ok (.lconst 0, 1) := dk_9 (dk_at dksX5_setNew_0 21 rfl rfl)
theorem dX5_setNew_22 : decode cX5_setNew 22 = .ok (.lconst 1, 1) := dk_10 (dk_at dksX5_setNew_0 22 rfl rfl)
theorem dX5_setNew_23 : decode cX5_setNew 23 = .ok (.invokestatic 55, 3) := dk_184 0 55 (dk_at dksX5_setNew_1 0 rfl rfl)
theorem dX5_setNew_26 : decode cX5_setNew 26 = .ok (.ifCond .eq 7, 3) := dk_153 0 7 (dk_at dksX5_setNew_1 3 rfl rfl)
theorem dX5_setNew_29 : decode cX5_setNew 29 = .ok (.iconst 1, 1) := dk_4 (dk_at dksX5_setNew_1 6 rfl rfl)
theorem dX5_setNew_30 : decode cX5_setNew 30 = .ok (.goto 4, 3) := dk_167 0 4 (dk_at dksX5_setNew_1 7 rfl rfl)
theorem dX5_setNew_33 : decode cX5_setNew 33 = .ok (.iconst 0, 1) := dk_3 (dk_at dksX5_setNew_1 10 rfl rfl)
theorem dX5_setNew_34 : decode cX5_setNew 34 = .ok (.istore 4, 2) := dk_54 4 (dk_at dksX5_setNew_1 11 rfl rfl)
theorem dX5_setNew_36 : decode cX5_setNew 36 = .ok (.iload 4, 2) := dk_21 4 (dk_at dksX5_setNew_1 13 rfl rfl)
theorem dX5_setNew_38 : decode cX5_setNew 38 = .ok (.ifCond .eq 19, 3) := dk_153 0 19 (dk_at dksX5_setNew_1 15 rfl rfl)
theorem dX5_setNew_41 : decode cX5_setNew 41 = .ok (.aload_n 0, 1) := dk_42 (dk_at dksX5_setNew_1 18 rfl rfl)
theorem dX5_setNew_42 : decode cX5_setNew 42 = .ok (.bipush 42, 2) := dk_16 42 (dk_at dksX5_setNew_1 19 rfl rfl)
theorem dX5_setNew_44 : decode cX5_setNew 44 = .ok (.bipush 7, 2) := dk_16 7 (dk_at dksX5_setNew_1 21 rfl rfl)
theorem dX5_setNew_46 : decode cX5_setNew 46 = .ok (.iload_n 1, 1) := dk_27 (dk_at dksX5_setNew_1 23 rfl rfl)
theorem dX5_setNew_47 : decode cX5_setNew 47 = .ok (.imul, 1) := dk_104 (dk_at dksX5_setNew_2 0 rfl rfl)
theorem dX5_setNew_48 : decode cX5_setNew 48 = .ok (.iadd, 1) := dk_96 (dk_at dksX5_setNew_2 1 rfl rfl)
theorem dX5_setNew_49 : decode cX5_setNew 49 = .ok (.iload_n 2, 1) := dk_28 (dk_at dksX5_setNew_2 2 rfl rfl)
theorem dX5_setNew_50 : decode cX5_setNew 50 = .ok (.iload_n 3, 1) := dk_29 (dk_at dksX5_setNew_2 3 rfl rfl)
theorem dX5_setNew_51 : decode cX5_setNew 51 = .ok (.invokevirtual 68, 3) := dk_182 0 68 (dk_at dksX5_setNew_2 4 rfl rfl)
theorem dX5_setNew_54 : decode cX5_setNew 54 = .ok (.goto 9, 3) := dk_167 0 9 (dk_at dksX5_setNew_2 7 rfl rfl)
theorem dX5_setNew_57 : decode cX5_setNew 57 = .ok (.aload_n 0, 1) := dk_42 (dk_at dksX5_setNew_2 10 rfl rfl)
theorem dX5_setNew_58 : decode cX5_setNew 58 = .ok (.bipush (-2), 2) := dk_16 254 (dk_at dksX5_setNew_2 11 rfl rfl)
theorem dX5_setNew_60 : decode cX5_setNew 60 = .ok (.invokevirtual 72, 3) := dk_182 0 72 (dk_at dksX5_setNew_2 13 rfl rfl)
theorem dX5_setNew_63 : decode cX5_setNew 63 = .ok (.ireturn, 1) := dk_172 (dk_at dksX5_setNew_2 16 rfl rfl)
abbrev cX5_setOldTerm : ByteArray := prog_10_method_11_code
def yX5_setOldTerm : MethodName := ⟨RX5, "setOldTerm", "(III)I"⟩
def dkwX5_setOldTerm_0 : List UInt8 := [42, 3, 27, 28, 29, 182, 0, 82, 172]
abbrev dktX5_setOldTerm_0 : List UInt8 := dkwX5_setOldTerm_0 ++ []
theorem dksX5_setOldTerm_0 : cX5_setOldTerm.data.toList.drop 0 = dktX5_setOldTerm_0 := by decide +kernel
theorem dX5_setOldTerm_0 : decode cX5_setOldTerm 0 = .ok (.aload_n 0, 1) := dk_42 (dk_at dksX5_setOldTerm_0 0 rfl rfl)
theorem dX5_setOldTerm_1 : decode cX5_setOldTerm 1 = .ok (.iconst 0, 1) := dk_3 (dk_at dksX5_setOldTerm_0 1 rfl rfl)
theorem dX5_setOldTerm_2 : decode cX5_setOldTerm 2 = .ok (.iload_n 1, 1) := dk_27 (dk_at dksX5_setOldTerm_0 2 rfl rfl)
theorem dX5_setOldTerm_3 : decode cX5_setOldTerm 3 = .ok (.iload_n 2, 1) := dk_28 (dk_at dksX5_setOldTerm_0 3 rfl rfl)
theorem dX5_setOldTerm_4 : decode cX5_setOldTerm 4 = .ok (.iload_n 3, 1) := dk_29 (dk_at dksX5_setOldTerm_0 4 rfl rfl)
theorem dX5_setOldTerm_5 : decode cX5_setOldTerm 5 = .ok (.invokevirtual 82, 3) := dk_182 0 82 (dk_at dksX5_setOldTerm_0 5 rfl rfl)
theorem dX5_setOldTerm_8 : decode cX5_setOldTerm 8 = .ok (.ireturn, 1) := dk_172 (dk_at dksX5_setOldTerm_0 8 rfl rfl)
abbrev cX5_setsTerm : ByteArray := prog_10_method_10_code
def yX5_setsTerm : MethodName := ⟨RX5, "setsTerm", "(IIII)I"⟩
def dkwX5_setsTerm_3 : List UInt8 := [21, 5, 21, 4, 79, 21, 6, 172]
abbrev dktX5_setsTerm_3 : List UInt8 := dkwX5_setsTerm_3 ++ []
def dkwX5_setsTerm_2 : List UInt8 := [28, 104, 96, 5, 96, 4, 96, 29, 96, 54, 5, 42, 180, 0, 7, 21, 5, 46, 54, 6, 42, 180, 0, 7]
abbrev dktX5_setsTerm_2 : List UInt8 := dkwX5_setsTerm_2 ++ dktX5_setsTerm_3
def dkwX5_setsTerm_1 : List UInt8 := [9, 20, 0, 80, 184, 0, 55, 154, 0, 10, 42, 16, 254, 182, 0, 72, 172, 42, 182, 0, 59, 27, 16, 7]
abbrev dktX5_setsTerm_1 : List UInt8 := dkwX5_setsTerm_1 ++ dktX5_setsTerm_2
def dkwX5_setsTerm_0 : List UInt8 := [28, 184, 0, 62, 153, 0, 30, 29, 133, 20, 0, 78, 20, 0, 66, 184, 0, 55, 153, 0, 16, 21, 4, 133]
abbrev dktX5_setsTerm_0 : List UInt8 := dkwX5_setsTerm_0 ++ dktX5_setsTerm_1
theorem dksX5_setsTerm_0 : cX5_setsTerm.data.toList.drop 0 = dktX5_setsTerm_0 := by decide +kernel
theorem dksX5_setsTerm_1 : cX5_setsTerm.data.toList.drop 24 = dktX5_setsTerm_1 := dk_seg dksX5_setsTerm_0 24 rfl rfl
theorem dksX5_setsTerm_2 : cX5_setsTerm.data.toList.drop 48 = dktX5_setsTerm_2 := dk_seg dksX5_setsTerm_1 24 rfl rfl
theorem dksX5_setsTerm_3 : cX5_setsTerm.data.toList.drop 72 = dktX5_setsTerm_3 := dk_seg dksX5_setsTerm_2 24 rfl rfl
theorem dX5_setsTerm_0 : decode cX5_setsTerm 0 = .ok (.iload_n 2, 1) := dk_28 (dk_at dksX5_setsTerm_0 0 rfl rfl)
theorem dX5_setsTerm_1 : decode cX5_setsTerm 1 = .ok (.invokestatic 62, 3) := dk_184 0 62 (dk_at dksX5_setsTerm_0 1 rfl rfl)
theorem dX5_setsTerm_4 : decode cX5_setsTerm 4 = .ok (.ifCond .eq 30, 3) := dk_153 0 30 (dk_at dksX5_setsTerm_0 4 rfl rfl)
theorem dX5_setsTerm_7 : decode cX5_setsTerm 7 = .ok (.iload_n 3, 1) := dk_29 (dk_at dksX5_setsTerm_0 7 rfl rfl)
theorem dX5_setsTerm_8 : decode cX5_setsTerm 8 = .ok (.i2l, 1) := dk_133 (dk_at dksX5_setsTerm_0 8 rfl rfl)
theorem dX5_setsTerm_9 : decode cX5_setsTerm 9 = .ok (.ldc2_w 78, 3) := dk_20 0 78 (dk_at dksX5_setsTerm_0 9 rfl rfl)
theorem dX5_setsTerm_12 : decode cX5_setsTerm 12 = .ok (.ldc2_w 66, 3) := dk_20 0 66 (dk_at dksX5_setsTerm_0 12 rfl rfl)
theorem dX5_setsTerm_15 : decode cX5_setsTerm 15 = .ok (.invokestatic 55, 3) := dk_184 0 55 (dk_at dksX5_setsTerm_0 15 rfl rfl)
theorem dX5_setsTerm_18 : decode cX5_setsTerm 18 = .ok (.ifCond .eq 16, 3) := dk_153 0 16 (dk_at dksX5_setsTerm_0 18 rfl rfl)
theorem dX5_setsTerm_21 : decode cX5_setsTerm 21 = .ok (.iload 4, 2) := dk_21 4 (dk_at dksX5_setsTerm_0 21 rfl rfl)
theorem dX5_setsTerm_23 : decode cX5_setsTerm 23 = .ok (.i2l, 1) := dk_133 (dk_at dksX5_setsTerm_0 23 rfl rfl)
theorem dX5_setsTerm_24 : decode cX5_setsTerm 24 = .ok (.lconst 0, 1) := dk_9 (dk_at dksX5_setsTerm_1 0 rfl rfl)
theorem dX5_setsTerm_25 : decode cX5_setsTerm 25 = .ok (.ldc2_w 80, 3) := dk_20 0 80 (dk_at dksX5_setsTerm_1 1 rfl rfl)
theorem dX5_setsTerm_28 : decode cX5_setsTerm 28 = .ok (.invokestatic 55, 3) := dk_184 0 55 (dk_at dksX5_setsTerm_1 4 rfl rfl)
theorem dX5_setsTerm_31 : decode cX5_setsTerm 31 = .ok (.ifCond .ne 10, 3) := dk_154 0 10 (dk_at dksX5_setsTerm_1 7 rfl rfl)
theorem dX5_setsTerm_34 : decode cX5_setsTerm 34 = .ok (.aload_n 0, 1) := dk_42 (dk_at dksX5_setsTerm_1 10 rfl rfl)
theorem dX5_setsTerm_35 : decode cX5_setsTerm 35 = .ok (.bipush (-2), 2) := dk_16 254 (dk_at dksX5_setsTerm_1 11 rfl rfl)
theorem dX5_setsTerm_37 : decode cX5_setsTerm 37 = .ok (.invokevirtual 72, 3) := dk_182 0 72 (dk_at dksX5_setsTerm_1 13 rfl rfl)
theorem dX5_setsTerm_40 : decode cX5_setsTerm 40 = .ok (.ireturn, 1) := dk_172 (dk_at dksX5_setsTerm_1 16 rfl rfl)
theorem dX5_setsTerm_41 : decode cX5_setsTerm 41 = .ok (.aload_n 0, 1) := dk_42 (dk_at dksX5_setsTerm_1 17 rfl rfl)
theorem dX5_setsTerm_42 : decode cX5_setsTerm 42 = .ok (.invokevirtual 59, 3) := dk_182 0 59 (dk_at dksX5_setsTerm_1 18 rfl rfl)
theorem dX5_setsTerm_45 : decode cX5_setsTerm 45 = .ok (.iload_n 1, 1) := dk_27 (dk_at dksX5_setsTerm_1 21 rfl rfl)
theorem dX5_setsTerm_46 : decode cX5_setsTerm 46 = .ok (.bipush 7, 2) := dk_16 7 (dk_at dksX5_setsTerm_1 22 rfl rfl)
theorem dX5_setsTerm_48 : decode cX5_setsTerm 48 = .ok (.iload_n 2, 1) := dk_28 (dk_at dksX5_setsTerm_2 0 rfl rfl)
theorem dX5_setsTerm_49 : decode cX5_setsTerm 49 = .ok (.imul, 1) := dk_104 (dk_at dksX5_setsTerm_2 1 rfl rfl)
theorem dX5_setsTerm_50 : decode cX5_setsTerm 50 = .ok (.iadd, 1) := dk_96 (dk_at dksX5_setsTerm_2 2 rfl rfl)
theorem dX5_setsTerm_51 : decode cX5_setsTerm 51 = .ok (.iconst 2, 1) := dk_5 (dk_at dksX5_setsTerm_2 3 rfl rfl)
theorem dX5_setsTerm_52 : decode cX5_setsTerm 52 = .ok (.iadd, 1) := dk_96 (dk_at dksX5_setsTerm_2 4 rfl rfl)
theorem dX5_setsTerm_53 : decode cX5_setsTerm 53 = .ok (.iconst 1, 1) := dk_4 (dk_at dksX5_setsTerm_2 5 rfl rfl)
theorem dX5_setsTerm_54 : decode cX5_setsTerm 54 = .ok (.iadd, 1) := dk_96 (dk_at dksX5_setsTerm_2 6 rfl rfl)
theorem dX5_setsTerm_55 : decode cX5_setsTerm 55 = .ok (.iload_n 3, 1) := dk_29 (dk_at dksX5_setsTerm_2 7 rfl rfl)
theorem dX5_setsTerm_56 : decode cX5_setsTerm 56 = .ok (.iadd, 1) := dk_96 (dk_at dksX5_setsTerm_2 8 rfl rfl)
theorem dX5_setsTerm_57 : decode cX5_setsTerm 57 = .ok (.istore 5, 2) := dk_54 5 (dk_at dksX5_setsTerm_2 9 rfl rfl)
theorem dX5_setsTerm_59 : decode cX5_setsTerm 59 = .ok (.aload_n 0, 1) := dk_42 (dk_at dksX5_setsTerm_2 11 rfl rfl)
theorem dX5_setsTerm_60 : decode cX5_setsTerm 60 = .ok (.getfield 7, 3) := dk_180 0 7 (dk_at dksX5_setsTerm_2 12 rfl rfl)
theorem dX5_setsTerm_63 : decode cX5_setsTerm 63 = .ok (.iload 5, 2) := dk_21 5 (dk_at dksX5_setsTerm_2 15 rfl rfl)
theorem dX5_setsTerm_65 : decode cX5_setsTerm 65 = .ok (.iaload, 1) := dk_46 (dk_at dksX5_setsTerm_2 17 rfl rfl)
theorem dX5_setsTerm_66 : decode cX5_setsTerm 66 = .ok (.istore 6, 2) := dk_54 6 (dk_at dksX5_setsTerm_2 18 rfl rfl)
theorem dX5_setsTerm_68 : decode cX5_setsTerm 68 = .ok (.aload_n 0, 1) := dk_42 (dk_at dksX5_setsTerm_2 20 rfl rfl)
theorem dX5_setsTerm_69 : decode cX5_setsTerm 69 = .ok (.getfield 7, 3) := dk_180 0 7 (dk_at dksX5_setsTerm_2 21 rfl rfl)
theorem dX5_setsTerm_72 : decode cX5_setsTerm 72 = .ok (.iload 5, 2) := dk_21 5 (dk_at dksX5_setsTerm_3 0 rfl rfl)
theorem dX5_setsTerm_74 : decode cX5_setsTerm 74 = .ok (.iload 4, 2) := dk_21 4 (dk_at dksX5_setsTerm_3 2 rfl rfl)
theorem dX5_setsTerm_76 : decode cX5_setsTerm 76 = .ok (.iastore, 1) := dk_79 (dk_at dksX5_setsTerm_3 4 rfl rfl)
theorem dX5_setsTerm_77 : decode cX5_setsTerm 77 = .ok (.iload 6, 2) := dk_21 6 (dk_at dksX5_setsTerm_3 5 rfl rfl)
theorem dX5_setsTerm_79 : decode cX5_setsTerm 79 = .ok (.ireturn, 1) := dk_172 (dk_at dksX5_setsTerm_3 7 rfl rfl)
abbrev cX5_setNewTerm : ByteArray := prog_10_method_12_code
def yX5_setNewTerm : MethodName := ⟨RX5, "setNewTerm", "(III)I"⟩
def dkwX5_setNewTerm_0 : List UInt8 := [42, 16, 42, 27, 28, 29, 182, 0, 82, 172]
abbrev dktX5_setNewTerm_0 : List UInt8 := dkwX5_setNewTerm_0 ++ []
theorem dksX5_setNewTerm_0 : cX5_setNewTerm.data.toList.drop 0 = dktX5_setNewTerm_0 := by decide +kernel
theorem dX5_setNewTerm_0 : decode cX5_setNewTerm 0 = .ok (.aload_n 0, 1) := dk_42 (dk_at dksX5_setNewTerm_0 0 rfl rfl)
theorem dX5_setNewTerm_1 : decode cX5_setNewTerm 1 = .ok (.bipush 42, 2) := dk_16 42 (dk_at dksX5_setNewTerm_0 1 rfl rfl)
theorem dX5_setNewTerm_3 : decode cX5_setNewTerm 3 = .ok (.iload_n 1, 1) := dk_27 (dk_at dksX5_setNewTerm_0 3 rfl rfl)
theorem dX5_setNewTerm_4 : decode cX5_setNewTerm 4 = .ok (.iload_n 2, 1) := dk_28 (dk_at dksX5_setNewTerm_0 4 rfl rfl)
theorem dX5_setNewTerm_5 : decode cX5_setNewTerm 5 = .ok (.iload_n 3, 1) := dk_29 (dk_at dksX5_setNewTerm_0 5 rfl rfl)
theorem dX5_setNewTerm_6 : decode cX5_setNewTerm 6 = .ok (.invokevirtual 82, 3) := dk_182 0 82 (dk_at dksX5_setNewTerm_0 6 rfl rfl)
theorem dX5_setNewTerm_9 : decode cX5_setNewTerm 9 = .ok (.ireturn, 1) := dk_172 (dk_at dksX5_setNewTerm_0 9 rfl rfl)
abbrev cX5_map : ByteArray := prog_10_method_18_code
def yX5_map : MethodName := ⟨RX5, "map", "(II)I"⟩
def dkwX5_map_3 : List UInt8 := [180, 0, 7, 29, 7, 96, 16, 100, 79, 42, 180, 0, 7, 29, 28, 79, 42, 27, 182, 0, 99, 172]
abbrev dktX5_map_3 : List UInt8 := dkwX5_map_3 ++ []
def dkwX5_map_2 : List UInt8 := [29, 4, 96, 3, 79, 42, 180, 0, 7, 29, 5, 96, 4, 79, 42, 180, 0, 7, 29, 6, 96, 5, 79, 42]
abbrev dktX5_map_2 : List UInt8 := dkwX5_map_2 ++ dktX5_map_3
def dkwX5_map_1 : List UInt8 := [182, 0, 59, 16, 117, 8, 27, 104, 96, 62, 42, 180, 0, 7, 29, 46, 2, 160, 0, 40, 42, 180, 0, 7]
abbrev dktX5_map_1 : List UInt8 := dkwX5_map_1 ++ dktX5_map_2
def dkwX5_map_0 : List UInt8 := [27, 184, 0, 62, 153, 0, 10, 28, 184, 0, 62, 154, 0, 10, 42, 16, 254, 182, 0, 72, 172, 42]
abbrev dktX5_map_0 : List UInt8 := dkwX5_map_0 ++ dktX5_map_1
theorem dksX5_map_0 : cX5_map.data.toList.drop 0 = dktX5_map_0 := by decide +kernel
theorem dksX5_map_1 : cX5_map.data.toList.drop 22 = dktX5_map_1 := dk_seg dksX5_map_0 22 rfl rfl
theorem dksX5_map_2 : cX5_map.data.toList.drop 46 = dktX5_map_2 := dk_seg dksX5_map_1 24 rfl rfl
theorem dksX5_map_3 : cX5_map.data.toList.drop 70 = dktX5_map_3 := dk_seg dksX5_map_2 24 rfl rfl
theorem dX5_map_0 : decode cX5_map 0 = .ok (.iload_n 1, 1) := dk_27 (dk_at dksX5_map_0 0 rfl rfl)
theorem dX5_map_1 : decode cX5_map 1 = .ok (.invokestatic 62, 3) := dk_184 0 62 (dk_at dksX5_map_0 1 rfl rfl)
theorem dX5_map_4 : decode cX5_map 4 = .ok (.ifCond .eq 10, 3) := dk_153 0 10 (dk_at dksX5_map_0 4 rfl rfl)
theorem dX5_map_7 : decode cX5_map 7 = .ok (.iload_n 2, 1) := dk_28 (dk_at dksX5_map_0 7 rfl rfl)
theorem dX5_map_8 : decode cX5_map 8 = .ok (.invokestatic 62, 3) := dk_184 0 62 (dk_at dksX5_map_0 8 rfl rfl)
theorem dX5_map_11 : decode cX5_map 11 = .ok (.ifCond .ne 10, 3) := dk_154 0 10 (dk_at dksX5_map_0 11 rfl rfl)
theorem dX5_map_14 : decode cX5_map 14 = .ok (.aload_n 0, 1) := dk_42 (dk_at dksX5_map_0 14 rfl rfl)
theorem dX5_map_15 : decode cX5_map 15 = .ok (.bipush (-2), 2) := dk_16 254 (dk_at dksX5_map_0 15 rfl rfl)
theorem dX5_map_17 : decode cX5_map 17 = .ok (.invokevirtual 72, 3) := dk_182 0 72 (dk_at dksX5_map_0 17 rfl rfl)
theorem dX5_map_20 : decode cX5_map 20 = .ok (.ireturn, 1) := dk_172 (dk_at dksX5_map_0 20 rfl rfl)
theorem dX5_map_21 : decode cX5_map 21 = .ok (.aload_n 0, 1) := dk_42 (dk_at dksX5_map_0 21 rfl rfl)
theorem dX5_map_22 : decode cX5_map 22 = .ok (.invokevirtual 59, 3) := dk_182 0 59 (dk_at dksX5_map_1 0 rfl rfl)
theorem dX5_map_25 : decode cX5_map 25 = .ok (.bipush 117, 2) := dk_16 117 (dk_at dksX5_map_1 3 rfl rfl)
theorem dX5_map_27 : decode cX5_map 27 = .ok (.iconst 5, 1) := dk_8 (dk_at dksX5_map_1 5 rfl rfl)
theorem dX5_map_28 : decode cX5_map 28 = .ok (.iload_n 1, 1) := dk_27 (dk_at dksX5_map_1 6 rfl rfl)
theorem dX5_map_29 : decode cX5_map 29 = .ok (.imul, 1) := dk_104 (dk_at dksX5_map_1 7 rfl rfl)
theorem dX5_map_30 : decode cX5_map 30 = .ok (.iadd, 1) := dk_96 (dk_at dksX5_map_1 8 rfl rfl)
theorem dX5_map_31 : decode cX5_map 31 = .ok (.istore_n 3, 1) := dk_62 (dk_at dksX5_map_1 9 rfl rfl)
theorem dX5_map_32 : decode cX5_map 32 = .ok (.aload_n 0, 1) := dk_42 (dk_at dksX5_map_1 10 rfl rfl)
theorem dX5_map_33 : decode cX5_map 33 = .ok (.getfield 7, 3) := dk_180 0 7 (dk_at dksX5_map_1 11 rfl rfl)
theorem dX5_map_36 : decode cX5_map 36 = .ok (.iload_n 3, 1) := dk_29 (dk_at dksX5_map_1 14 rfl rfl)
theorem dX5_map_37 : decode cX5_map 37 = .ok (.iaload, 1) := dk_46 (dk_at dksX5_map_1 15 rfl rfl)
theorem dX5_map_38 : decode cX5_map 38 = .ok (.iconst (-1), 1) := dk_2 (dk_at dksX5_map_1 16 rfl rfl)
theorem dX5_map_39 : decode cX5_map 39 = .ok (.if_icmp .ne 40, 3) := dk_160 0 40 (dk_at dksX5_map_1 17 rfl rfl)
theorem dX5_map_42 : decode cX5_map 42 = .ok (.aload_n 0, 1) := dk_42 (dk_at dksX5_map_1 20 rfl rfl)
theorem dX5_map_43 : decode cX5_map 43 = .ok (.getfield 7, 3) := dk_180 0 7 (dk_at dksX5_map_1 21 rfl rfl)
theorem dX5_map_46 : decode cX5_map 46 = .ok (.iload_n 3, 1) := dk_29 (dk_at dksX5_map_2 0 rfl rfl)
theorem dX5_map_47 : decode cX5_map 47 = .ok (.iconst 1, 1) := dk_4 (dk_at dksX5_map_2 1 rfl rfl)
theorem dX5_map_48 : decode cX5_map 48 = .ok (.iadd, 1) := dk_96 (dk_at dksX5_map_2 2 rfl rfl)
theorem dX5_map_49 : decode cX5_map 49 = .ok (.iconst 0, 1) := dk_3 (dk_at dksX5_map_2 3 rfl rfl)
theorem dX5_map_50 : decode cX5_map 50 = .ok (.iastore, 1) := dk_79 (dk_at dksX5_map_2 4 rfl rfl)
theorem dX5_map_51 : decode cX5_map 51 = .ok (.aload_n 0, 1) := dk_42 (dk_at dksX5_map_2 5 rfl rfl)
theorem dX5_map_52 : decode cX5_map 52 = .ok (.getfield 7, 3) := dk_180 0 7 (dk_at dksX5_map_2 6 rfl rfl)
theorem dX5_map_55 : decode cX5_map 55 = .ok (.iload_n 3, 1) := dk_29 (dk_at dksX5_map_2 9 rfl rfl)
theorem dX5_map_56 : decode cX5_map 56 = .ok (.iconst 2, 1) := dk_5 (dk_at dksX5_map_2 10 rfl rfl)
theorem dX5_map_57 : decode cX5_map 57 = .ok (.iadd, 1) := dk_96 (dk_at dksX5_map_2 11 rfl rfl)
theorem dX5_map_58 : decode cX5_map 58 = .ok (.iconst 1, 1) := dk_4 (dk_at dksX5_map_2 12 rfl rfl)
theorem dX5_map_59 : decode cX5_map 59 = .ok (.iastore, 1) := dk_79 (dk_at dksX5_map_2 13 rfl rfl)
theorem dX5_map_60 : decode cX5_map 60 = .ok (.aload_n 0, 1) := dk_42 (dk_at dksX5_map_2 14 rfl rfl)
theorem dX5_map_61 : decode cX5_map 61 = .ok (.getfield 7, 3) := dk_180 0 7 (dk_at dksX5_map_2 15 rfl rfl)
theorem dX5_map_64 : decode cX5_map 64 = .ok (.iload_n 3, 1) := dk_29 (dk_at dksX5_map_2 18 rfl rfl)
theorem dX5_map_65 : decode cX5_map 65 = .ok (.iconst 3, 1) := dk_6 (dk_at dksX5_map_2 19 rfl rfl)
theorem dX5_map_66 : decode cX5_map 66 = .ok (.iadd, 1) := dk_96 (dk_at dksX5_map_2 20 rfl rfl)
theorem dX5_map_67 : decode cX5_map 67 = .ok (.iconst 2, 1) := dk_5 (dk_at dksX5_map_2 21 rfl rfl)
theorem dX5_map_68 : decode cX5_map 68 = .ok (.iastore, 1) := dk_79 (dk_at dksX5_map_2 22 rfl rfl)
theorem dX5_map_69 : decode cX5_map 69 = .ok (.aload_n 0, 1) := dk_42 (dk_at dksX5_map_2 23 rfl rfl)
theorem dX5_map_70 : decode cX5_map 70 = .ok (.getfield 7, 3) := dk_180 0 7 (dk_at dksX5_map_3 0 rfl rfl)
theorem dX5_map_73 : decode cX5_map 73 = .ok (.iload_n 3, 1) := dk_29 (dk_at dksX5_map_3 3 rfl rfl)
theorem dX5_map_74 : decode cX5_map 74 = .ok (.iconst 4, 1) := dk_7 (dk_at dksX5_map_3 4 rfl rfl)
theorem dX5_map_75 : decode cX5_map 75 = .ok (.iadd, 1) := dk_96 (dk_at dksX5_map_3 5 rfl rfl)
theorem dX5_map_76 : decode cX5_map 76 = .ok (.bipush 100, 2) := dk_16 100 (dk_at dksX5_map_3 6 rfl rfl)
theorem dX5_map_78 : decode cX5_map 78 = .ok (.iastore, 1) := dk_79 (dk_at dksX5_map_3 8 rfl rfl)
theorem dX5_map_79 : decode cX5_map 79 = .ok (.aload_n 0, 1) := dk_42 (dk_at dksX5_map_3 9 rfl rfl)
theorem dX5_map_80 : decode cX5_map 80 = .ok (.getfield 7, 3) := dk_180 0 7 (dk_at dksX5_map_3 10 rfl rfl)
theorem dX5_map_83 : decode cX5_map 83 = .ok (.iload_n 3, 1) := dk_29 (dk_at dksX5_map_3 13 rfl rfl)
theorem dX5_map_84 : decode cX5_map 84 = .ok (.iload_n 2, 1) := dk_28 (dk_at dksX5_map_3 14 rfl rfl)
theorem dX5_map_85 : decode cX5_map 85 = .ok (.iastore, 1) := dk_79 (dk_at dksX5_map_3 15 rfl rfl)
theorem dX5_map_86 : decode cX5_map 86 = .ok (.aload_n 0, 1) := dk_42 (dk_at dksX5_map_3 16 rfl rfl)
theorem dX5_map_87 : decode cX5_map 87 = .ok (.iload_n 1, 1) := dk_27 (dk_at dksX5_map_3 17 rfl rfl)
theorem dX5_map_88 : decode cX5_map 88 = .ok (.invokevirtual 99, 3) := dk_182 0 99 (dk_at dksX5_map_3 18 rfl rfl)
theorem dX5_map_91 : decode cX5_map 91 = .ok (.ireturn, 1) := dk_172 (dk_at dksX5_map_3 21 rfl rfl)
abbrev cX5_faithful : ByteArray := prog_10_method_17_code
def yX5_faithful : MethodName := ⟨RX5, "faithful", "(I)I"⟩
def dkwX5_faithful_0 : List UInt8 := [42, 27, 182, 0, 96, 153, 0, 7, 4, 167, 0, 4, 3, 172]
abbrev dktX5_faithful_0 : List UInt8 := dkwX5_faithful_0 ++ []
theorem dksX5_faithful_0 : cX5_faithful.data.toList.drop 0 = dktX5_faithful_0 := by decide +kernel
theorem dX5_faithful_0 : decode cX5_faithful 0 = .ok (.aload_n 0, 1) := dk_42 (dk_at dksX5_faithful_0 0 rfl rfl)
theorem dX5_faithful_1 : decode cX5_faithful 1 = .ok (.iload_n 1, 1) := dk_27 (dk_at dksX5_faithful_0 1 rfl rfl)
theorem dX5_faithful_2 : decode cX5_faithful 2 = .ok (.invokevirtual 96, 3) := dk_182 0 96 (dk_at dksX5_faithful_0 2 rfl rfl)
theorem dX5_faithful_5 : decode cX5_faithful 5 = .ok (.ifCond .eq 7, 3) := dk_153 0 7 (dk_at dksX5_faithful_0 5 rfl rfl)
theorem dX5_faithful_8 : decode cX5_faithful 8 = .ok (.iconst 1, 1) := dk_4 (dk_at dksX5_faithful_0 8 rfl rfl)
theorem dX5_faithful_9 : decode cX5_faithful 9 = .ok (.goto 4, 3) := dk_167 0 4 (dk_at dksX5_faithful_0 9 rfl rfl)
theorem dX5_faithful_12 : decode cX5_faithful 12 = .ok (.iconst 0, 1) := dk_3 (dk_at dksX5_faithful_0 12 rfl rfl)
theorem dX5_faithful_13 : decode cX5_faithful 13 = .ok (.ireturn, 1) := dk_172 (dk_at dksX5_faithful_0 13 rfl rfl)
abbrev cX5_isTrue : ByteArray := prog_10_method_16_code
def yX5_isTrue : MethodName := ⟨RX5, "isTrue", "(I)Z"⟩
def dkwX5_isTrue_10 : List UInt8 := [21, 6, 96, 46, 160, 0, 7, 4, 167, 0, 4, 3, 54, 5, 132, 6, 1, 167, 255, 147, 21, 5, 172]
abbrev dktX5_isTrue_10 : List UInt8 := dkwX5_isTrue_10 ++ []
def dkwX5_isTrue_9 : List UInt8 := [167, 255, 212, 21, 5, 153, 0, 30, 21, 7, 42, 180, 0, 7, 3, 16, 7, 27, 104, 96, 5, 96, 4, 96]
abbrev dktX5_isTrue_9 : List UInt8 := dkwX5_isTrue_9 ++ dktX5_isTrue_10
def dkwX5_isTrue_8 : List UInt8 := [42, 180, 0, 7, 28, 5, 96, 4, 96, 21, 8, 96, 46, 167, 0, 4, 3, 96, 54, 7, 132, 8, 1]
abbrev dktX5_isTrue_8 : List UInt8 := dkwX5_isTrue_8 ++ dktX5_isTrue_9
def dkwX5_isTrue_7 : List UInt8 := [3, 54, 8, 21, 8, 21, 4, 162, 0, 43, 21, 7, 42, 27, 21, 8, 182, 0, 92, 21, 6, 160, 0, 19]
abbrev dktX5_isTrue_7 : List UInt8 := dkwX5_isTrue_7 ++ dktX5_isTrue_8
def dkwX5_isTrue_6 : List UInt8 := [3, 54, 6, 21, 6, 42, 180, 0, 7, 3, 16, 7, 27, 104, 96, 3, 96, 46, 162, 0, 97, 3, 54, 7]
abbrev dktX5_isTrue_6 : List UInt8 := dkwX5_isTrue_6 ++ dktX5_isTrue_7
def dkwX5_isTrue_5 : List UInt8 := [112, 42, 180, 0, 7, 3, 16, 7, 27, 104, 96, 5, 96, 46, 160, 0, 7, 4, 167, 0, 4, 3, 54, 5]
abbrev dktX5_isTrue_5 : List UInt8 := dkwX5_isTrue_5 ++ dktX5_isTrue_6
def dkwX5_isTrue_4 : List UInt8 := [4, 96, 21, 5, 96, 46, 21, 6, 16, 100, 100, 104, 96, 62, 132, 5, 1, 167, 255, 177, 29, 17, 3, 232]
abbrev dktX5_isTrue_4 : List UInt8 := dkwX5_isTrue_4 ++ dktX5_isTrue_5
def dkwX5_isTrue_3 : List UInt8 := [161, 0, 5, 3, 172, 29, 21, 6, 16, 100, 162, 0, 7, 3, 167, 0, 22, 42, 180, 0, 7, 28, 5, 96]
abbrev dktX5_isTrue_3 : List UInt8 := dkwX5_isTrue_3 ++ dktX5_isTrue_4
def dkwX5_isTrue_2 : List UInt8 := [21, 6, 16, 100, 162, 0, 23, 21, 6, 42, 180, 0, 7, 3, 16, 7, 27, 104, 96, 3, 96, 46]
abbrev dktX5_isTrue_2 : List UInt8 := dkwX5_isTrue_2 ++ dktX5_isTrue_3
def dkwX5_isTrue_1 : List UInt8 := [182, 0, 89, 54, 4, 3, 54, 5, 21, 5, 21, 4, 162, 0, 78, 42, 27, 21, 5, 182, 0, 92, 54, 6]
abbrev dktX5_isTrue_1 : List UInt8 := dkwX5_isTrue_1 ++ dktX5_isTrue_2
def dkwX5_isTrue_0 : List UInt8 := [16, 42, 16, 7, 42, 27, 182, 0, 86, 104, 96, 61, 42, 180, 0, 7, 28, 5, 96, 46, 62, 42, 27]
abbrev dktX5_isTrue_0 : List UInt8 := dkwX5_isTrue_0 ++ dktX5_isTrue_1
theorem dksX5_isTrue_0 : cX5_isTrue.data.toList.drop 0 = dktX5_isTrue_0 := by decide +kernel
theorem dksX5_isTrue_1 : cX5_isTrue.data.toList.drop 23 = dktX5_isTrue_1 := dk_seg dksX5_isTrue_0 23 rfl rfl
theorem dksX5_isTrue_2 : cX5_isTrue.data.toList.drop 47 = dktX5_isTrue_2 := dk_seg dksX5_isTrue_1 24 rfl rfl
theorem dksX5_isTrue_3 : cX5_isTrue.data.toList.drop 69 = dktX5_isTrue_3 := dk_seg dksX5_isTrue_2 22 rfl rfl
theorem dksX5_isTrue_4 : cX5_isTrue.data.toList.drop 93 = dktX5_isTrue_4 := dk_seg dksX5_isTrue_3 24 rfl rfl
theorem dksX5_isTrue_5 : cX5_isTrue.data.toList.drop 117 = dktX5_isTrue_5 := dk_seg dksX5_isTrue_4 24 rfl rfl
theorem dksX5_isTrue_6 : cX5_isTrue.data.toList.drop 141 = dktX5_isTrue_6 := dk_seg dksX5_isTrue_5 24 rfl rfl
theorem dksX5_isTrue_7 : cX5_isTrue.data.toList.drop 165 = dktX5_isTrue_7 := dk_seg dksX5_isTrue_6 24 rfl rfl
theorem dksX5_isTrue_8 : cX5_isTrue.data.toList.drop 189 = dktX5_isTrue_8 := dk_seg dksX5_isTrue_7 24 rfl rfl
theorem dksX5_isTrue_9 : cX5_isTrue.data.toList.drop 212 = dktX5_isTrue_9 := dk_seg dksX5_isTrue_8 23 rfl rfl
theorem dksX5_isTrue_10 : cX5_isTrue.data.toList.drop 236 = dktX5_isTrue_10 := dk_seg dksX5_isTrue_9 24 rfl rfl
theorem dX5_isTrue_0 : decode cX5_isTrue 0 = .ok (.bipush 42, 2) := dk_16 42 (dk_at dksX5_isTrue_0 0 rfl rfl)
theorem dX5_isTrue_2 : decode cX5_isTrue 2 = .ok (.bipush 7, 2) := dk_16 7 (dk_at dksX5_isTrue_0 2 rfl rfl)
theorem dX5_isTrue_4 : decode cX5_isTrue 4 = .ok (.aload_n 0, 1) := dk_42 (dk_at dksX5_isTrue_0 4 rfl rfl)
theorem dX5_isTrue_5 : decode cX5_isTrue 5 = .ok (.iload_n 1, 1) := dk_27 (dk_at dksX5_isTrue_0 5 rfl rfl)
theorem dX5_isTrue_6 : decode cX5_isTrue 6 = .ok (.invokevirtual 86, 3) := dk_182 0 86 (dk_at dksX5_isTrue_0 6 rfl rfl)
theorem dX5_isTrue_9 : decode cX5_isTrue 9 = .ok (.imul, 1) := dk_104 (dk_at dksX5_isTrue_0 9 rfl rfl)
theorem dX5_isTrue_10 : decode cX5_isTrue 10 = .ok (.iadd, 1) := dk_96 (dk_at dksX5_isTrue_0 10 rfl rfl)
theorem dX5_isTrue_11 : decode cX5_isTrue 11 = .ok (.istore_n 2, 1) := dk_61 (dk_at dksX5_isTrue_0 11 rfl rfl)
theorem dX5_isTrue_12 : decode cX5_isTrue 12 = .ok (.aload_n 0, 1) := dk_42 (dk_at dksX5_isTrue_0 12 rfl rfl)
theorem dX5_isTrue_13 : decode cX5_isTrue 13 = .ok (.getfield 7, 3) := dk_180 0 7 (dk_at dksX5_isTrue_0 13 rfl rfl)
theorem dX5_isTrue_16 : decode cX5_isTrue 16 = .ok (.iload_n 2, 1) := dk_28 (dk_at dksX5_isTrue_0 16 rfl rfl)
theorem dX5_isTrue_17 : decode cX5_isTrue 17 = .ok (.iconst 2, 1) := dk_5 (dk_at dksX5_isTrue_0 17 rfl rfl)
theorem dX5_isTrue_18 : decode cX5_isTrue 18 = .ok (.iadd, 1) := dk_96 (dk_at dksX5_isTrue_0 18 rfl rfl)
theorem dX5_isTrue_19 : decode cX5_isTrue 19 = .ok (.iaload, 1) := dk_46 (dk_at dksX5_isTrue_0 19 rfl rfl)
theorem dX5_isTrue_20 : decode cX5_isTrue 20 = .ok (.istore_n 3, 1) := dk_62 (dk_at dksX5_isTrue_0 20 rfl rfl)
theorem dX5_isTrue_21 : decode cX5_isTrue 21 = .ok (.aload_n 0, 1) := dk_42 (dk_at dksX5_isTrue_0 21 rfl rfl)
theorem dX5_isTrue_22 : decode cX5_isTrue 22 = .ok (.iload_n 1, 1) := dk_27 (dk_at dksX5_isTrue_0 22 rfl rfl)
theorem dX5_isTrue_23 : decode cX5_isTrue 23 = .ok (.invokevirtual 89, 3) := dk_182 0 89 (dk_at dksX5_isTrue_1 0 rfl rfl)
theorem dX5_isTrue_26 : decode cX5_isTrue 26 = .ok (.istore 4, 2) := dk_54 4 (dk_at dksX5_isTrue_1 3 rfl rfl)
theorem dX5_isTrue_28 : decode cX5_isTrue 28 = .ok (.iconst 0, 1) := dk_3 (dk_at dksX5_isTrue_1 5 rfl rfl)
theorem dX5_isTrue_29 : decode cX5_isTrue 29 = .ok (.istore 5, 2) := dk_54 5 (dk_at dksX5_isTrue_1 6 rfl rfl)
theorem dX5_isTrue_31 : decode cX5_isTrue 31 = .ok (.iload 5, 2) := dk_21 5 (dk_at dksX5_isTrue_1 8 rfl rfl)
theorem dX5_isTrue_33 : decode cX5_isTrue 33 = .ok (.iload 4, 2) := dk_21 4 (dk_at dksX5_isTrue_1 10 rfl rfl)
theorem dX5_isTrue_35 : decode cX5_isTrue 35 = .ok (.if_icmp .ge 78, 3) := dk_162 0 78 (dk_at dksX5_isTrue_1 12 rfl rfl)
theorem dX5_isTrue_38 : decode cX5_isTrue 38 = .ok (.aload_n 0, 1) := dk_42 (dk_at dksX5_isTrue_1 15 rfl rfl)
theorem dX5_isTrue_39 : decode cX5_isTrue 39 = .ok (.iload_n 1, 1) := dk_27 (dk_at dksX5_isTrue_1 16 rfl rfl)
theorem dX5_isTrue_40 : decode cX5_isTrue 40 = .ok (.iload 5, 2) := dk_21 5 (dk_at dksX5_isTrue_1 17 rfl rfl)
theorem dX5_isTrue_42 : decode cX5_isTrue 42 = .ok (.invokevirtual 92, 3) := dk_182 0 92 (dk_at dksX5_isTrue_1 19 rfl rfl)
theorem dX5_isTrue_45 : decode cX5_isTrue 45 = .ok (.istore 6, 2) := dk_54 6 (dk_at dksX5_isTrue_1 22 rfl rfl)
theorem dX5_isTrue_47 : decode cX5_isTrue 47 = .ok (.iload 6, 2) := dk_21 6 (dk_at dksX5_isTrue_2 0 rfl rfl)
theorem dX5_isTrue_49 : decode cX5_isTrue 49 = .ok (.bipush 100, 2) := dk_16 100 (dk_at dksX5_isTrue_2 2 rfl rfl)
theorem dX5_isTrue_51 : decode cX5_isTrue 51 = .ok (.if_icmp .ge 23, 3) := dk_162 0 23 (dk_at dksX5_isTrue_2 4 rfl rfl)
theorem dX5_isTrue_54 : decode cX5_isTrue 54 = .ok (.iload 6, 2) := dk_21 6 (dk_at dksX5_isTrue_2 7 rfl rfl)
theorem dX5_isTrue_56 : decode cX5_isTrue 56 = .ok (.aload_n 0, 1) := dk_42 (dk_at dksX5_isTrue_2 9 rfl rfl)
theorem dX5_isTrue_57 : decode cX5_isTrue 57 = .ok (.getfield 7, 3) := dk_180 0 7 (dk_at dksX5_isTrue_2 10 rfl rfl)
theorem dX5_isTrue_60 : decode cX5_isTrue 60 = .ok (.iconst 0, 1) := dk_3 (dk_at dksX5_isTrue_2 13 rfl rfl)
theorem dX5_isTrue_61 : decode cX5_isTrue 61 = .ok (.bipush 7, 2) := dk_16 7 (dk_at dksX5_isTrue_2 14 rfl rfl)
theorem dX5_isTrue_63 : decode cX5_isTrue 63 = .ok (.iload_n 1, 1) := dk_27 (dk_at dksX5_isTrue_2 16 rfl rfl)
theorem dX5_isTrue_64 : decode cX5_isTrue 64 = .ok (.imul, 1) := dk_104 (dk_at dksX5_isTrue_2 17 rfl rfl)
theorem dX5_isTrue_65 : decode cX5_isTrue 65 = .ok (.iadd, 1) := dk_96 (dk_at dksX5_isTrue_2 18 rfl rfl)
theorem dX5_isTrue_66 : decode cX5_isTrue 66 = .ok (.iconst 0, 1) := dk_3 (dk_at dksX5_isTrue_2 19 rfl rfl)
theorem dX5_isTrue_67 : decode cX5_isTrue 67 = .ok (.iadd, 1) := dk_96 (dk_at dksX5_isTrue_2 20 rfl rfl)
theorem dX5_isTrue_68 : decode cX5_isTrue 68 = .ok (.iaload, 1) := dk_46 (dk_at dksX5_isTrue_2 21 rfl rfl)
theorem dX5_isTrue_69 : decode cX5_isTrue 69 = .ok (.if_icmp .lt 5, 3) := dk_161 0 5 (dk_at dksX5_isTrue_3 0 rfl rfl)
theorem dX5_isTrue_72 : decode cX5_isTrue 72 = .ok (.iconst 0, 1) := dk_3 (dk_at dksX5_isTrue_3 3 rfl rfl)
theorem dX5_isTrue_73 : decode cX5_isTrue 73 = .ok (.ireturn, 1) := dk_172 (dk_at dksX5_isTrue_3 4 rfl rfl)
theorem dX5_isTrue_74 : decode cX5_isTrue 74 = .ok (.iload_n 3, 1) := dk_29 (dk_at dksX5_isTrue_3 5 rfl rfl)
theorem dX5_isTrue_75 : decode cX5_isTrue 75 = .ok (.iload 6, 2) := dk_21 6 (dk_at dksX5_isTrue_3 6 rfl rfl)
theorem dX5_isTrue_77 : decode cX5_isTrue 77 = .ok (.bipush 100, 2) := dk_16 100 (dk_at dksX5_isTrue_3 8 rfl rfl)
theorem dX5_isTrue_79 : decode cX5_isTrue 79 = .ok (.if_icmp .ge 7, 3) := dk_162 0 7 (dk_at dksX5_isTrue_3 10 rfl rfl)
theorem dX5_isTrue_82 : decode cX5_isTrue 82 = .ok (.iconst 0, 1) := dk_3 (dk_at dksX5_isTrue_3 13 rfl rfl)
theorem dX5_isTrue_83 : decode cX5_isTrue 83 = .ok (.goto 22, 3) := dk_167 0 22 (dk_at dksX5_isTrue_3 14 rfl rfl)
theorem dX5_isTrue_86 : decode cX5_isTrue 86 = .ok (.aload_n 0, 1) := dk_42 (dk_at dksX5_isTrue_3 17 rfl rfl)
theorem dX5_isTrue_87 : decode cX5_isTrue 87 = .ok (.getfield 7, 3) := dk_180 0 7 (dk_at dksX5_isTrue_3 18 rfl rfl)
theorem dX5_isTrue_90 : decode cX5_isTrue 90 = .ok (.iload_n 2, 1) := dk_28 (dk_at dksX5_isTrue_3 21 rfl rfl)
theorem dX5_isTrue_91 : decode cX5_isTrue 91 = .ok (.iconst 2, 1) := dk_5 (dk_at dksX5_isTrue_3 22 rfl rfl)
theorem dX5_isTrue_92 : decode cX5_isTrue 92 = .ok (.iadd, 1) := dk_96 (dk_at dksX5_isTrue_3 23 rfl rfl)
theorem dX5_isTrue_93 : decode cX5_isTrue 93 = .ok (.iconst 1, 1) := dk_4 (dk_at dksX5_isTrue_4 0 rfl rfl)
theorem dX5_isTrue_94 : decode cX5_isTrue 94 = .ok (.iadd, 1) := dk_96 (dk_at dksX5_isTrue_4 1 rfl rfl)
theorem dX5_isTrue_95 : decode cX5_isTrue 95 = .ok (.iload 5, 2) := dk_21 5 (dk_at dksX5_isTrue_4 2 rfl rfl)
theorem dX5_isTrue_97 : decode cX5_isTrue 97 = .ok (.iadd, 1) := dk_96 (dk_at dksX5_isTrue_4 4 rfl rfl)
theorem dX5_isTrue_98 : decode cX5_isTrue 98 = .ok (.iaload, 1) := dk_46 (dk_at dksX5_isTrue_4 5 rfl rfl)
theorem dX5_isTrue_99 : decode cX5_isTrue 99 = .ok (.iload 6, 2) := dk_21 6 (dk_at dksX5_isTrue_4 6 rfl rfl)
theorem dX5_isTrue_101 : decode cX5_isTrue 101 = .ok (.bipush 100, 2) := dk_16 100 (dk_at dksX5_isTrue_4 8 rfl rfl)
theorem dX5_isTrue_103 : decode cX5_isTrue 103 = .ok (.isub, 1) := dk_100 (dk_at dksX5_isTrue_4 10 rfl rfl)
theorem dX5_isTrue_104 : decode cX5_isTrue 104 = .ok (.imul, 1) := dk_104 (dk_at dksX5_isTrue_4 11 rfl rfl)
theorem dX5_isTrue_105 : decode cX5_isTrue 105 = .ok (.iadd, 1) := dk_96 (dk_at dksX5_isTrue_4 12 rfl rfl)
theorem dX5_isTrue_106 : decode cX5_isTrue 106 = .ok (.istore_n 3, 1) := dk_62 (dk_at dksX5_isTrue_4 13 rfl rfl)
theorem dX5_isTrue_107 : decode cX5_isTrue 107 = .ok (.iinc 5 1, 3) := dk_132 5 1 (dk_at dksX5_isTrue_4 14 rfl rfl)
theorem dX5_isTrue_110 : decode cX5_isTrue 110 = .ok (.goto (-79), 3) := dk_167 255 177 (dk_at dksX5_isTrue_4 17 rfl rfl)
theorem dX5_isTrue_113 : decode cX5_isTrue 113 = .ok (.iload_n 3, 1) := dk_29 (dk_at dksX5_isTrue_4 20 rfl rfl)
theorem dX5_isTrue_114 : decode cX5_isTrue 114 = .ok (.sipush 1000, 3) := dk_17 3 232 (dk_at dksX5_isTrue_4 21 rfl rfl)
theorem dX5_isTrue_117 : decode cX5_isTrue 117 = .ok (.irem, 1) := dk_112 (dk_at dksX5_isTrue_5 0 rfl rfl)
theorem dX5_isTrue_118 : decode cX5_isTrue 118 = .ok (.aload_n 0, 1) := dk_42 (dk_at dksX5_isTrue_5 1 rfl rfl)
theorem dX5_isTrue_119 : decode cX5_isTrue 119 = .ok (.getfield 7, 3) := dk_180 0 7 (dk_at dksX5_isTrue_5 2 rfl rfl)
theorem dX5_isTrue_122 : decode cX5_isTrue 122 = .ok (.iconst 0, 1) := dk_3 (dk_at dksX5_isTrue_5 5 rfl rfl)
theorem dX5_isTrue_123 : decode cX5_isTrue 123 = .ok (.bipush 7, 2) := dk_16 7 (dk_at dksX5_isTrue_5 6 rfl rfl)
theorem dX5_isTrue_125 : decode cX5_isTrue 125 = .ok (.iload_n 1, 1) := dk_27 (dk_at dksX5_isTrue_5 8 rfl rfl)
theorem dX5_isTrue_126 : decode cX5_isTrue 126 = .ok (.imul, 1) := dk_104 (dk_at dksX5_isTrue_5 9 rfl rfl)
theorem dX5_isTrue_127 : decode cX5_isTrue 127 = .ok (.iadd, 1) := dk_96 (dk_at dksX5_isTrue_5 10 rfl rfl)
theorem dX5_isTrue_128 : decode cX5_isTrue 128 = .ok (.iconst 2, 1) := dk_5 (dk_at dksX5_isTrue_5 11 rfl rfl)
theorem dX5_isTrue_129 : decode cX5_isTrue 129 = .ok (.iadd, 1) := dk_96 (dk_at dksX5_isTrue_5 12 rfl rfl)
theorem dX5_isTrue_130 : decode cX5_isTrue 130 = .ok (.iaload, 1) := dk_46 (dk_at dksX5_isTrue_5 13 rfl rfl)
theorem dX5_isTrue_131 : decode cX5_isTrue 131 = .ok (.if_icmp .ne 7, 3) := dk_160 0 7 (dk_at dksX5_isTrue_5 14 rfl rfl)
theorem dX5_isTrue_134 : decode cX5_isTrue 134 = .ok (.iconst 1, 1) := dk_4 (dk_at dksX5_isTrue_5 17 rfl rfl)
theorem dX5_isTrue_135 : decode cX5_isTrue 135 = .ok (.goto 4, 3) := dk_167 0 4 (dk_at dksX5_isTrue_5 18 rfl rfl)
theorem dX5_isTrue_138 : decode cX5_isTrue 138 = .ok (.iconst 0, 1) := dk_3 (dk_at dksX5_isTrue_5 21 rfl rfl)
theorem dX5_isTrue_139 : decode cX5_isTrue 139 = .ok (.istore 5, 2) := dk_54 5 (dk_at dksX5_isTrue_5 22 rfl rfl)
theorem dX5_isTrue_141 : decode cX5_isTrue 141 = .ok (.iconst 0, 1) := dk_3 (dk_at dksX5_isTrue_6 0 rfl rfl)
theorem dX5_isTrue_142 : decode cX5_isTrue 142 = .ok (.istore 6, 2) := dk_54 6 (dk_at dksX5_isTrue_6 1 rfl rfl)
theorem dX5_isTrue_144 : decode cX5_isTrue 144 = .ok (.iload 6, 2) := dk_21 6 (dk_at dksX5_isTrue_6 3 rfl rfl)
theorem dX5_isTrue_146 : decode cX5_isTrue 146 = .ok (.aload_n 0, 1) := dk_42 (dk_at dksX5_isTrue_6 5 rfl rfl)
theorem dX5_isTrue_147 : decode cX5_isTrue 147 = .ok (.getfield 7, 3) := dk_180 0 7 (dk_at dksX5_isTrue_6 6 rfl rfl)
theorem dX5_isTrue_150 : decode cX5_isTrue 150 = .ok (.iconst 0, 1) := dk_3 (dk_at dksX5_isTrue_6 9 rfl rfl)
theorem dX5_isTrue_151 : decode cX5_isTrue 151 = .ok (.bipush 7, 2) := dk_16 7 (dk_at dksX5_isTrue_6 10 rfl rfl)
theorem dX5_isTrue_153 : decode cX5_isTrue 153 = .ok (.iload_n 1, 1) := dk_27 (dk_at dksX5_isTrue_6 12 rfl rfl)
theorem dX5_isTrue_154 : decode cX5_isTrue 154 = .ok (.imul, 1) := dk_104 (dk_at dksX5_isTrue_6 13 rfl rfl)
theorem dX5_isTrue_155 : decode cX5_isTrue 155 = .ok (.iadd, 1) := dk_96 (dk_at dksX5_isTrue_6 14 rfl rfl)
theorem dX5_isTrue_156 : decode cX5_isTrue 156 = .ok (.iconst 0, 1) := dk_3 (dk_at dksX5_isTrue_6 15 rfl rfl)
theorem dX5_isTrue_157 : decode cX5_isTrue 157 = .ok (.iadd, 1) := dk_96 (dk_at dksX5_isTrue_6 16 rfl rfl)
theorem dX5_isTrue_158 : decode cX5_isTrue 158 = .ok (.iaload, 1) := dk_46 (dk_at dksX5_isTrue_6 17 rfl rfl)
theorem dX5_isTrue_159 : decode cX5_isTrue 159 = .ok (.if_icmp .ge 97, 3) := dk_162 0 97 (dk_at dksX5_isTrue_6 18 rfl rfl)
theorem dX5_isTrue_162 : decode cX5_isTrue 162 = .ok (.iconst 0, 1) := dk_3 (dk_at dksX5_isTrue_6 21 rfl rfl)
theorem dX5_isTrue_163 : decode cX5_isTrue 163 = .ok (.istore 7, 2) := dk_54 7 (dk_at dksX5_isTrue_6 22 rfl rfl)
theorem dX5_isTrue_165 : decode cX5_isTrue 165 = .ok (.iconst 0, 1) := dk_3 (dk_at dksX5_isTrue_7 0 rfl rfl)
theorem dX5_isTrue_166 : decode cX5_isTrue 166 = .ok (.istore 8, 2) := dk_54 8 (dk_at dksX5_isTrue_7 1 rfl rfl)
theorem dX5_isTrue_168 : decode cX5_isTrue 168 = .ok (.iload 8, 2) := dk_21 8 (dk_at dksX5_isTrue_7 3 rfl rfl)
theorem dX5_isTrue_170 : decode cX5_isTrue 170 = .ok (.iload 4, 2) := dk_21 4 (dk_at dksX5_isTrue_7 5 rfl rfl)
theorem dX5_isTrue_172 : decode cX5_isTrue 172 = .ok (.if_icmp .ge 43, 3) := dk_162 0 43 (dk_at dksX5_isTrue_7 7 rfl rfl)
theorem dX5_isTrue_175 : decode cX5_isTrue 175 = .ok (.iload 7, 2) := dk_21 7 (dk_at dksX5_isTrue_7 10 rfl rfl)
theorem dX5_isTrue_177 : decode cX5_isTrue 177 = .ok (.aload_n 0, 1) := dk_42 (dk_at dksX5_isTrue_7 12 rfl rfl)
theorem dX5_isTrue_178 : decode cX5_isTrue 178 = .ok (.iload_n 1, 1) := dk_27 (dk_at dksX5_isTrue_7 13 rfl rfl)
theorem dX5_isTrue_179 : decode cX5_isTrue 179 = .ok (.iload 8, 2) := dk_21 8 (dk_at dksX5_isTrue_7 14 rfl rfl)
theorem dX5_isTrue_181 : decode cX5_isTrue 181 = .ok (.invokevirtual 92, 3) := dk_182 0 92 (dk_at dksX5_isTrue_7 16 rfl rfl)
theorem dX5_isTrue_184 : decode cX5_isTrue 184 = .ok (.iload 6, 2) := dk_21 6 (dk_at dksX5_isTrue_7 19 rfl rfl)
theorem dX5_isTrue_186 : decode cX5_isTrue 186 = .ok (.if_icmp .ne 19, 3) := dk_160 0 19 (dk_at dksX5_isTrue_7 21 rfl rfl)
theorem dX5_isTrue_189 : decode cX5_isTrue 189 = .ok (.aload_n 0, 1) := dk_42 (dk_at dksX5_isTrue_8 0 rfl rfl)
theorem dX5_isTrue_190 : decode cX5_isTrue 190 = .ok (.getfield 7, 3) := dk_180 0 7 (dk_at dksX5_isTrue_8 1 rfl rfl)
theorem dX5_isTrue_193 : decode cX5_isTrue 193 = .ok (.iload_n 2, 1) := dk_28 (dk_at dksX5_isTrue_8 4 rfl rfl)
theorem dX5_isTrue_194 : decode cX5_isTrue 194 = .ok (.iconst 2, 1) := dk_5 (dk_at dksX5_isTrue_8 5 rfl rfl)
theorem dX5_isTrue_195 : decode cX5_isTrue 195 = .ok (.iadd, 1) := dk_96 (dk_at dksX5_isTrue_8 6 rfl rfl)
theorem dX5_isTrue_196 : decode cX5_isTrue 196 = .ok (.iconst 1, 1) := dk_4 (dk_at dksX5_isTrue_8 7 rfl rfl)
theorem dX5_isTrue_197 : decode cX5_isTrue 197 = .ok (.iadd, 1) := dk_96 (dk_at dksX5_isTrue_8 8 rfl rfl)
theorem dX5_isTrue_198 : decode cX5_isTrue 198 = .ok (.iload 8, 2) := dk_21 8 (dk_at dksX5_isTrue_8 9 rfl rfl)
theorem dX5_isTrue_200 : decode cX5_isTrue 200 = .ok (.iadd, 1) := dk_96 (dk_at dksX5_isTrue_8 11 rfl rfl)
theorem dX5_isTrue_201 : decode cX5_isTrue 201 = .ok (.iaload, 1) := dk_46 (dk_at dksX5_isTrue_8 12 rfl rfl)
theorem dX5_isTrue_202 : decode cX5_isTrue 202 = .ok (.goto 4, 3) := dk_167 0 4 (dk_at dksX5_isTrue_8 13 rfl rfl)
theorem dX5_isTrue_205 : decode cX5_isTrue 205 = .ok (.iconst 0, 1) := dk_3 (dk_at dksX5_isTrue_8 16 rfl rfl)
theorem dX5_isTrue_206 : decode cX5_isTrue 206 = .ok (.iadd, 1) := dk_96 (dk_at dksX5_isTrue_8 17 rfl rfl)
theorem dX5_isTrue_207 : decode cX5_isTrue 207 = .ok (.istore 7, 2) := dk_54 7 (dk_at dksX5_isTrue_8 18 rfl rfl)
theorem dX5_isTrue_209 : decode cX5_isTrue 209 = .ok (.iinc 8 1, 3) := dk_132 8 1 (dk_at dksX5_isTrue_8 20 rfl rfl)
theorem dX5_isTrue_212 : decode cX5_isTrue 212 = .ok (.goto (-44), 3) := dk_167 255 212 (dk_at dksX5_isTrue_9 0 rfl rfl)
theorem dX5_isTrue_215 : decode cX5_isTrue 215 = .ok (.iload 5, 2) := dk_21 5 (dk_at dksX5_isTrue_9 3 rfl rfl)
theorem dX5_isTrue_217 : decode cX5_isTrue 217 = .ok (.ifCond .eq 30, 3) := dk_153 0 30 (dk_at dksX5_isTrue_9 5 rfl rfl)
theorem dX5_isTrue_220 : decode cX5_isTrue 220 = .ok (.iload 7, 2) := dk_21 7 (dk_at dksX5_isTrue_9 8 rfl rfl)
theorem dX5_isTrue_222 : decode cX5_isTrue 222 = .ok (.aload_n 0, 1) := dk_42 (dk_at dksX5_isTrue_9 10 rfl rfl)
theorem dX5_isTrue_223 : decode cX5_isTrue 223 = .ok (.getfield 7, 3) := dk_180 0 7 (dk_at dksX5_isTrue_9 11 rfl rfl)
theorem dX5_isTrue_226 : decode cX5_isTrue 226 = .ok (.iconst 0, 1) := dk_3 (dk_at dksX5_isTrue_9 14 rfl rfl)
theorem dX5_isTrue_227 : decode cX5_isTrue 227 = .ok (.bipush 7, 2) := dk_16 7 (dk_at dksX5_isTrue_9 15 rfl rfl)
theorem dX5_isTrue_229 : decode cX5_isTrue 229 = .ok (.iload_n 1, 1) := dk_27 (dk_at dksX5_isTrue_9 17 rfl rfl)
theorem dX5_isTrue_230 : decode cX5_isTrue 230 = .ok (.imul, 1) := dk_104 (dk_at dksX5_isTrue_9 18 rfl rfl)
theorem dX5_isTrue_231 : decode cX5_isTrue 231 = .ok (.iadd, 1) := dk_96 (dk_at dksX5_isTrue_9 19 rfl rfl)
theorem dX5_isTrue_232 : decode cX5_isTrue 232 = .ok (.iconst 2, 1) := dk_5 (dk_at dksX5_isTrue_9 20 rfl rfl)
theorem dX5_isTrue_233 : decode cX5_isTrue 233 = .ok (.iadd, 1) := dk_96 (dk_at dksX5_isTrue_9 21 rfl rfl)
theorem dX5_isTrue_234 : decode cX5_isTrue 234 = .ok (.iconst 1, 1) := dk_4 (dk_at dksX5_isTrue_9 22 rfl rfl)
theorem dX5_isTrue_235 : decode cX5_isTrue 235 = .ok (.iadd, 1) := dk_96 (dk_at dksX5_isTrue_9 23 rfl rfl)
theorem dX5_isTrue_236 : decode cX5_isTrue 236 = .ok (.iload 6, 2) := dk_21 6 (dk_at dksX5_isTrue_10 0 rfl rfl)
theorem dX5_isTrue_238 : decode cX5_isTrue 238 = .ok (.iadd, 1) := dk_96 (dk_at dksX5_isTrue_10 2 rfl rfl)
theorem dX5_isTrue_239 : decode cX5_isTrue 239 = .ok (.iaload, 1) := dk_46 (dk_at dksX5_isTrue_10 3 rfl rfl)
theorem dX5_isTrue_240 : decode cX5_isTrue 240 = .ok (.if_icmp .ne 7, 3) := dk_160 0 7 (dk_at dksX5_isTrue_10 4 rfl rfl)
theorem dX5_isTrue_243 : decode cX5_isTrue 243 = .ok (.iconst 1, 1) := dk_4 (dk_at dksX5_isTrue_10 7 rfl rfl)
theorem dX5_isTrue_244 : decode cX5_isTrue 244 = .ok (.goto 4, 3) := dk_167 0 4 (dk_at dksX5_isTrue_10 8 rfl rfl)
theorem dX5_isTrue_247 : decode cX5_isTrue 247 = .ok (.iconst 0, 1) := dk_3 (dk_at dksX5_isTrue_10 11 rfl rfl)
theorem dX5_isTrue_248 : decode cX5_isTrue 248 = .ok (.istore 5, 2) := dk_54 5 (dk_at dksX5_isTrue_10 12 rfl rfl)
theorem dX5_isTrue_250 : decode cX5_isTrue 250 = .ok (.iinc 6 1, 3) := dk_132 6 1 (dk_at dksX5_isTrue_10 14 rfl rfl)
theorem dX5_isTrue_253 : decode cX5_isTrue 253 = .ok (.goto (-109), 3) := dk_167 255 147 (dk_at dksX5_isTrue_10 17 rfl rfl)
theorem dX5_isTrue_256 : decode cX5_isTrue 256 = .ok (.iload 5, 2) := dk_21 5 (dk_at dksX5_isTrue_10 20 rfl rfl)
theorem dX5_isTrue_258 : decode cX5_isTrue 258 = .ok (.ireturn, 1) := dk_172 (dk_at dksX5_isTrue_10 22 rfl rfl)
abbrev cX5_newOf : ByteArray := prog_10_method_13_code
def yX5_newOf : MethodName := ⟨RX5, "newOf", "(I)I"⟩
def dkwX5_newOf_0 : List UInt8 := [42, 180, 0, 7, 16, 117, 8, 27, 104, 96, 46, 172]
abbrev dktX5_newOf_0 : List UInt8 := dkwX5_newOf_0 ++ []
theorem dksX5_newOf_0 : cX5_newOf.data.toList.drop 0 = dktX5_newOf_0 := by decide +kernel
theorem dX5_newOf_0 : decode cX5_newOf 0 = .ok (.aload_n 0, 1) := dk_42 (dk_at dksX5_newOf_0 0 rfl rfl)
theorem dX5_newOf_1 : decode cX5_newOf 1 = .ok (.getfield 7, 3) := dk_180 0 7 (dk_at dksX5_newOf_0 1 rfl rfl)
theorem dX5_newOf_4 : decode cX5_newOf 4 = .ok (.bipush 117, 2) := dk_16 117 (dk_at dksX5_newOf_0 4 rfl rfl)
theorem dX5_newOf_6 : decode cX5_newOf 6 = .ok (.iconst 5, 1) := dk_8 (dk_at dksX5_newOf_0 6 rfl rfl)
theorem dX5_newOf_7 : decode cX5_newOf 7 = .ok (.iload_n 1, 1) := dk_27 (dk_at dksX5_newOf_0 7 rfl rfl)
theorem dX5_newOf_8 : decode cX5_newOf 8 = .ok (.imul, 1) := dk_104 (dk_at dksX5_newOf_0 8 rfl rfl)
theorem dX5_newOf_9 : decode cX5_newOf 9 = .ok (.iadd, 1) := dk_96 (dk_at dksX5_newOf_0 9 rfl rfl)
theorem dX5_newOf_10 : decode cX5_newOf 10 = .ok (.iaload, 1) := dk_46 (dk_at dksX5_newOf_0 10 rfl rfl)
theorem dX5_newOf_11 : decode cX5_newOf 11 = .ok (.ireturn, 1) := dk_172 (dk_at dksX5_newOf_0 11 rfl rfl)
abbrev cX5_used : ByteArray := prog_10_method_15_code
def yX5_used : MethodName := ⟨RX5, "used", "(I)I"⟩
def dkwX5_used_0 : List UInt8 := [42, 180, 0, 7, 16, 42, 16, 7, 42, 27, 182, 0, 86, 104, 96, 3, 96, 46, 172]
abbrev dktX5_used_0 : List UInt8 := dkwX5_used_0 ++ []
theorem dksX5_used_0 : cX5_used.data.toList.drop 0 = dktX5_used_0 := by decide +kernel
theorem dX5_used_0 : decode cX5_used 0 = .ok (.aload_n 0, 1) := dk_42 (dk_at dksX5_used_0 0 rfl rfl)
theorem dX5_used_1 : decode cX5_used 1 = .ok (.getfield 7, 3) := dk_180 0 7 (dk_at dksX5_used_0 1 rfl rfl)
theorem dX5_used_4 : decode cX5_used 4 = .ok (.bipush 42, 2) := dk_16 42 (dk_at dksX5_used_0 4 rfl rfl)
theorem dX5_used_6 : decode cX5_used 6 = .ok (.bipush 7, 2) := dk_16 7 (dk_at dksX5_used_0 6 rfl rfl)
theorem dX5_used_8 : decode cX5_used 8 = .ok (.aload_n 0, 1) := dk_42 (dk_at dksX5_used_0 8 rfl rfl)
theorem dX5_used_9 : decode cX5_used 9 = .ok (.iload_n 1, 1) := dk_27 (dk_at dksX5_used_0 9 rfl rfl)
theorem dX5_used_10 : decode cX5_used 10 = .ok (.invokevirtual 86, 3) := dk_182 0 86 (dk_at dksX5_used_0 10 rfl rfl)
theorem dX5_used_13 : decode cX5_used 13 = .ok (.imul, 1) := dk_104 (dk_at dksX5_used_0 13 rfl rfl)
theorem dX5_used_14 : decode cX5_used 14 = .ok (.iadd, 1) := dk_96 (dk_at dksX5_used_0 14 rfl rfl)
theorem dX5_used_15 : decode cX5_used 15 = .ok (.iconst 0, 1) := dk_3 (dk_at dksX5_used_0 15 rfl rfl)
theorem dX5_used_16 : decode cX5_used 16 = .ok (.iadd, 1) := dk_96 (dk_at dksX5_used_0 16 rfl rfl)
theorem dX5_used_17 : decode cX5_used 17 = .ok (.iaload, 1) := dk_46 (dk_at dksX5_used_0 17 rfl rfl)
theorem dX5_used_18 : decode cX5_used 18 = .ok (.ireturn, 1) := dk_172 (dk_at dksX5_used_0 18 rfl rfl)
abbrev cX5_entry : ByteArray := prog_10_method_14_code
def yX5_entry : MethodName := ⟨RX5, "entry", "(II)I"⟩
def dkwX5_entry_0 : List UInt8 := [42, 180, 0, 7, 16, 117, 8, 27, 104, 96, 4, 96, 28, 96, 46, 172]
abbrev dktX5_entry_0 : List UInt8 := dkwX5_entry_0 ++ []
theorem dksX5_entry_0 : cX5_entry.data.toList.drop 0 = dktX5_entry_0 := by decide +kernel
theorem dX5_entry_0 : decode cX5_entry 0 = .ok (.aload_n 0, 1) := dk_42 (dk_at dksX5_entry_0 0 rfl rfl)
theorem dX5_entry_1 : decode cX5_entry 1 = .ok (.getfield 7, 3) := dk_180 0 7 (dk_at dksX5_entry_0 1 rfl rfl)
theorem dX5_entry_4 : decode cX5_entry 4 = .ok (.bipush 117, 2) := dk_16 117 (dk_at dksX5_entry_0 4 rfl rfl)
theorem dX5_entry_6 : decode cX5_entry 6 = .ok (.iconst 5, 1) := dk_8 (dk_at dksX5_entry_0 6 rfl rfl)
theorem dX5_entry_7 : decode cX5_entry 7 = .ok (.iload_n 1, 1) := dk_27 (dk_at dksX5_entry_0 7 rfl rfl)
theorem dX5_entry_8 : decode cX5_entry 8 = .ok (.imul, 1) := dk_104 (dk_at dksX5_entry_0 8 rfl rfl)
theorem dX5_entry_9 : decode cX5_entry 9 = .ok (.iadd, 1) := dk_96 (dk_at dksX5_entry_0 9 rfl rfl)
theorem dX5_entry_10 : decode cX5_entry 10 = .ok (.iconst 1, 1) := dk_4 (dk_at dksX5_entry_0 10 rfl rfl)
theorem dX5_entry_11 : decode cX5_entry 11 = .ok (.iadd, 1) := dk_96 (dk_at dksX5_entry_0 11 rfl rfl)
theorem dX5_entry_12 : decode cX5_entry 12 = .ok (.iload_n 2, 1) := dk_28 (dk_at dksX5_entry_0 12 rfl rfl)
theorem dX5_entry_13 : decode cX5_entry 13 = .ok (.iadd, 1) := dk_96 (dk_at dksX5_entry_0 13 rfl rfl)
theorem dX5_entry_14 : decode cX5_entry 14 = .ok (.iaload, 1) := dk_46 (dk_at dksX5_entry_0 14 rfl rfl)
theorem dX5_entry_15 : decode cX5_entry 15 = .ok (.ireturn, 1) := dk_172 (dk_at dksX5_entry_0 15 rfl rfl)
abbrev cX5_unmap : ByteArray := prog_10_method_19_code
def yX5_unmap : MethodName := ⟨RX5, "unmap", "(I)I"⟩
def dkwX5_unmap_2 : List UInt8 := [2, 79, 28, 172]
abbrev dktX5_unmap_2 : List UInt8 := dkwX5_unmap_2 ++ []
def dkwX5_unmap_1 : List UInt8 := [160, 0, 10, 42, 16, 253, 182, 0, 72, 172, 42, 182, 0, 59, 42, 180, 0, 7, 16, 117, 8, 27, 104, 96]
abbrev dktX5_unmap_1 : List UInt8 := dkwX5_unmap_1 ++ dktX5_unmap_2
def dkwX5_unmap_0 : List UInt8 := [27, 184, 0, 62, 154, 0, 10, 42, 16, 254, 182, 0, 72, 172, 42, 27, 182, 0, 86, 61, 28, 2]
abbrev dktX5_unmap_0 : List UInt8 := dkwX5_unmap_0 ++ dktX5_unmap_1
theorem dksX5_unmap_0 : cX5_unmap.data.toList.drop 0 = dktX5_unmap_0 := by decide +kernel
theorem dksX5_unmap_1 : cX5_unmap.data.toList.drop 22 = dktX5_unmap_1 := dk_seg dksX5_unmap_0 22 rfl rfl
theorem dksX5_unmap_2 : cX5_unmap.data.toList.drop 46 = dktX5_unmap_2 := dk_seg dksX5_unmap_1 24 rfl rfl
theorem dX5_unmap_0 : decode cX5_unmap 0 = .ok (.iload_n 1, 1) := dk_27 (dk_at dksX5_unmap_0 0 rfl rfl)
theorem dX5_unmap_1 : decode cX5_unmap 1 = .ok (.invokestatic 62, 3) := dk_184 0 62 (dk_at dksX5_unmap_0 1 rfl rfl)
theorem dX5_unmap_4 : decode cX5_unmap 4 = .ok (.ifCond .ne 10, 3) := dk_154 0 10 (dk_at dksX5_unmap_0 4 rfl rfl)
theorem dX5_unmap_7 : decode cX5_unmap 7 = .ok (.aload_n 0, 1) := dk_42 (dk_at dksX5_unmap_0 7 rfl rfl)
theorem dX5_unmap_8 : decode cX5_unmap 8 = .ok (.bipush (-2), 2) := dk_16 254 (dk_at dksX5_unmap_0 8 rfl rfl)
theorem dX5_unmap_10 : decode cX5_unmap 10 = .ok (.invokevirtual 72, 3) := dk_182 0 72 (dk_at dksX5_unmap_0 10 rfl rfl)
theorem dX5_unmap_13 : decode cX5_unmap 13 = .ok (.ireturn, 1) := dk_172 (dk_at dksX5_unmap_0 13 rfl rfl)
theorem dX5_unmap_14 : decode cX5_unmap 14 = .ok (.aload_n 0, 1) := dk_42 (dk_at dksX5_unmap_0 14 rfl rfl)
theorem dX5_unmap_15 : decode cX5_unmap 15 = .ok (.iload_n 1, 1) := dk_27 (dk_at dksX5_unmap_0 15 rfl rfl)
theorem dX5_unmap_16 : decode cX5_unmap 16 = .ok (.invokevirtual 86, 3) := dk_182 0 86 (dk_at dksX5_unmap_0 16 rfl rfl)
theorem dX5_unmap_19 : decode cX5_unmap 19 = .ok (.istore_n 2, 1) := dk_61 (dk_at dksX5_unmap_0 19 rfl rfl)
theorem dX5_unmap_20 : decode cX5_unmap 20 = .ok (.iload_n 2, 1) := dk_28 (dk_at dksX5_unmap_0 20 rfl rfl)
theorem dX5_unmap_21 : decode cX5_unmap 21 = .ok (.iconst (-1), 1) := dk_2 (dk_at dksX5_unmap_0 21 rfl rfl)
theorem dX5_unmap_22 : decode cX5_unmap 22 = .ok (.if_icmp .ne 10, 3) := dk_160 0 10 (dk_at dksX5_unmap_1 0 rfl rfl)
theorem dX5_unmap_25 : decode cX5_unmap 25 = .ok (.aload_n 0, 1) := dk_42 (dk_at dksX5_unmap_1 3 rfl rfl)
theorem dX5_unmap_26 : decode cX5_unmap 26 = .ok (.bipush (-3), 2) := dk_16 253 (dk_at dksX5_unmap_1 4 rfl rfl)
theorem dX5_unmap_28 : decode cX5_unmap 28 = .ok (.invokevirtual 72, 3) := dk_182 0 72 (dk_at dksX5_unmap_1 6 rfl rfl)
theorem dX5_unmap_31 : decode cX5_unmap 31 = .ok (.ireturn, 1) := dk_172 (dk_at dksX5_unmap_1 9 rfl rfl)
theorem dX5_unmap_32 : decode cX5_unmap 32 = .ok (.aload_n 0, 1) := dk_42 (dk_at dksX5_unmap_1 10 rfl rfl)
theorem dX5_unmap_33 : decode cX5_unmap 33 = .ok (.invokevirtual 59, 3) := dk_182 0 59 (dk_at dksX5_unmap_1 11 rfl rfl)
theorem dX5_unmap_36 : decode cX5_unmap 36 = .ok (.aload_n 0, 1) := dk_42 (dk_at dksX5_unmap_1 14 rfl rfl)
theorem dX5_unmap_37 : decode cX5_unmap 37 = .ok (.getfield 7, 3) := dk_180 0 7 (dk_at dksX5_unmap_1 15 rfl rfl)
theorem dX5_unmap_40 : decode cX5_unmap 40 = .ok (.bipush 117, 2) := dk_16 117 (dk_at dksX5_unmap_1 18 rfl rfl)
theorem dX5_unmap_42 : decode cX5_unmap 42 = .ok (.iconst 5, 1) := dk_8 (dk_at dksX5_unmap_1 20 rfl rfl)
theorem dX5_unmap_43 : decode cX5_unmap 43 = .ok (.iload_n 1, 1) := dk_27 (dk_at dksX5_unmap_1 21 rfl rfl)
theorem dX5_unmap_44 : decode cX5_unmap 44 = .ok (.imul, 1) := dk_104 (dk_at dksX5_unmap_1 22 rfl rfl)
theorem dX5_unmap_45 : decode cX5_unmap 45 = .ok (.iadd, 1) := dk_96 (dk_at dksX5_unmap_1 23 rfl rfl)
theorem dX5_unmap_46 : decode cX5_unmap 46 = .ok (.iconst (-1), 1) := dk_2 (dk_at dksX5_unmap_2 0 rfl rfl)
theorem dX5_unmap_47 : decode cX5_unmap 47 = .ok (.iastore, 1) := dk_79 (dk_at dksX5_unmap_2 1 rfl rfl)
theorem dX5_unmap_48 : decode cX5_unmap 48 = .ok (.iload_n 2, 1) := dk_28 (dk_at dksX5_unmap_2 2 rfl rfl)
theorem dX5_unmap_49 : decode cX5_unmap 49 = .ok (.ireturn, 1) := dk_172 (dk_at dksX5_unmap_2 3 rfl rfl)
abbrev cX5_setSource : ByteArray := prog_10_method_21_code
def yX5_setSource : MethodName := ⟨RX5, "setSource", "(III)I"⟩
def dkwX5_setSource_0 : List UInt8 := [42, 27, 28, 29, 29, 133, 9, 20, 0, 102, 184, 0, 55, 182, 0, 104, 172]
abbrev dktX5_setSource_0 : List UInt8 := dkwX5_setSource_0 ++ []
theorem dksX5_setSource_0 : cX5_setSource.data.toList.drop 0 = dktX5_setSource_0 := by decide +kernel
theorem dX5_setSource_0 : decode cX5_setSource 0 = .ok (.aload_n 0, 1) := dk_42 (dk_at dksX5_setSource_0 0 rfl rfl)
theorem dX5_setSource_1 : decode cX5_setSource 1 = .ok (.iload_n 1, 1) := dk_27 (dk_at dksX5_setSource_0 1 rfl rfl)
theorem dX5_setSource_2 : decode cX5_setSource 2 = .ok (.iload_n 2, 1) := dk_28 (dk_at dksX5_setSource_0 2 rfl rfl)
theorem dX5_setSource_3 : decode cX5_setSource 3 = .ok (.iload_n 3, 1) := dk_29 (dk_at dksX5_setSource_0 3 rfl rfl)
theorem dX5_setSource_4 : decode cX5_setSource 4 = .ok (.iload_n 3, 1) := dk_29 (dk_at dksX5_setSource_0 4 rfl rfl)
theorem dX5_setSource_5 : decode cX5_setSource 5 = .ok (.i2l, 1) := dk_133 (dk_at dksX5_setSource_0 5 rfl rfl)
theorem dX5_setSource_6 : decode cX5_setSource 6 = .ok (.lconst 0, 1) := dk_9 (dk_at dksX5_setSource_0 6 rfl rfl)
theorem dX5_setSource_7 : decode cX5_setSource 7 = .ok (.ldc2_w 102, 3) := dk_20 0 102 (dk_at dksX5_setSource_0 7 rfl rfl)
theorem dX5_setSource_10 : decode cX5_setSource 10 = .ok (.invokestatic 55, 3) := dk_184 0 55 (dk_at dksX5_setSource_0 10 rfl rfl)
theorem dX5_setSource_13 : decode cX5_setSource 13 = .ok (.invokevirtual 104, 3) := dk_182 0 104 (dk_at dksX5_setSource_0 13 rfl rfl)
theorem dX5_setSource_16 : decode cX5_setSource 16 = .ok (.ireturn, 1) := dk_172 (dk_at dksX5_setSource_0 16 rfl rfl)
abbrev cX5_setsEntry : ByteArray := prog_10_method_20_code
def yX5_setsEntry : MethodName := ⟨RX5, "setsEntry", "(IIIZ)I"⟩
def dkwX5_setsEntry_3 : List UInt8 := [172]
abbrev dktX5_setsEntry_3 : List UInt8 := dkwX5_setsEntry_3 ++ []
def dkwX5_setsEntry_2 : List UInt8 := [182, 0, 59, 42, 180, 0, 7, 16, 117, 8, 27, 104, 96, 4, 96, 28, 96, 29, 79, 42, 27, 182, 0, 99]
abbrev dktX5_setsEntry_2 : List UInt8 := dkwX5_setsEntry_2 ++ dktX5_setsEntry_3
def dkwX5_setsEntry_1 : List UInt8 := [42, 16, 254, 182, 0, 72, 172, 42, 27, 182, 0, 86, 2, 160, 0, 10, 42, 16, 253, 182, 0, 72, 172, 42]
abbrev dktX5_setsEntry_1 : List UInt8 := dkwX5_setsEntry_1 ++ dktX5_setsEntry_2
def dkwX5_setsEntry_0 : List UInt8 := [27, 184, 0, 62, 153, 0, 20, 28, 133, 9, 20, 0, 66, 184, 0, 55, 153, 0, 8, 21, 4, 154, 0, 10]
abbrev dktX5_setsEntry_0 : List UInt8 := dkwX5_setsEntry_0 ++ dktX5_setsEntry_1
theorem dksX5_setsEntry_0 : cX5_setsEntry.data.toList.drop 0 = dktX5_setsEntry_0 := by decide +kernel
theorem dksX5_setsEntry_1 : cX5_setsEntry.data.toList.drop 24 = dktX5_setsEntry_1 := dk_seg dksX5_setsEntry_0 24 rfl rfl
theorem dksX5_setsEntry_2 : cX5_setsEntry.data.toList.drop 48 = dktX5_setsEntry_2 := dk_seg dksX5_setsEntry_1 24 rfl rfl
theorem dksX5_setsEntry_3 : cX5_setsEntry.data.toList.drop 72 = dktX5_setsEntry_3 := dk_seg dksX5_setsEntry_2 24 rfl rfl
theorem dX5_setsEntry_0 : decode cX5_setsEntry 0 = .ok (.iload_n 1, 1) := dk_27 (dk_at dksX5_setsEntry_0 0 rfl rfl)
theorem dX5_setsEntry_1 : decode cX5_setsEntry 1 = .ok (.invokestatic 62, 3) := dk_184 0 62 (dk_at dksX5_setsEntry_0 1 rfl rfl)
theorem dX5_setsEntry_4 : decode cX5_setsEntry 4 = .ok (.ifCond .eq 20, 3) := dk_153 0 20 (dk_at dksX5_setsEntry_0 4 rfl rfl)
theorem dX5_setsEntry_7 : decode cX5_setsEntry 7 = .ok (.iload_n 2, 1) := dk_28 (dk_at dksX5_setsEntry_0 7 rfl rfl)
theorem dX5_setsEntry_8 : decode cX5_setsEntry 8 = .ok (.i2l, 1) := dk_133 (dk_at dksX5_setsEntry_0 8 rfl rfl)
theorem dX5_setsEntry_9 : decode cX5_setsEntry 9 = .ok (.lconst 0, 1) := dk_9 (dk_at dksX5_setsEntry_0 9 rfl rfl)
theorem dX5_setsEntry_10 : decode cX5_setsEntry 10 = .ok (.ldc2_w 66, 3) := dk_20 0 66 (dk_at dksX5_setsEntry_0 10 rfl rfl)
theorem dX5_setsEntry_13 : decode cX5_setsEntry 13 = .ok (.invokestatic 55, 3) := dk_184 0 55 (dk_at dksX5_setsEntry_0 13 rfl rfl)
theorem dX5_setsEntry_16 : decode cX5_setsEntry 16 = .ok (.ifCond .eq 8, 3) := dk_153 0 8 (dk_at dksX5_setsEntry_0 16 rfl rfl)
theorem dX5_setsEntry_19 : decode cX5_setsEntry 19 = .ok (.iload 4, 2) := dk_21 4 (dk_at dksX5_setsEntry_0 19 rfl rfl)
theorem dX5_setsEntry_21 : decode cX5_setsEntry 21 = .ok (.ifCond .ne 10, 3) := dk_154 0 10 (dk_at dksX5_setsEntry_0 21 rfl rfl)
theorem dX5_setsEntry_24 : decode cX5_setsEntry 24 = .ok (.aload_n 0, 1) := dk_42 (dk_at dksX5_setsEntry_1 0 rfl rfl)
theorem dX5_setsEntry_25 : decode cX5_setsEntry 25 = .ok (.bipush (-2), 2) := dk_16 254 (dk_at dksX5_setsEntry_1 1 rfl rfl)
theorem dX5_setsEntry_27 : decode cX5_setsEntry 27 = .ok (.invokevirtual 72, 3) := dk_182 0 72 (dk_at dksX5_setsEntry_1 3 rfl rfl)
theorem dX5_setsEntry_30 : decode cX5_setsEntry 30 = .ok (.ireturn, 1) := dk_172 (dk_at dksX5_setsEntry_1 6 rfl rfl)
theorem dX5_setsEntry_31 : decode cX5_setsEntry 31 = .ok (.aload_n 0, 1) := dk_42 (dk_at dksX5_setsEntry_1 7 rfl rfl)
theorem dX5_setsEntry_32 : decode cX5_setsEntry 32 = .ok (.iload_n 1, 1) := dk_27 (dk_at dksX5_setsEntry_1 8 rfl rfl)
theorem dX5_setsEntry_33 : decode cX5_setsEntry 33 = .ok (.invokevirtual 86, 3) := dk_182 0 86 (dk_at dksX5_setsEntry_1 9 rfl rfl)
theorem dX5_setsEntry_36 : decode cX5_setsEntry 36 = .ok (.iconst (-1), 1) := dk_2 (dk_at dksX5_setsEntry_1 12 rfl rfl)
theorem dX5_setsEntry_37 : decode cX5_setsEntry 37 = .ok (.if_icmp .ne 10, 3) := dk_160 0 10 (dk_at dksX5_setsEntry_1 13 rfl rfl)
theorem dX5_setsEntry_40 : decode cX5_setsEntry 40 = .ok (.aload_n 0, 1) := dk_42 (dk_at dksX5_setsEntry_1 16 rfl rfl)
theorem dX5_setsEntry_41 : decode cX5_setsEntry 41 = .ok (.bipush (-3), 2) := dk_16 253 (dk_at dksX5_setsEntry_1 17 rfl rfl)
theorem dX5_setsEntry_43 : decode cX5_setsEntry 43 = .ok (.invokevirtual 72, 3) := dk_182 0 72 (dk_at dksX5_setsEntry_1 19 rfl rfl)
theorem dX5_setsEntry_46 : decode cX5_setsEntry 46 = .ok (.ireturn, 1) := dk_172 (dk_at dksX5_setsEntry_1 22 rfl rfl)
theorem dX5_setsEntry_47 : decode cX5_setsEntry 47 = .ok (.aload_n 0, 1) := dk_42 (dk_at dksX5_setsEntry_1 23 rfl rfl)
theorem dX5_setsEntry_48 : decode cX5_setsEntry 48 = .ok (.invokevirtual 59, 3) := dk_182 0 59 (dk_at dksX5_setsEntry_2 0 rfl rfl)
theorem dX5_setsEntry_51 : decode cX5_setsEntry 51 = .ok (.aload_n 0, 1) := dk_42 (dk_at dksX5_setsEntry_2 3 rfl rfl)
theorem dX5_setsEntry_52 : decode cX5_setsEntry 52 = .ok (.getfield 7, 3) := dk_180 0 7 (dk_at dksX5_setsEntry_2 4 rfl rfl)
theorem dX5_setsEntry_55 : decode cX5_setsEntry 55 = .ok (.bipush 117, 2) := dk_16 117 (dk_at dksX5_setsEntry_2 7 rfl rfl)
theorem dX5_setsEntry_57 : decode cX5_setsEntry 57 = .ok (.iconst 5, 1) := dk_8 (dk_at dksX5_setsEntry_2 9 rfl rfl)
theorem dX5_setsEntry_58 : decode cX5_setsEntry 58 = .ok (.iload_n 1, 1) := dk_27 (dk_at dksX5_setsEntry_2 10 rfl rfl)
theorem dX5_setsEntry_59 : decode cX5_setsEntry 59 = .ok (.imul, 1) := dk_104 (dk_at dksX5_setsEntry_2 11 rfl rfl)
theorem dX5_setsEntry_60 : decode cX5_setsEntry 60 = .ok (.iadd, 1) := dk_96 (dk_at dksX5_setsEntry_2 12 rfl rfl)
theorem dX5_setsEntry_61 : decode cX5_setsEntry 61 = .ok (.iconst 1, 1) := dk_4 (dk_at dksX5_setsEntry_2 13 rfl rfl)
theorem dX5_setsEntry_62 : decode cX5_setsEntry 62 = .ok (.iadd, 1) := dk_96 (dk_at dksX5_setsEntry_2 14 rfl rfl)
theorem dX5_setsEntry_63 : decode cX5_setsEntry 63 = .ok (.iload_n 2, 1) := dk_28 (dk_at dksX5_setsEntry_2 15 rfl rfl)
theorem dX5_setsEntry_64 : decode cX5_setsEntry 64 = .ok (.iadd, 1) := dk_96 (dk_at dksX5_setsEntry_2 16 rfl rfl)
theorem dX5_setsEntry_65 : decode cX5_setsEntry 65 = .ok (.iload_n 3, 1) := dk_29 (dk_at dksX5_setsEntry_2 17 rfl rfl)
theorem dX5_setsEntry_66 : decode cX5_setsEntry 66 = .ok (.iastore, 1) := dk_79 (dk_at dksX5_setsEntry_2 18 rfl rfl)
theorem dX5_setsEntry_67 : decode cX5_setsEntry 67 = .ok (.aload_n 0, 1) := dk_42 (dk_at dksX5_setsEntry_2 19 rfl rfl)
theorem dX5_setsEntry_68 : decode cX5_setsEntry 68 = .ok (.iload_n 1, 1) := dk_27 (dk_at dksX5_setsEntry_2 20 rfl rfl)
theorem dX5_setsEntry_69 : decode cX5_setsEntry 69 = .ok (.invokevirtual 99, 3) := dk_182 0 99 (dk_at dksX5_setsEntry_2 21 rfl rfl)
theorem dX5_setsEntry_72 : decode cX5_setsEntry 72 = .ok (.ireturn, 1) := dk_172 (dk_at dksX5_setsEntry_3 0 rfl rfl)
abbrev cX5_setConstant : ByteArray := prog_10_method_22_code
def yX5_setConstant : MethodName := ⟨RX5, "setConstant", "(III)I"⟩
def dkwX5_setConstant_1 : List UInt8 := [167, 0, 4, 3, 21, 4, 182, 0, 104, 172]
abbrev dktX5_setConstant_1 : List UInt8 := dkwX5_setConstant_1 ++ []
def dkwX5_setConstant_0 : List UInt8 := [29, 133, 9, 20, 0, 80, 184, 0, 55, 54, 4, 42, 27, 28, 21, 4, 153, 0, 10, 16, 100, 29, 96]
abbrev dktX5_setConstant_0 : List UInt8 := dkwX5_setConstant_0 ++ dktX5_setConstant_1
theorem dksX5_setConstant_0 : cX5_setConstant.data.toList.drop 0 = dktX5_setConstant_0 := by decide +kernel
theorem dksX5_setConstant_1 : cX5_setConstant.data.toList.drop 23 = dktX5_setConstant_1 := dk_seg dksX5_setConstant_0 23 rfl rfl
theorem dX5_setConstant_0 : decode cX5_setConstant 0 = .ok (.iload_n 3, 1) := dk_29 (dk_at dksX5_setConstant_0 0 rfl rfl)
theorem dX5_setConstant_1 : decode cX5_setConstant 1 = .ok (.i2l, 1) := dk_133 (dk_at dksX5_setConstant_0 1 rfl rfl)
theorem dX5_setConstant_2 : decode cX5_setConstant 2 = .ok (.lconst 0, 1) := dk_9 (dk_at dksX5_setConstant_0 2 rfl rfl)
theorem dX5_setConstant_3 : decode cX5_setConstant 3 = .ok (.ldc2_w 80, 3) := dk_20 0 80 (dk_at dksX5_setConstant_0 3 rfl rfl)
theorem dX5_setConstant_6 : decode cX5_setConstant 6 = .ok (.invokestatic 55, 3) := dk_184 0 55 (dk_at dksX5_setConstant_0 6 rfl rfl)
theorem dX5_setConstant_9 : decode cX5_setConstant 9 = .ok (.istore 4, 2) := dk_54 4 (dk_at dksX5_setConstant_0 9 rfl rfl)
theorem dX5_setConstant_11 : decode cX5_setConstant 11 = .ok (.aload_n 0, 1) := dk_42 (dk_at dksX5_setConstant_0 11 rfl rfl)
theorem dX5_setConstant_12 : decode cX5_setConstant 12 = .ok (.iload_n 1, 1) := dk_27 (dk_at dksX5_setConstant_0 12 rfl rfl)
theorem dX5_setConstant_13 : decode cX5_setConstant 13 = .ok (.iload_n 2, 1) := dk_28 (dk_at dksX5_setConstant_0 13 rfl rfl)
theorem dX5_setConstant_14 : decode cX5_setConstant 14 = .ok (.iload 4, 2) := dk_21 4 (dk_at dksX5_setConstant_0 14 rfl rfl)
theorem dX5_setConstant_16 : decode cX5_setConstant 16 = .ok (.ifCond .eq 10, 3) := dk_153 0 10 (dk_at dksX5_setConstant_0 16 rfl rfl)
theorem dX5_setConstant_19 : decode cX5_setConstant 19 = .ok (.bipush 100, 2) := dk_16 100 (dk_at dksX5_setConstant_0 19 rfl rfl)
theorem dX5_setConstant_21 : decode cX5_setConstant 21 = .ok (.iload_n 3, 1) := dk_29 (dk_at dksX5_setConstant_0 21 rfl rfl)
theorem dX5_setConstant_22 : decode cX5_setConstant 22 = .ok (.iadd, 1) := dk_96 (dk_at dksX5_setConstant_0 22 rfl rfl)
theorem dX5_setConstant_23 : decode cX5_setConstant 23 = .ok (.goto 4, 3) := dk_167 0 4 (dk_at dksX5_setConstant_1 0 rfl rfl)
theorem dX5_setConstant_26 : decode cX5_setConstant 26 = .ok (.iconst 0, 1) := dk_3 (dk_at dksX5_setConstant_1 3 rfl rfl)
theorem dX5_setConstant_27 : decode cX5_setConstant 27 = .ok (.iload 4, 2) := dk_21 4 (dk_at dksX5_setConstant_1 4 rfl rfl)
theorem dX5_setConstant_29 : decode cX5_setConstant 29 = .ok (.invokevirtual 104, 3) := dk_182 0 104 (dk_at dksX5_setConstant_1 6 rfl rfl)
theorem dX5_setConstant_32 : decode cX5_setConstant 32 = .ok (.ireturn, 1) := dk_172 (dk_at dksX5_setConstant_1 9 rfl rfl)
abbrev cX5_isFaithful : ByteArray := prog_10_method_23_code
def yX5_isFaithful : MethodName := ⟨RX5, "isFaithful", "(I)I"⟩
def dkwX5_isFaithful_1 : List UInt8 := [16, 253, 182, 0, 72, 167, 0, 8, 42, 27, 182, 0, 99, 172]
abbrev dktX5_isFaithful_1 : List UInt8 := dkwX5_isFaithful_1 ++ []
def dkwX5_isFaithful_0 : List UInt8 := [27, 184, 0, 62, 154, 0, 10, 42, 16, 254, 182, 0, 72, 172, 42, 27, 182, 0, 86, 2, 160, 0, 12, 42]
abbrev dktX5_isFaithful_0 : List UInt8 := dkwX5_isFaithful_0 ++ dktX5_isFaithful_1
theorem dksX5_isFaithful_0 : cX5_isFaithful.data.toList.drop 0 = dktX5_isFaithful_0 := by decide +kernel
theorem dksX5_isFaithful_1 : cX5_isFaithful.data.toList.drop 24 = dktX5_isFaithful_1 := dk_seg dksX5_isFaithful_0 24 rfl rfl
theorem dX5_isFaithful_0 : decode cX5_isFaithful 0 = .ok (.iload_n 1, 1) := dk_27 (dk_at dksX5_isFaithful_0 0 rfl rfl)
theorem dX5_isFaithful_1 : decode cX5_isFaithful 1 = .ok (.invokestatic 62, 3) := dk_184 0 62 (dk_at dksX5_isFaithful_0 1 rfl rfl)
theorem dX5_isFaithful_4 : decode cX5_isFaithful 4 = .ok (.ifCond .ne 10, 3) := dk_154 0 10 (dk_at dksX5_isFaithful_0 4 rfl rfl)
theorem dX5_isFaithful_7 : decode cX5_isFaithful 7 = .ok (.aload_n 0, 1) := dk_42 (dk_at dksX5_isFaithful_0 7 rfl rfl)
theorem dX5_isFaithful_8 : decode cX5_isFaithful 8 = .ok (.bipush (-2), 2) := dk_16 254 (dk_at dksX5_isFaithful_0 8 rfl rfl)
theorem dX5_isFaithful_10 : decode cX5_isFaithful 10 = .ok (.invokevirtual 72, 3) := dk_182 0 72 (dk_at dksX5_isFaithful_0 10 rfl rfl)
theorem dX5_isFaithful_13 : decode cX5_isFaithful 13 = .ok (.ireturn, 1) := dk_172 (dk_at dksX5_isFaithful_0 13 rfl rfl)
theorem dX5_isFaithful_14 : decode cX5_isFaithful 14 = .ok (.aload_n 0, 1) := dk_42 (dk_at dksX5_isFaithful_0 14 rfl rfl)
theorem dX5_isFaithful_15 : decode cX5_isFaithful 15 = .ok (.iload_n 1, 1) := dk_27 (dk_at dksX5_isFaithful_0 15 rfl rfl)
theorem dX5_isFaithful_16 : decode cX5_isFaithful 16 = .ok (.invokevirtual 86, 3) := dk_182 0 86 (dk_at dksX5_isFaithful_0 16 rfl rfl)
theorem dX5_isFaithful_19 : decode cX5_isFaithful 19 = .ok (.iconst (-1), 1) := dk_2 (dk_at dksX5_isFaithful_0 19 rfl rfl)
theorem dX5_isFaithful_20 : decode cX5_isFaithful 20 = .ok (.if_icmp .ne 12, 3) := dk_160 0 12 (dk_at dksX5_isFaithful_0 20 rfl rfl)
theorem dX5_isFaithful_23 : decode cX5_isFaithful 23 = .ok (.aload_n 0, 1) := dk_42 (dk_at dksX5_isFaithful_0 23 rfl rfl)
theorem dX5_isFaithful_24 : decode cX5_isFaithful 24 = .ok (.bipush (-3), 2) := dk_16 253 (dk_at dksX5_isFaithful_1 0 rfl rfl)
theorem dX5_isFaithful_26 : decode cX5_isFaithful 26 = .ok (.invokevirtual 72, 3) := dk_182 0 72 (dk_at dksX5_isFaithful_1 2 rfl rfl)
theorem dX5_isFaithful_29 : decode cX5_isFaithful 29 = .ok (.goto 8, 3) := dk_167 0 8 (dk_at dksX5_isFaithful_1 5 rfl rfl)
theorem dX5_isFaithful_32 : decode cX5_isFaithful 32 = .ok (.aload_n 0, 1) := dk_42 (dk_at dksX5_isFaithful_1 8 rfl rfl)
theorem dX5_isFaithful_33 : decode cX5_isFaithful 33 = .ok (.iload_n 1, 1) := dk_27 (dk_at dksX5_isFaithful_1 9 rfl rfl)
theorem dX5_isFaithful_34 : decode cX5_isFaithful 34 = .ok (.invokevirtual 99, 3) := dk_182 0 99 (dk_at dksX5_isFaithful_1 10 rfl rfl)
theorem dX5_isFaithful_37 : decode cX5_isFaithful 37 = .ok (.ireturn, 1) := dk_172 (dk_at dksX5_isFaithful_1 13 rfl rfl)
abbrev cX5_allowAdapters : ByteArray := prog_10_method_24_code
def yX5_allowAdapters : MethodName := ⟨RX5, "allowAdapters", "(I)I"⟩
def dkwX5_allowAdapters_1 : List UInt8 := [180, 0, 7, 17, 0, 147, 46, 61, 42, 180, 0, 7, 17, 0, 147, 27, 79, 28, 172]
abbrev dktX5_allowAdapters_1 : List UInt8 := dkwX5_allowAdapters_1 ++ []
def dkwX5_allowAdapters_0 : List UInt8 := [27, 133, 9, 10, 184, 0, 55, 154, 0, 10, 42, 16, 254, 182, 0, 72, 172, 42, 182, 0, 59, 42]
abbrev dktX5_allowAdapters_0 : List UInt8 := dkwX5_allowAdapters_0 ++ dktX5_allowAdapters_1
theorem dksX5_allowAdapters_0 : cX5_allowAdapters.data.toList.drop 0 = dktX5_allowAdapters_0 := by decide +kernel
theorem dksX5_allowAdapters_1 : cX5_allowAdapters.data.toList.drop 22 = dktX5_allowAdapters_1 := dk_seg dksX5_allowAdapters_0 22 rfl rfl
theorem dX5_allowAdapters_0 : decode cX5_allowAdapters 0 = .ok (.iload_n 1, 1) := dk_27 (dk_at dksX5_allowAdapters_0 0 rfl rfl)
theorem dX5_allowAdapters_1 : decode cX5_allowAdapters 1 = .ok (.i2l, 1) := dk_133 (dk_at dksX5_allowAdapters_0 1 rfl rfl)
theorem dX5_allowAdapters_2 : decode cX5_allowAdapters 2 = .ok (.lconst 0, 1) := dk_9 (dk_at dksX5_allowAdapters_0 2 rfl rfl)
theorem dX5_allowAdapters_3 : decode cX5_allowAdapters 3 = .ok (.lconst 1, 1) := dk_10 (dk_at dksX5_allowAdapters_0 3 rfl rfl)
theorem dX5_allowAdapters_4 : decode cX5_allowAdapters 4 = .ok (.invokestatic 55, 3) := dk_184 0 55 (dk_at dksX5_allowAdapters_0 4 rfl rfl)
theorem dX5_allowAdapters_7 : decode cX5_allowAdapters 7 = .ok (.ifCond .ne 10, 3) := dk_154 0 10 (dk_at dksX5_allowAdapters_0 7 rfl rfl)
theorem dX5_allowAdapters_10 : decode cX5_allowAdapters 10 = .ok (.aload_n 0, 1) := dk_42 (dk_at dksX5_allowAdapters_0 10 rfl rfl)
theorem dX5_allowAdapters_11 : decode cX5_allowAdapters 11 = .ok (.bipush (-2), 2) := dk_16 254 (dk_at dksX5_allowAdapters_0 11 rfl rfl)
theorem dX5_allowAdapters_13 : decode cX5_allowAdapters 13 = .ok (.invokevirtual 72, 3) := dk_182 0 72 (dk_at dksX5_allowAdapters_0 13 rfl rfl)
theorem dX5_allowAdapters_16 : decode cX5_allowAdapters 16 = .ok (.ireturn, 1) := dk_172 (dk_at dksX5_allowAdapters_0 16 rfl rfl)
theorem dX5_allowAdapters_17 : decode cX5_allowAdapters 17 = .ok (.aload_n 0, 1) := dk_42 (dk_at dksX5_allowAdapters_0 17 rfl rfl)
theorem dX5_allowAdapters_18 : decode cX5_allowAdapters 18 = .ok (.invokevirtual 59, 3) := dk_182 0 59 (dk_at dksX5_allowAdapters_0 18 rfl rfl)
theorem dX5_allowAdapters_21 : decode cX5_allowAdapters 21 = .ok (.aload_n 0, 1) := dk_42 (dk_at dksX5_allowAdapters_0 21 rfl rfl)
theorem dX5_allowAdapters_22 : decode cX5_allowAdapters 22 = .ok (.getfield 7, 3) := dk_180 0 7 (dk_at dksX5_allowAdapters_1 0 rfl rfl)
theorem dX5_allowAdapters_25 : decode cX5_allowAdapters 25 = .ok (.sipush 147, 3) := dk_17 0 147 (dk_at dksX5_allowAdapters_1 3 rfl rfl)
theorem dX5_allowAdapters_28 : decode cX5_allowAdapters 28 = .ok (.iaload, 1) := dk_46 (dk_at dksX5_allowAdapters_1 6 rfl rfl)
theorem dX5_allowAdapters_29 : decode cX5_allowAdapters 29 = .ok (.istore_n 2, 1) := dk_61 (dk_at dksX5_allowAdapters_1 7 rfl rfl)
theorem dX5_allowAdapters_30 : decode cX5_allowAdapters 30 = .ok (.aload_n 0, 1) := dk_42 (dk_at dksX5_allowAdapters_1 8 rfl rfl)
theorem dX5_allowAdapters_31 : decode cX5_allowAdapters 31 = .ok (.getfield 7, 3) := dk_180 0 7 (dk_at dksX5_allowAdapters_1 9 rfl rfl)
theorem dX5_allowAdapters_34 : decode cX5_allowAdapters 34 = .ok (.sipush 147, 3) := dk_17 0 147 (dk_at dksX5_allowAdapters_1 12 rfl rfl)
theorem dX5_allowAdapters_37 : decode cX5_allowAdapters 37 = .ok (.iload_n 1, 1) := dk_27 (dk_at dksX5_allowAdapters_1 15 rfl rfl)
theorem dX5_allowAdapters_38 : decode cX5_allowAdapters 38 = .ok (.iastore, 1) := dk_79 (dk_at dksX5_allowAdapters_1 16 rfl rfl)
theorem dX5_allowAdapters_39 : decode cX5_allowAdapters 39 = .ok (.iload_n 2, 1) := dk_28 (dk_at dksX5_allowAdapters_1 17 rfl rfl)
theorem dX5_allowAdapters_40 : decode cX5_allowAdapters 40 = .ok (.ireturn, 1) := dk_172 (dk_at dksX5_allowAdapters_1 18 rfl rfl)
abbrev cX5_adapterOf : ByteArray := prog_10_method_26_code
def yX5_adapterOf : MethodName := ⟨RX5, "adapterOf", "(I)I"⟩
def dkwX5_adapterOf_1 : List UInt8 := [160, 0, 12, 42, 16, 253, 182, 0, 72, 167, 0, 4, 28, 172]
abbrev dktX5_adapterOf_1 : List UInt8 := dkwX5_adapterOf_1 ++ []
def dkwX5_adapterOf_0 : List UInt8 := [27, 184, 0, 62, 154, 0, 10, 42, 16, 254, 182, 0, 72, 172, 42, 27, 182, 0, 108, 61, 28, 2]
abbrev dktX5_adapterOf_0 : List UInt8 := dkwX5_adapterOf_0 ++ dktX5_adapterOf_1
theorem dksX5_adapterOf_0 : cX5_adapterOf.data.toList.drop 0 = dktX5_adapterOf_0 := by decide +kernel
theorem dksX5_adapterOf_1 : cX5_adapterOf.data.toList.drop 22 = dktX5_adapterOf_1 := dk_seg dksX5_adapterOf_0 22 rfl rfl
theorem dX5_adapterOf_0 : decode cX5_adapterOf 0 = .ok (.iload_n 1, 1) := dk_27 (dk_at dksX5_adapterOf_0 0 rfl rfl)
theorem dX5_adapterOf_1 : decode cX5_adapterOf 1 = .ok (.invokestatic 62, 3) := dk_184 0 62 (dk_at dksX5_adapterOf_0 1 rfl rfl)
theorem dX5_adapterOf_4 : decode cX5_adapterOf 4 = .ok (.ifCond .ne 10, 3) := dk_154 0 10 (dk_at dksX5_adapterOf_0 4 rfl rfl)
theorem dX5_adapterOf_7 : decode cX5_adapterOf 7 = .ok (.aload_n 0, 1) := dk_42 (dk_at dksX5_adapterOf_0 7 rfl rfl)
theorem dX5_adapterOf_8 : decode cX5_adapterOf 8 = .ok (.bipush (-2), 2) := dk_16 254 (dk_at dksX5_adapterOf_0 8 rfl rfl)
theorem dX5_adapterOf_10 : decode cX5_adapterOf 10 = .ok (.invokevirtual 72, 3) := dk_182 0 72 (dk_at dksX5_adapterOf_0 10 rfl rfl)
theorem dX5_adapterOf_13 : decode cX5_adapterOf 13 = .ok (.ireturn, 1) := dk_172 (dk_at dksX5_adapterOf_0 13 rfl rfl)
theorem dX5_adapterOf_14 : decode cX5_adapterOf 14 = .ok (.aload_n 0, 1) := dk_42 (dk_at dksX5_adapterOf_0 14 rfl rfl)
theorem dX5_adapterOf_15 : decode cX5_adapterOf 15 = .ok (.iload_n 1, 1) := dk_27 (dk_at dksX5_adapterOf_0 15 rfl rfl)
theorem dX5_adapterOf_16 : decode cX5_adapterOf 16 = .ok (.invokevirtual 108, 3) := dk_182 0 108 (dk_at dksX5_adapterOf_0 16 rfl rfl)
theorem dX5_adapterOf_19 : decode cX5_adapterOf 19 = .ok (.istore_n 2, 1) := dk_61 (dk_at dksX5_adapterOf_0 19 rfl rfl)
theorem dX5_adapterOf_20 : decode cX5_adapterOf 20 = .ok (.iload_n 2, 1) := dk_28 (dk_at dksX5_adapterOf_0 20 rfl rfl)
theorem dX5_adapterOf_21 : decode cX5_adapterOf 21 = .ok (.iconst (-1), 1) := dk_2 (dk_at dksX5_adapterOf_0 21 rfl rfl)
theorem dX5_adapterOf_22 : decode cX5_adapterOf 22 = .ok (.if_icmp .ne 12, 3) := dk_160 0 12 (dk_at dksX5_adapterOf_1 0 rfl rfl)
theorem dX5_adapterOf_25 : decode cX5_adapterOf 25 = .ok (.aload_n 0, 1) := dk_42 (dk_at dksX5_adapterOf_1 3 rfl rfl)
theorem dX5_adapterOf_26 : decode cX5_adapterOf 26 = .ok (.bipush (-3), 2) := dk_16 253 (dk_at dksX5_adapterOf_1 4 rfl rfl)
theorem dX5_adapterOf_28 : decode cX5_adapterOf 28 = .ok (.invokevirtual 72, 3) := dk_182 0 72 (dk_at dksX5_adapterOf_1 6 rfl rfl)
theorem dX5_adapterOf_31 : decode cX5_adapterOf 31 = .ok (.goto 4, 3) := dk_167 0 4 (dk_at dksX5_adapterOf_1 9 rfl rfl)
theorem dX5_adapterOf_34 : decode cX5_adapterOf 34 = .ok (.iload_n 2, 1) := dk_28 (dk_at dksX5_adapterOf_1 12 rfl rfl)
theorem dX5_adapterOf_35 : decode cX5_adapterOf 35 = .ok (.ireturn, 1) := dk_172 (dk_at dksX5_adapterOf_1 13 rfl rfl)
abbrev cX5_adapter : ByteArray := prog_10_method_25_code
def yX5_adapter : MethodName := ⟨RX5, "adapter", "(I)I"⟩
def dkwX5_adapter_1 : List UInt8 := [104, 96, 16, 7, 96, 46, 27, 160, 0, 7, 29, 167, 0, 4, 28, 61, 132, 3, 1, 167, 255, 217, 28, 172]
abbrev dktX5_adapter_1 : List UInt8 := dkwX5_adapter_1 ++ []
def dkwX5_adapter_0 : List UInt8 := [2, 61, 3, 62, 29, 42, 180, 0, 7, 16, 116, 46, 162, 0, 34, 42, 180, 0, 7, 16, 84, 16, 8, 29]
abbrev dktX5_adapter_0 : List UInt8 := dkwX5_adapter_0 ++ dktX5_adapter_1
theorem dksX5_adapter_0 : cX5_adapter.data.toList.drop 0 = dktX5_adapter_0 := by decide +kernel
theorem dksX5_adapter_1 : cX5_adapter.data.toList.drop 24 = dktX5_adapter_1 := dk_seg dksX5_adapter_0 24 rfl rfl
theorem dX5_adapter_0 : decode cX5_adapter 0 = .ok (.iconst (-1), 1) := dk_2 (dk_at dksX5_adapter_0 0 rfl rfl)
theorem dX5_adapter_1 : decode cX5_adapter 1 = .ok (.istore_n 2, 1) := dk_61 (dk_at dksX5_adapter_0 1 rfl rfl)
theorem dX5_adapter_2 : decode cX5_adapter 2 = .ok (.iconst 0, 1) := dk_3 (dk_at dksX5_adapter_0 2 rfl rfl)
theorem dX5_adapter_3 : decode cX5_adapter 3 = .ok (.istore_n 3, 1) := dk_62 (dk_at dksX5_adapter_0 3 rfl rfl)
theorem dX5_adapter_4 : decode cX5_adapter 4 = .ok (.iload_n 3, 1) := dk_29 (dk_at dksX5_adapter_0 4 rfl rfl)
theorem dX5_adapter_5 : decode cX5_adapter 5 = .ok (.aload_n 0, 1) := dk_42 (dk_at dksX5_adapter_0 5 rfl rfl)
theorem dX5_adapter_6 : decode cX5_adapter 6 = .ok (.getfield 7, 3) := dk_180 0 7 (dk_at dksX5_adapter_0 6 rfl rfl)
theorem dX5_adapter_9 : decode cX5_adapter 9 = .ok (.bipush 116, 2) := dk_16 116 (dk_at dksX5_adapter_0 9 rfl rfl)
theorem dX5_adapter_11 : decode cX5_adapter 11 = .ok (.iaload, 1) := dk_46 (dk_at dksX5_adapter_0 11 rfl rfl)
theorem dX5_adapter_12 : decode cX5_adapter 12 = .ok (.if_icmp .ge 34, 3) := dk_162 0 34 (dk_at dksX5_adapter_0 12 rfl rfl)
theorem dX5_adapter_15 : decode cX5_adapter 15 = .ok (.aload_n 0, 1) := dk_42 (dk_at dksX5_adapter_0 15 rfl rfl)
theorem dX5_adapter_16 : decode cX5_adapter 16 = .ok (.getfield 7, 3) := dk_180 0 7 (dk_at dksX5_adapter_0 16 rfl rfl)
theorem dX5_adapter_19 : decode cX5_adapter 19 = .ok (.bipush 84, 2) := dk_16 84 (dk_at dksX5_adapter_0 19 rfl rfl)
theorem dX5_adapter_21 : decode cX5_adapter 21 = .ok (.bipush 8, 2) := dk_16 8 (dk_at dksX5_adapter_0 21 rfl rfl)
theorem dX5_adapter_23 : decode cX5_adapter 23 = .ok (.iload_n 3, 1) := dk_29 (dk_at dksX5_adapter_0 23 rfl rfl)
theorem dX5_adapter_24 : decode cX5_adapter 24 = .ok (.imul, 1) := dk_104 (dk_at dksX5_adapter_1 0 rfl rfl)
theorem dX5_adapter_25 : decode cX5_adapter 25 = .ok (.iadd, 1) := dk_96 (dk_at dksX5_adapter_1 1 rfl rfl)
theorem dX5_adapter_26 : decode cX5_adapter 26 = .ok (.bipush 7, 2) := dk_16 7 (dk_at dksX5_adapter_1 2 rfl rfl)
theorem dX5_adapter_28 : decode cX5_adapter 28 = .ok (.iadd, 1) := dk_96 (dk_at dksX5_adapter_1 4 rfl rfl)
theorem dX5_adapter_29 : decode cX5_adapter 29 = .ok (.iaload, 1) := dk_46 (dk_at dksX5_adapter_1 5 rfl rfl)
theorem dX5_adapter_30 : decode cX5_adapter 30 = .ok (.iload_n 1, 1) := dk_27 (dk_at dksX5_adapter_1 6 rfl rfl)
theorem dX5_adapter_31 : decode cX5_adapter 31 = .ok (.if_icmp .ne 7, 3) := dk_160 0 7 (dk_at dksX5_adapter_1 7 rfl rfl)
theorem dX5_adapter_34 : decode cX5_adapter 34 = .ok (.iload_n 3, 1) := dk_29 (dk_at dksX5_adapter_1 10 rfl rfl)
theorem dX5_adapter_35 : decode cX5_adapter 35 = .ok (.goto 4, 3) := dk_167 0 4 (dk_at dksX5_adapter_1 11 rfl rfl)
theorem dX5_adapter_38 : decode cX5_adapter 38 = .ok (.iload_n 2, 1) := dk_28 (dk_at dksX5_adapter_1 14 rfl rfl)
theorem dX5_adapter_39 : decode cX5_adapter 39 = .ok (.istore_n 2, 1) := dk_61 (dk_at dksX5_adapter_1 15 rfl rfl)
theorem dX5_adapter_40 : decode cX5_adapter 40 = .ok (.iinc 3 1, 3) := dk_132 3 1 (dk_at dksX5_adapter_1 16 rfl rfl)
theorem dX5_adapter_43 : decode cX5_adapter 43 = .ok (.goto (-39), 3) := dk_167 255 217 (dk_at dksX5_adapter_1 19 rfl rfl)
theorem dX5_adapter_46 : decode cX5_adapter 46 = .ok (.iload_n 2, 1) := dk_28 (dk_at dksX5_adapter_1 22 rfl rfl)
theorem dX5_adapter_47 : decode cX5_adapter 47 = .ok (.ireturn, 1) := dk_172 (dk_at dksX5_adapter_1 23 rfl rfl)
abbrev cX5_append : ByteArray := prog_10_method_32_code
def yX5_append : MethodName := ⟨RX5, "append", "(I)I"⟩
def dkwX5_append_2 : List UInt8 := [180, 0, 119, 4, 96, 181, 0, 119, 42, 180, 0, 119, 172]
abbrev dktX5_append_2 : List UInt8 := dkwX5_append_2 ++ []
def dkwX5_append_1 : List UInt8 := [16, 120, 160, 0, 10, 42, 16, 252, 182, 0, 72, 172, 42, 180, 0, 19, 42, 180, 0, 119, 27, 79, 42, 89]
abbrev dktX5_append_1 : List UInt8 := dkwX5_append_1 ++ dktX5_append_2
def dkwX5_append_0 : List UInt8 := [27, 133, 9, 20, 0, 117, 184, 0, 55, 154, 0, 10, 42, 16, 254, 182, 0, 72, 172, 42, 180, 0, 119]
abbrev dktX5_append_0 : List UInt8 := dkwX5_append_0 ++ dktX5_append_1
theorem dksX5_append_0 : cX5_append.data.toList.drop 0 = dktX5_append_0 := by decide +kernel
theorem dksX5_append_1 : cX5_append.data.toList.drop 23 = dktX5_append_1 := dk_seg dksX5_append_0 23 rfl rfl
theorem dksX5_append_2 : cX5_append.data.toList.drop 47 = dktX5_append_2 := dk_seg dksX5_append_1 24 rfl rfl
theorem dX5_append_0 : decode cX5_append 0 = .ok (.iload_n 1, 1) := dk_27 (dk_at dksX5_append_0 0 rfl rfl)
theorem dX5_append_1 : decode cX5_append 1 = .ok (.i2l, 1) := dk_133 (dk_at dksX5_append_0 1 rfl rfl)
theorem dX5_append_2 : decode cX5_append 2 = .ok (.lconst 0, 1) := dk_9 (dk_at dksX5_append_0 2 rfl rfl)
theorem dX5_append_3 : decode cX5_append 3 = .ok (.ldc2_w 117, 3) := dk_20 0 117 (dk_at dksX5_append_0 3 rfl rfl)
theorem dX5_append_6 : decode cX5_append 6 = .ok (.invokestatic 55, 3) := dk_184 0 55 (dk_at dksX5_append_0 6 rfl rfl)
theorem dX5_append_9 : decode cX5_append 9 = .ok (.ifCond .ne 10, 3) := dk_154 0 10 (dk_at dksX5_append_0 9 rfl rfl)
theorem dX5_append_12 : decode cX5_append 12 = .ok (.aload_n 0, 1) := dk_42 (dk_at dksX5_append_0 12 rfl rfl)
theorem dX5_append_13 : decode cX5_append 13 = .ok (.bipush (-2), 2) := dk_16 254 (dk_at dksX5_append_0 13 rfl rfl)
theorem dX5_append_15 : decode cX5_append 15 = .ok (.invokevirtual 72, 3) := dk_182 0 72 (dk_at dksX5_append_0 15 rfl rfl)
theorem dX5_append_18 : decode cX5_append 18 = .ok (.ireturn, 1) := dk_172 (dk_at dksX5_append_0 18 rfl rfl)
theorem dX5_append_19 : decode cX5_append 19 = .ok (.aload_n 0, 1) := dk_42 (dk_at dksX5_append_0 19 rfl rfl)
theorem dX5_append_20 : decode cX5_append 20 = .ok (.getfield 119, 3) := dk_180 0 119 (dk_at dksX5_append_0 20 rfl rfl)
theorem dX5_append_23 : decode cX5_append 23 = .ok (.bipush 120, 2) := dk_16 120 (dk_at dksX5_append_1 0 rfl rfl)
theorem dX5_append_25 : decode cX5_append 25 = .ok (.if_icmp .ne 10, 3) := dk_160 0 10 (dk_at dksX5_append_1 2 rfl rfl)
theorem dX5_append_28 : decode cX5_append 28 = .ok (.aload_n 0, 1) := dk_42 (dk_at dksX5_append_1 5 rfl rfl)
theorem dX5_append_29 : decode cX5_append 29 = .ok (.bipush (-4), 2) := dk_16 252 (dk_at dksX5_append_1 6 rfl rfl)
theorem dX5_append_31 : decode cX5_append 31 = .ok (.invokevirtual 72, 3) := dk_182 0 72 (dk_at dksX5_append_1 8 rfl rfl)
theorem dX5_append_34 : decode cX5_append 34 = .ok (.ireturn, 1) := dk_172 (dk_at dksX5_append_1 11 rfl rfl)
theorem dX5_append_35 : decode cX5_append 35 = .ok (.aload_n 0, 1) := dk_42 (dk_at dksX5_append_1 12 rfl rfl)
theorem dX5_append_36 : decode cX5_append 36 = .ok (.getfield 19, 3) := dk_180 0 19 (dk_at dksX5_append_1 13 rfl rfl)
theorem dX5_append_39 : decode cX5_append 39 = .ok (.aload_n 0, 1) := dk_42 (dk_at dksX5_append_1 16 rfl rfl)
theorem dX5_append_40 : decode cX5_append 40 = .ok (.getfield 119, 3) := dk_180 0 119 (dk_at dksX5_append_1 17 rfl rfl)
theorem dX5_append_43 : decode cX5_append 43 = .ok (.iload_n 1, 1) := dk_27 (dk_at dksX5_append_1 20 rfl rfl)
theorem dX5_append_44 : decode cX5_append 44 = .ok (.iastore, 1) := dk_79 (dk_at dksX5_append_1 21 rfl rfl)
theorem dX5_append_45 : decode cX5_append 45 = .ok (.aload_n 0, 1) := dk_42 (dk_at dksX5_append_1 22 rfl rfl)
theorem dX5_append_46 : decode cX5_append 46 = .ok (.dup, 1) := dk_89 (dk_at dksX5_append_1 23 rfl rfl)
theorem dX5_append_47 : decode cX5_append 47 = .ok (.getfield 119, 3) := dk_180 0 119 (dk_at dksX5_append_2 0 rfl rfl)
theorem dX5_append_50 : decode cX5_append 50 = .ok (.iconst 1, 1) := dk_4 (dk_at dksX5_append_2 3 rfl rfl)
theorem dX5_append_51 : decode cX5_append 51 = .ok (.iadd, 1) := dk_96 (dk_at dksX5_append_2 4 rfl rfl)
theorem dX5_append_52 : decode cX5_append 52 = .ok (.putfield 119, 3) := dk_181 0 119 (dk_at dksX5_append_2 5 rfl rfl)
theorem dX5_append_55 : decode cX5_append 55 = .ok (.aload_n 0, 1) := dk_42 (dk_at dksX5_append_2 8 rfl rfl)
theorem dX5_append_56 : decode cX5_append 56 = .ok (.getfield 119, 3) := dk_180 0 119 (dk_at dksX5_append_2 9 rfl rfl)
theorem dX5_append_59 : decode cX5_append 59 = .ok (.ireturn, 1) := dk_172 (dk_at dksX5_append_2 12 rfl rfl)
abbrev cX5_clearText : ByteArray := prog_10_method_33_code
def yX5_clearText : MethodName := ⟨RX5, "clearText", "()I"⟩
def dkwX5_clearText_0 : List UInt8 := [42, 180, 0, 119, 60, 42, 3, 181, 0, 119, 27, 172]
abbrev dktX5_clearText_0 : List UInt8 := dkwX5_clearText_0 ++ []
theorem dksX5_clearText_0 : cX5_clearText.data.toList.drop 0 = dktX5_clearText_0 := by decide +kernel
theorem dX5_clearText_0 : decode cX5_clearText 0 = .ok (.aload_n 0, 1) := dk_42 (dk_at dksX5_clearText_0 0 rfl rfl)
theorem dX5_clearText_1 : decode cX5_clearText 1 = .ok (.getfield 119, 3) := dk_180 0 119 (dk_at dksX5_clearText_0 1 rfl rfl)
theorem dX5_clearText_4 : decode cX5_clearText 4 = .ok (.istore_n 1, 1) := dk_60 (dk_at dksX5_clearText_0 4 rfl rfl)
theorem dX5_clearText_5 : decode cX5_clearText 5 = .ok (.aload_n 0, 1) := dk_42 (dk_at dksX5_clearText_0 5 rfl rfl)
theorem dX5_clearText_6 : decode cX5_clearText 6 = .ok (.iconst 0, 1) := dk_3 (dk_at dksX5_clearText_0 6 rfl rfl)
theorem dX5_clearText_7 : decode cX5_clearText 7 = .ok (.putfield 119, 3) := dk_181 0 119 (dk_at dksX5_clearText_0 7 rfl rfl)
theorem dX5_clearText_10 : decode cX5_clearText 10 = .ok (.iload_n 1, 1) := dk_27 (dk_at dksX5_clearText_0 10 rfl rfl)
theorem dX5_clearText_11 : decode cX5_clearText 11 = .ok (.ireturn, 1) := dk_172 (dk_at dksX5_clearText_0 11 rfl rfl)
abbrev cX5_parse : ByteArray := prog_10_method_39_code
def yX5_parse : MethodName := ⟨RX5, "parse", "()I"⟩
def dkwX5_parse_4 : List UInt8 := [180, 0, 7, 17, 0, 148, 42, 180, 0, 151, 79, 42, 180, 0, 151, 172]
abbrev dktX5_parse_4 : List UInt8 := dkwX5_parse_4 ++ []
def dkwX5_parse_3 : List UInt8 := [180, 0, 7, 17, 0, 149, 27, 96, 42, 180, 0, 22, 27, 46, 79, 132, 1, 1, 167, 255, 229, 42]
abbrev dktX5_parse_3 : List UInt8 := dkwX5_parse_3 ++ dktX5_parse_4
def dkwX5_parse_2 : List UInt8 := [16, 246, 42, 180, 0, 139, 100, 172, 42, 182, 0, 59, 3, 60, 27, 42, 180, 0, 151, 162, 0, 25, 42]
abbrev dktX5_parse_2 : List UInt8 := dkwX5_parse_2 ++ dktX5_parse_3
def dkwX5_parse_1 : List UInt8 := [42, 180, 0, 139, 100, 172, 42, 180, 0, 157, 157, 255, 237, 42, 180, 0, 139, 42, 180, 0, 119, 162, 0, 11]
abbrev dktX5_parse_1 : List UInt8 := dkwX5_parse_1 ++ dktX5_parse_2
def dkwX5_parse_0 : List UInt8 := [42, 3, 181, 0, 139, 42, 3, 181, 0, 151, 42, 3, 181, 0, 157, 42, 182, 0, 164, 154, 0, 11, 16, 246]
abbrev dktX5_parse_0 : List UInt8 := dkwX5_parse_0 ++ dktX5_parse_1
theorem dksX5_parse_0 : cX5_parse.data.toList.drop 0 = dktX5_parse_0 := by decide +kernel
theorem dksX5_parse_1 : cX5_parse.data.toList.drop 24 = dktX5_parse_1 := dk_seg dksX5_parse_0 24 rfl rfl
theorem dksX5_parse_2 : cX5_parse.data.toList.drop 48 = dktX5_parse_2 := dk_seg dksX5_parse_1 24 rfl rfl
theorem dksX5_parse_3 : cX5_parse.data.toList.drop 71 = dktX5_parse_3 := dk_seg dksX5_parse_2 23 rfl rfl
theorem dksX5_parse_4 : cX5_parse.data.toList.drop 93 = dktX5_parse_4 := dk_seg dksX5_parse_3 22 rfl rfl
theorem dX5_parse_0 : decode cX5_parse 0 = .ok (.aload_n 0, 1) := dk_42 (dk_at dksX5_parse_0 0 rfl rfl)
theorem dX5_parse_1 : decode cX5_parse 1 = .ok (.iconst 0, 1) := dk_3 (dk_at dksX5_parse_0 1 rfl rfl)
theorem dX5_parse_2 : decode cX5_parse 2 = .ok (.putfield 139, 3) := dk_181 0 139 (dk_at dksX5_parse_0 2 rfl rfl)
theorem dX5_parse_5 : decode cX5_parse 5 = .ok (.aload_n 0, 1) := dk_42 (dk_at dksX5_parse_0 5 rfl rfl)
theorem dX5_parse_6 : decode cX5_parse 6 = .ok (.iconst 0, 1) := dk_3 (dk_at dksX5_parse_0 6 rfl rfl)
theorem dX5_parse_7 : decode cX5_parse 7 = .ok (.putfield 151, 3) := dk_181 0 151 (dk_at dksX5_parse_0 7 rfl rfl)
theorem dX5_parse_10 : decode cX5_parse 10 = .ok (.aload_n 0, 1) := dk_42 (dk_at dksX5_parse_0 10 rfl rfl)
theorem dX5_parse_11 : decode cX5_parse 11 = .ok (.iconst 0, 1) := dk_3 (dk_at dksX5_parse_0 11 rfl rfl)
theorem dX5_parse_12 : decode cX5_parse 12 = .ok (.putfield 157, 3) := dk_181 0 157 (dk_at dksX5_parse_0 12 rfl rfl)
theorem dX5_parse_15 : decode cX5_parse 15 = .ok (.aload_n 0, 1) := dk_42 (dk_at dksX5_parse_0 15 rfl rfl)
theorem dX5_parse_16 : decode cX5_parse 16 = .ok (.invokevirtual 164, 3) := dk_182 0 164 (dk_at dksX5_parse_0 16 rfl rfl)
theorem dX5_parse_19 : decode cX5_parse 19 = .ok (.ifCond .ne 11, 3) := dk_154 0 11 (dk_at dksX5_parse_0 19 rfl rfl)
theorem dX5_parse_22 : decode cX5_parse 22 = .ok (.bipush (-10), 2) := dk_16 246 (dk_at dksX5_parse_0 22 rfl rfl)
theorem dX5_parse_24 : decode cX5_parse 24 = .ok (.aload_n 0, 1) := dk_42 (dk_at dksX5_parse_1 0 rfl rfl)
theorem dX5_parse_25 : decode cX5_parse 25 = .ok (.getfield 139, 3) := dk_180 0 139 (dk_at dksX5_parse_1 1 rfl rfl)
theorem dX5_parse_28 : decode cX5_parse 28 = .ok (.isub, 1) := dk_100 (dk_at dksX5_parse_1 4 rfl rfl)
theorem dX5_parse_29 : decode cX5_parse 29 = .ok (.ireturn, 1) := dk_172 (dk_at dksX5_parse_1 5 rfl rfl)
theorem dX5_parse_30 : decode cX5_parse 30 = .ok (.aload_n 0, 1) := dk_42 (dk_at dksX5_parse_1 6 rfl rfl)
theorem dX5_parse_31 : decode cX5_parse 31 = .ok (.getfield 157, 3) := dk_180 0 157 (dk_at dksX5_parse_1 7 rfl rfl)
theorem dX5_parse_34 : decode cX5_parse 34 = .ok (.ifCond .gt (-19), 3) := dk_157 255 237 (dk_at dksX5_parse_1 10 rfl rfl)
theorem dX5_parse_37 : decode cX5_parse 37 = .ok (.aload_n 0, 1) := dk_42 (dk_at dksX5_parse_1 13 rfl rfl)
theorem dX5_parse_38 : decode cX5_parse 38 = .ok (.getfield 139, 3) := dk_180 0 139 (dk_at dksX5_parse_1 14 rfl rfl)
theorem dX5_parse_41 : decode cX5_parse 41 = .ok (.aload_n 0, 1) := dk_42 (dk_at dksX5_parse_1 17 rfl rfl)
theorem dX5_parse_42 : decode cX5_parse 42 = .ok (.getfield 119, 3) := dk_180 0 119 (dk_at dksX5_parse_1 18 rfl rfl)
theorem dX5_parse_45 : decode cX5_parse 45 = .ok (.if_icmp .ge 11, 3) := dk_162 0 11 (dk_at dksX5_parse_1 21 rfl rfl)
theorem dX5_parse_48 : decode cX5_parse 48 = .ok (.bipush (-10), 2) := dk_16 246 (dk_at dksX5_parse_2 0 rfl rfl)
theorem dX5_parse_50 : decode cX5_parse 50 = .ok (.aload_n 0, 1) := dk_42 (dk_at dksX5_parse_2 2 rfl rfl)
theorem dX5_parse_51 : decode cX5_parse 51 = .ok (.getfield 139, 3) := dk_180 0 139 (dk_at dksX5_parse_2 3 rfl rfl)
theorem dX5_parse_54 : decode cX5_parse 54 = .ok (.isub, 1) := dk_100 (dk_at dksX5_parse_2 6 rfl rfl)
theorem dX5_parse_55 : decode cX5_parse 55 = .ok (.ireturn, 1) := dk_172 (dk_at dksX5_parse_2 7 rfl rfl)
theorem dX5_parse_56 : decode cX5_parse 56 = .ok (.aload_n 0, 1) := dk_42 (dk_at dksX5_parse_2 8 rfl rfl)
theorem dX5_parse_57 : decode cX5_parse 57 = .ok (.invokevirtual 59, 3) := dk_182 0 59 (dk_at dksX5_parse_2 9 rfl rfl)
theorem dX5_parse_60 : decode cX5_parse 60 = .ok (.iconst 0, 1) := dk_3 (dk_at dksX5_parse_2 12 rfl rfl)
theorem dX5_parse_61 : decode cX5_parse 61 = .ok (.istore_n 1, 1) := dk_60 (dk_at dksX5_parse_2 13 rfl rfl)
theorem dX5_parse_62 : decode cX5_parse 62 = .ok (.iload_n 1, 1) := dk_27 (dk_at dksX5_parse_2 14 rfl rfl)
theorem dX5_parse_63 : decode cX5_parse 63 = .ok (.aload_n 0, 1) := dk_42 (dk_at dksX5_parse_2 15 rfl rfl)
theorem dX5_parse_64 : decode cX5_parse 64 = .ok (.getfield 151, 3) := dk_180 0 151 (dk_at dksX5_parse_2 16 rfl rfl)
theorem dX5_parse_67 : decode cX5_parse 67 = .ok (.if_icmp .ge 25, 3) := dk_162 0 25 (dk_at dksX5_parse_2 19 rfl rfl)
theorem dX5_parse_70 : decode cX5_parse 70 = .ok (.aload_n 0, 1) := dk_42 (dk_at dksX5_parse_2 22 rfl rfl)
theorem dX5_parse_71 : decode cX5_parse 71 = .ok (.getfield 7, 3) := dk_180 0 7 (dk_at dksX5_parse_3 0 rfl rfl)
theorem dX5_parse_74 : decode cX5_parse 74 = .ok (.sipush 149, 3) := dk_17 0 149 (dk_at dksX5_parse_3 3 rfl rfl)
theorem dX5_parse_77 : decode cX5_parse 77 = .ok (.iload_n 1, 1) := dk_27 (dk_at dksX5_parse_3 6 rfl rfl)
theorem dX5_parse_78 : decode cX5_parse 78 = .ok (.iadd, 1) := dk_96 (dk_at dksX5_parse_3 7 rfl rfl)
theorem dX5_parse_79 : decode cX5_parse 79 = .ok (.aload_n 0, 1) := dk_42 (dk_at dksX5_parse_3 8 rfl rfl)
theorem dX5_parse_80 : decode cX5_parse 80 = .ok (.getfield 22, 3) := dk_180 0 22 (dk_at dksX5_parse_3 9 rfl rfl)
theorem dX5_parse_83 : decode cX5_parse 83 = .ok (.iload_n 1, 1) := dk_27 (dk_at dksX5_parse_3 12 rfl rfl)
theorem dX5_parse_84 : decode cX5_parse 84 = .ok (.iaload, 1) := dk_46 (dk_at dksX5_parse_3 13 rfl rfl)
theorem dX5_parse_85 : decode cX5_parse 85 = .ok (.iastore, 1) := dk_79 (dk_at dksX5_parse_3 14 rfl rfl)
theorem dX5_parse_86 : decode cX5_parse 86 = .ok (.iinc 1 1, 3) := dk_132 1 1 (dk_at dksX5_parse_3 15 rfl rfl)
theorem dX5_parse_89 : decode cX5_parse 89 = .ok (.goto (-27), 3) := dk_167 255 229 (dk_at dksX5_parse_3 18 rfl rfl)
theorem dX5_parse_92 : decode cX5_parse 92 = .ok (.aload_n 0, 1) := dk_42 (dk_at dksX5_parse_3 21 rfl rfl)
theorem dX5_parse_93 : decode cX5_parse 93 = .ok (.getfield 7, 3) := dk_180 0 7 (dk_at dksX5_parse_4 0 rfl rfl)
theorem dX5_parse_96 : decode cX5_parse 96 = .ok (.sipush 148, 3) := dk_17 0 148 (dk_at dksX5_parse_4 3 rfl rfl)
theorem dX5_parse_99 : decode cX5_parse 99 = .ok (.aload_n 0, 1) := dk_42 (dk_at dksX5_parse_4 6 rfl rfl)
theorem dX5_parse_100 : decode cX5_parse 100 = .ok (.getfield 151, 3) := dk_180 0 151 (dk_at dksX5_parse_4 7 rfl rfl)
theorem dX5_parse_103 : decode cX5_parse 103 = .ok (.iastore, 1) := dk_79 (dk_at dksX5_parse_4 10 rfl rfl)
theorem dX5_parse_104 : decode cX5_parse 104 = .ok (.aload_n 0, 1) := dk_42 (dk_at dksX5_parse_4 11 rfl rfl)
theorem dX5_parse_105 : decode cX5_parse 105 = .ok (.getfield 151, 3) := dk_180 0 151 (dk_at dksX5_parse_4 12 rfl rfl)
theorem dX5_parse_108 : decode cX5_parse 108 = .ok (.ireturn, 1) := dk_172 (dk_at dksX5_parse_4 15 rfl rfl)
abbrev cX5_readsNode : ByteArray := prog_10_method_37_code
def yX5_readsNode : MethodName := ⟨RX5, "readsNode", "()Z"⟩
def dkwX5_readsNode_10 : List UInt8 := [159, 0, 5, 3, 172, 42, 89, 180, 0, 139, 4, 96, 181, 0, 139, 42, 182, 0, 160, 172]
abbrev dktX5_readsNode_10 : List UInt8 := dkwX5_readsNode_10 ++ []
def dkwX5_readsNode_9 : List UInt8 := [181, 0, 157, 4, 172, 28, 184, 0, 111, 5, 164, 0, 28, 42, 42, 180, 0, 139, 182, 0, 142, 16, 41]
abbrev dktX5_readsNode_9 : List UInt8 := dkwX5_readsNode_9 ++ dktX5_readsNode_10
def dkwX5_readsNode_8 : List UInt8 := [181, 0, 151, 29, 158, 0, 25, 42, 180, 0, 25, 42, 180, 0, 157, 29, 79, 42, 89, 180, 0, 157, 4, 96]
abbrev dktX5_readsNode_8 : List UInt8 := dkwX5_readsNode_8 ++ dktX5_readsNode_9
def dkwX5_readsNode_7 : List UInt8 := [181, 0, 139, 42, 180, 0, 22, 42, 180, 0, 151, 28, 29, 96, 79, 42, 89, 180, 0, 151, 4, 96]
abbrev dktX5_readsNode_7 : List UInt8 := dkwX5_readsNode_7 ++ dktX5_readsNode_8
def dkwX5_readsNode_6 : List UInt8 := [42, 42, 180, 0, 139, 182, 0, 142, 16, 40, 159, 0, 5, 3, 172, 42, 89, 180, 0, 139, 4, 96]
abbrev dktX5_readsNode_6 : List UInt8 := dkwX5_readsNode_6 ++ dktX5_readsNode_7
def dkwX5_readsNode_5 : List UInt8 := [181, 0, 139, 28, 184, 0, 111, 5, 164, 0, 41, 42, 180, 0, 7, 42, 28, 182, 0, 154, 3, 96, 46, 62]
abbrev dktX5_readsNode_5 : List UInt8 := dkwX5_readsNode_5 ++ dktX5_readsNode_6
def dkwX5_readsNode_4 : List UInt8 := [180, 0, 139, 182, 0, 142, 96, 16, 48, 100, 3, 184, 0, 126, 61, 42, 89, 180, 0, 139, 4, 96]
abbrev dktX5_readsNode_4 : List UInt8 := dkwX5_readsNode_4 ++ dktX5_readsNode_5
def dkwX5_readsNode_3 : List UInt8 := [42, 42, 180, 0, 139, 182, 0, 142, 184, 0, 145, 153, 0, 38, 3, 16, 10, 27, 16, 48, 100, 104, 42, 42]
abbrev dktX5_readsNode_3 : List UInt8 := dkwX5_readsNode_3 ++ dktX5_readsNode_4
def dkwX5_readsNode_2 : List UInt8 := [160, 0, 5, 3, 172, 42, 89, 180, 0, 139, 4, 96, 181, 0, 139, 3, 62, 27, 184, 0, 145, 153, 0, 52]
abbrev dktX5_readsNode_2 : List UInt8 := dkwX5_readsNode_2 ++ dktX5_readsNode_3
def dkwX5_readsNode_1 : List UInt8 := [184, 0, 126, 167, 0, 8, 42, 27, 182, 0, 148, 61, 28, 2, 159, 0, 12, 42, 180, 0, 151, 16, 30]
abbrev dktX5_readsNode_1 : List UInt8 := dkwX5_readsNode_1 ++ dktX5_readsNode_2
def dkwX5_readsNode_0 : List UInt8 := [42, 42, 180, 0, 139, 182, 0, 142, 60, 27, 184, 0, 145, 153, 0, 15, 3, 27, 16, 48, 100, 3]
abbrev dktX5_readsNode_0 : List UInt8 := dkwX5_readsNode_0 ++ dktX5_readsNode_1
theorem dksX5_readsNode_0 : cX5_readsNode.data.toList.drop 0 = dktX5_readsNode_0 := by decide +kernel
theorem dksX5_readsNode_1 : cX5_readsNode.data.toList.drop 22 = dktX5_readsNode_1 := dk_seg dksX5_readsNode_0 22 rfl rfl
theorem dksX5_readsNode_2 : cX5_readsNode.data.toList.drop 45 = dktX5_readsNode_2 := dk_seg dksX5_readsNode_1 23 rfl rfl
theorem dksX5_readsNode_3 : cX5_readsNode.data.toList.drop 69 = dktX5_readsNode_3 := dk_seg dksX5_readsNode_2 24 rfl rfl
theorem dksX5_readsNode_4 : cX5_readsNode.data.toList.drop 93 = dktX5_readsNode_4 := dk_seg dksX5_readsNode_3 24 rfl rfl
theorem dksX5_readsNode_5 : cX5_readsNode.data.toList.drop 115 = dktX5_readsNode_5 := dk_seg dksX5_readsNode_4 22 rfl rfl
theorem dksX5_readsNode_6 : cX5_readsNode.data.toList.drop 139 = dktX5_readsNode_6 := dk_seg dksX5_readsNode_5 24 rfl rfl
theorem dksX5_readsNode_7 : cX5_readsNode.data.toList.drop 161 = dktX5_readsNode_7 := dk_seg dksX5_readsNode_6 22 rfl rfl
theorem dksX5_readsNode_8 : cX5_readsNode.data.toList.drop 183 = dktX5_readsNode_8 := dk_seg dksX5_readsNode_7 22 rfl rfl
theorem dksX5_readsNode_9 : cX5_readsNode.data.toList.drop 207 = dktX5_readsNode_9 := dk_seg dksX5_readsNode_8 24 rfl rfl
theorem dksX5_readsNode_10 : cX5_readsNode.data.toList.drop 230 = dktX5_readsNode_10 := dk_seg dksX5_readsNode_9 23 rfl rfl
theorem dX5_readsNode_0 : decode cX5_readsNode 0 = .ok (.aload_n 0, 1) := dk_42 (dk_at dksX5_readsNode_0 0 rfl rfl)
theorem dX5_readsNode_1 : decode cX5_readsNode 1 = .ok (.aload_n 0, 1) := dk_42 (dk_at dksX5_readsNode_0 1 rfl rfl)
theorem dX5_readsNode_2 : decode cX5_readsNode 2 = .ok (.getfield 139, 3) := dk_180 0 139 (dk_at dksX5_readsNode_0 2 rfl rfl)
theorem dX5_readsNode_5 : decode cX5_readsNode 5 = .ok (.invokevirtual 142, 3) := dk_182 0 142 (dk_at dksX5_readsNode_0 5 rfl rfl)
theorem dX5_readsNode_8 : decode cX5_readsNode 8 = .ok (.istore_n 1, 1) := dk_60 (dk_at dksX5_readsNode_0 8 rfl rfl)
theorem dX5_readsNode_9 : decode cX5_readsNode 9 = .ok (.iload_n 1, 1) := dk_27 (dk_at dksX5_readsNode_0 9 rfl rfl)
theorem dX5_readsNode_10 : decode cX5_readsNode 10 = .ok (.invokestatic 145, 3) := dk_184 0 145 (dk_at dksX5_readsNode_0 10 rfl rfl)
theorem dX5_readsNode_13 : decode cX5_readsNode 13 = .ok (.ifCond .eq 15, 3) := dk_153 0 15 (dk_at dksX5_readsNode_0 13 rfl rfl)
theorem dX5_readsNode_16 : decode cX5_readsNode 16 = .ok (.iconst 0, 1) := dk_3 (dk_at dksX5_readsNode_0 16 rfl rfl)
theorem dX5_readsNode_17 : decode cX5_readsNode 17 = .ok (.iload_n 1, 1) := dk_27 (dk_at dksX5_readsNode_0 17 rfl rfl)
theorem dX5_readsNode_18 : decode cX5_readsNode 18 = .ok (.bipush 48, 2) := dk_16 48 (dk_at dksX5_readsNode_0 18 rfl rfl)
theorem dX5_readsNode_20 : decode cX5_readsNode 20 = .ok (.isub, 1) := dk_100 (dk_at dksX5_readsNode_0 20 rfl rfl)
theorem dX5_readsNode_21 : decode cX5_readsNode 21 = .ok (.iconst 0, 1) := dk_3 (dk_at dksX5_readsNode_0 21 rfl rfl)
theorem dX5_readsNode_22 : decode cX5_readsNode 22 = .ok (.invokestatic 126, 3) := dk_184 0 126 (dk_at dksX5_readsNode_1 0 rfl rfl)
theorem dX5_readsNode_25 : decode cX5_readsNode 25 = .ok (.goto 8, 3) := dk_167 0 8 (dk_at dksX5_readsNode_1 3 rfl rfl)
theorem dX5_readsNode_28 : decode cX5_readsNode 28 = .ok (.aload_n 0, 1) := dk_42 (dk_at dksX5_readsNode_1 6 rfl rfl)
theorem dX5_readsNode_29 : decode cX5_readsNode 29 = .ok (.iload_n 1, 1) := dk_27 (dk_at dksX5_readsNode_1 7 rfl rfl)
theorem dX5_readsNode_30 : decode cX5_readsNode 30 = .ok (.invokevirtual 148, 3) := dk_182 0 148 (dk_at dksX5_readsNode_1 8 rfl rfl)
theorem dX5_readsNode_33 : decode cX5_readsNode 33 = .ok (.istore_n 2, 1) := dk_61 (dk_at dksX5_readsNode_1 11 rfl rfl)
theorem dX5_readsNode_34 : decode cX5_readsNode 34 = .ok (.iload_n 2, 1) := dk_28 (dk_at dksX5_readsNode_1 12 rfl rfl)
theorem dX5_readsNode_35 : decode cX5_readsNode 35 = .ok (.iconst (-1), 1) := dk_2 (dk_at dksX5_readsNode_1 13 rfl rfl)
theorem dX5_readsNode_36 : decode cX5_readsNode 36 = .ok (.if_icmp .eq 12, 3) := dk_159 0 12 (dk_at dksX5_readsNode_1 14 rfl rfl)
theorem dX5_readsNode_39 : decode cX5_readsNode 39 = .ok (.aload_n 0, 1) := dk_42 (dk_at dksX5_readsNode_1 17 rfl rfl)
theorem dX5_readsNode_40 : decode cX5_readsNode 40 = .ok (.getfield 151, 3) := dk_180 0 151 (dk_at dksX5_readsNode_1 18 rfl rfl)
theorem dX5_readsNode_43 : decode cX5_readsNode 43 = .ok (.bipush 30, 2) := dk_16 30 (dk_at dksX5_readsNode_1 21 rfl rfl)
theorem dX5_readsNode_45 : decode cX5_readsNode 45 = .ok (.if_icmp .ne 5, 3) := dk_160 0 5 (dk_at dksX5_readsNode_2 0 rfl rfl)
theorem dX5_readsNode_48 : decode cX5_readsNode 48 = .ok (.iconst 0, 1) := dk_3 (dk_at dksX5_readsNode_2 3 rfl rfl)
theorem dX5_readsNode_49 : decode cX5_readsNode 49 = .ok (.ireturn, 1) := dk_172 (dk_at dksX5_readsNode_2 4 rfl rfl)
theorem dX5_readsNode_50 : decode cX5_readsNode 50 = .ok (.aload_n 0, 1) := dk_42 (dk_at dksX5_readsNode_2 5 rfl rfl)
theorem dX5_readsNode_51 : decode cX5_readsNode 51 = .ok (.dup, 1) := dk_89 (dk_at dksX5_readsNode_2 6 rfl rfl)
theorem dX5_readsNode_52 : decode cX5_readsNode 52 = .ok (.getfield 139, 3) := dk_180 0 139 (dk_at dksX5_readsNode_2 7 rfl rfl)
theorem dX5_readsNode_55 : decode cX5_readsNode 55 = .ok (.iconst 1, 1) := dk_4 (dk_at dksX5_readsNode_2 10 rfl rfl)
theorem dX5_readsNode_56 : decode cX5_readsNode 56 = .ok (.iadd, 1) := dk_96 (dk_at dksX5_readsNode_2 11 rfl rfl)
theorem dX5_readsNode_57 : decode cX5_readsNode 57 = .ok (.putfield 139, 3) := dk_181 0 139 (dk_at dksX5_readsNode_2 12 rfl rfl)
theorem dX5_readsNode_60 : decode cX5_readsNode 60 = .ok (.iconst 0, 1) := dk_3 (dk_at dksX5_readsNode_2 15 rfl rfl)
theorem dX5_readsNode_61 : decode cX5_readsNode 61 = .ok (.istore_n 3, 1) := dk_62 (dk_at dksX5_readsNode_2 16 rfl rfl)
theorem dX5_readsNode_62 : decode cX5_readsNode 62 = .ok (.iload_n 1, 1) := dk_27 (dk_at dksX5_readsNode_2 17 rfl rfl)
theorem dX5_readsNode_63 : decode cX5_readsNode 63 = .ok (.invokestatic 145, 3) := dk_184 0 145 (dk_at dksX5_readsNode_2 18 rfl rfl)
theorem dX5_readsNode_66 : decode cX5_readsNode 66 = .ok (.ifCond .eq 52, 3) := dk_153 0 52 (dk_at dksX5_readsNode_2 21 rfl rfl)
theorem dX5_readsNode_69 : decode cX5_readsNode 69 = .ok (.aload_n 0, 1) := dk_42 (dk_at dksX5_readsNode_3 0 rfl rfl)
theorem dX5_readsNode_70 : decode cX5_readsNode 70 = .ok (.aload_n 0, 1) := dk_42 (dk_at dksX5_readsNode_3 1 rfl rfl)
theorem dX5_readsNode_71 : decode cX5_readsNode 71 = .ok (.getfield 139, 3) := dk_180 0 139 (dk_at dksX5_readsNode_3 2 rfl rfl)
theorem dX5_readsNode_74 : decode cX5_readsNode 74 = .ok (.invokevirtual 142, 3) := dk_182 0 142 (dk_at dksX5_readsNode_3 5 rfl rfl)
theorem dX5_readsNode_77 : decode cX5_readsNode 77 = .ok (.invokestatic 145, 3) := dk_184 0 145 (dk_at dksX5_readsNode_3 8 rfl rfl)
theorem dX5_readsNode_80 : decode cX5_readsNode 80 = .ok (.ifCond .eq 38, 3) := dk_153 0 38 (dk_at dksX5_readsNode_3 11 rfl rfl)
theorem dX5_readsNode_83 : decode cX5_readsNode 83 = .ok (.iconst 0, 1) := dk_3 (dk_at dksX5_readsNode_3 14 rfl rfl)
theorem dX5_readsNode_84 : decode cX5_readsNode 84 = .ok (.bipush 10, 2) := dk_16 10 (dk_at dksX5_readsNode_3 15 rfl rfl)
theorem dX5_readsNode_86 : decode cX5_readsNode 86 = .ok (.iload_n 1, 1) := dk_27 (dk_at dksX5_readsNode_3 17 rfl rfl)
theorem dX5_readsNode_87 : decode cX5_readsNode 87 = .ok (.bipush 48, 2) := dk_16 48 (dk_at dksX5_readsNode_3 18 rfl rfl)
theorem dX5_readsNode_89 : decode cX5_readsNode 89 = .ok (.isub, 1) := dk_100 (dk_at dksX5_readsNode_3 20 rfl rfl)
theorem dX5_readsNode_90 : decode cX5_readsNode 90 = .ok (.imul, 1) := dk_104 (dk_at dksX5_readsNode_3 21 rfl rfl)
theorem dX5_readsNode_91 : decode cX5_readsNode 91 = .ok (.aload_n 0, 1) := dk_42 (dk_at dksX5_readsNode_3 22 rfl rfl)
theorem dX5_readsNode_92 : decode cX5_readsNode 92 = .ok (.aload_n 0, 1) := dk_42 (dk_at dksX5_readsNode_3 23 rfl rfl)
theorem dX5_readsNode_93 : decode cX5_readsNode 93 = .ok (.getfield 139, 3) := dk_180 0 139 (dk_at dksX5_readsNode_4 0 rfl rfl)
theorem dX5_readsNode_96 : decode cX5_readsNode 96 = .ok (.invokevirtual 142, 3) := dk_182 0 142 (dk_at dksX5_readsNode_4 3 rfl rfl)
theorem dX5_readsNode_99 : decode cX5_readsNode 99 = .ok (.iadd, 1) := dk_96 (dk_at dksX5_readsNode_4 6 rfl rfl)
theorem dX5_readsNode_100 : decode cX5_readsNode 100 = .ok (.bipush 48, 2) := dk_16 48 (dk_at dksX5_readsNode_4 7 rfl rfl)
theorem dX5_readsNode_102 : decode cX5_readsNode 102 = .ok (.isub, 1) := dk_100 (dk_at dksX5_readsNode_4 9 rfl rfl)
theorem dX5_readsNode_103 : decode cX5_readsNode 103 = .ok (.iconst 0, 1) := dk_3 (dk_at dksX5_readsNode_4 10 rfl rfl)
theorem dX5_readsNode_104 : decode cX5_readsNode 104 = .ok (.invokestatic 126, 3) := dk_184 0 126 (dk_at dksX5_readsNode_4 11 rfl rfl)
theorem dX5_readsNode_107 : decode cX5_readsNode 107 = .ok (.istore_n 2, 1) := dk_61 (dk_at dksX5_readsNode_4 14 rfl rfl)
theorem dX5_readsNode_108 : decode cX5_readsNode 108 = .ok (.aload_n 0, 1) := dk_42 (dk_at dksX5_readsNode_4 15 rfl rfl)
theorem dX5_readsNode_109 : decode cX5_readsNode 109 = .ok (.dup, 1) := dk_89 (dk_at dksX5_readsNode_4 16 rfl rfl)
theorem dX5_readsNode_110 : decode cX5_readsNode 110 = .ok (.getfield 139, 3) := dk_180 0 139 (dk_at dksX5_readsNode_4 17 rfl rfl)
theorem dX5_readsNode_113 : decode cX5_readsNode 113 = .ok (.iconst 1, 1) := dk_4 (dk_at dksX5_readsNode_4 20 rfl rfl)
theorem dX5_readsNode_114 : decode cX5_readsNode 114 = .ok (.iadd, 1) := dk_96 (dk_at dksX5_readsNode_4 21 rfl rfl)
theorem dX5_readsNode_115 : decode cX5_readsNode 115 = .ok (.putfield 139, 3) := dk_181 0 139 (dk_at dksX5_readsNode_5 0 rfl rfl)
theorem dX5_readsNode_118 : decode cX5_readsNode 118 = .ok (.iload_n 2, 1) := dk_28 (dk_at dksX5_readsNode_5 3 rfl rfl)
theorem dX5_readsNode_119 : decode cX5_readsNode 119 = .ok (.invokestatic 111, 3) := dk_184 0 111 (dk_at dksX5_readsNode_5 4 rfl rfl)
theorem dX5_readsNode_122 : decode cX5_readsNode 122 = .ok (.iconst 2, 1) := dk_5 (dk_at dksX5_readsNode_5 7 rfl rfl)
theorem dX5_readsNode_123 : decode cX5_readsNode 123 = .ok (.if_icmp .le 41, 3) := dk_164 0 41 (dk_at dksX5_readsNode_5 8 rfl rfl)
theorem dX5_readsNode_126 : decode cX5_readsNode 126 = .ok (.aload_n 0, 1) := dk_42 (dk_at dksX5_readsNode_5 11 rfl rfl)
theorem dX5_readsNode_127 : decode cX5_readsNode 127 = .ok (.getfield 7, 3) := dk_180 0 7 (dk_at dksX5_readsNode_5 12 rfl rfl)
theorem dX5_readsNode_130 : decode cX5_readsNode 130 = .ok (.aload_n 0, 1) := dk_42 (dk_at dksX5_readsNode_5 15 rfl rfl)
theorem dX5_readsNode_131 : decode cX5_readsNode 131 = .ok (.iload_n 2, 1) := dk_28 (dk_at dksX5_readsNode_5 16 rfl rfl)
theorem dX5_readsNode_132 : decode cX5_readsNode 132 = .ok (.invokevirtual 154, 3) := dk_182 0 154 (dk_at dksX5_readsNode_5 17 rfl rfl)
theorem dX5_readsNode_135 : decode cX5_readsNode 135 = .ok (.iconst 0, 1) := dk_3 (dk_at dksX5_readsNode_5 20 rfl rfl)
theorem dX5_readsNode_136 : decode cX5_readsNode 136 = .ok (.iadd, 1) := dk_96 (dk_at dksX5_readsNode_5 21 rfl rfl)
theorem dX5_readsNode_137 : decode cX5_readsNode 137 = .ok (.iaload, 1) := dk_46 (dk_at dksX5_readsNode_5 22 rfl rfl)
theorem dX5_readsNode_138 : decode cX5_readsNode 138 = .ok (.istore_n 3, 1) := dk_62 (dk_at dksX5_readsNode_5 23 rfl rfl)
theorem dX5_readsNode_139 : decode cX5_readsNode 139 = .ok (.aload_n 0, 1) := dk_42 (dk_at dksX5_readsNode_6 0 rfl rfl)
theorem dX5_readsNode_140 : decode cX5_readsNode 140 = .ok (.aload_n 0, 1) := dk_42 (dk_at dksX5_readsNode_6 1 rfl rfl)
theorem dX5_readsNode_141 : decode cX5_readsNode 141 = .ok (.getfield 139, 3) := dk_180 0 139 (dk_at dksX5_readsNode_6 2 rfl rfl)
theorem dX5_readsNode_144 : decode cX5_readsNode 144 = .ok (.invokevirtual 142, 3) := dk_182 0 142 (dk_at dksX5_readsNode_6 5 rfl rfl)
theorem dX5_readsNode_147 : decode cX5_readsNode 147 = .ok (.bipush 40, 2) := dk_16 40 (dk_at dksX5_readsNode_6 8 rfl rfl)
theorem dX5_readsNode_149 : decode cX5_readsNode 149 = .ok (.if_icmp .eq 5, 3) := dk_159 0 5 (dk_at dksX5_readsNode_6 10 rfl rfl)
theorem dX5_readsNode_152 : decode cX5_readsNode 152 = .ok (.iconst 0, 1) := dk_3 (dk_at dksX5_readsNode_6 13 rfl rfl)
theorem dX5_readsNode_153 : decode cX5_readsNode 153 = .ok (.ireturn, 1) := dk_172 (dk_at dksX5_readsNode_6 14 rfl rfl)
theorem dX5_readsNode_154 : decode cX5_readsNode 154 = .ok (.aload_n 0, 1) := dk_42 (dk_at dksX5_readsNode_6 15 rfl rfl)
theorem dX5_readsNode_155 : decode cX5_readsNode 155 = .ok (.dup, 1) := dk_89 (dk_at dksX5_readsNode_6 16 rfl rfl)
theorem dX5_readsNode_156 : decode cX5_readsNode 156 = .ok (.getfield 139, 3) := dk_180 0 139 (dk_at dksX5_readsNode_6 17 rfl rfl)
theorem dX5_readsNode_159 : decode cX5_readsNode 159 = .ok (.iconst 1, 1) := dk_4 (dk_at dksX5_readsNode_6 20 rfl rfl)
theorem dX5_readsNode_160 : decode cX5_readsNode 160 = .ok (.iadd, 1) := dk_96 (dk_at dksX5_readsNode_6 21 rfl rfl)
theorem dX5_readsNode_161 : decode cX5_readsNode 161 = .ok (.putfield 139, 3) := dk_181 0 139 (dk_at dksX5_readsNode_7 0 rfl rfl)
theorem dX5_readsNode_164 : decode cX5_readsNode 164 = .ok (.aload_n 0, 1) := dk_42 (dk_at dksX5_readsNode_7 3 rfl rfl)
theorem dX5_readsNode_165 : decode cX5_readsNode 165 = .ok (.getfield 22, 3) := dk_180 0 22 (dk_at dksX5_readsNode_7 4 rfl rfl)
theorem dX5_readsNode_168 : decode cX5_readsNode 168 = .ok (.aload_n 0, 1) := dk_42 (dk_at dksX5_readsNode_7 7 rfl rfl)
theorem dX5_readsNode_169 : decode cX5_readsNode 169 = .ok (.getfield 151, 3) := dk_180 0 151 (dk_at dksX5_readsNode_7 8 rfl rfl)
theorem dX5_readsNode_172 : decode cX5_readsNode 172 = .ok (.iload_n 2, 1) := dk_28 (dk_at dksX5_readsNode_7 11 rfl rfl)
theorem dX5_readsNode_173 : decode cX5_readsNode 173 = .ok (.iload_n 3, 1) := dk_29 (dk_at dksX5_readsNode_7 12 rfl rfl)
theorem dX5_readsNode_174 : decode cX5_readsNode 174 = .ok (.iadd, 1) := dk_96 (dk_at dksX5_readsNode_7 13 rfl rfl)
theorem dX5_readsNode_175 : decode cX5_readsNode 175 = .ok (.iastore, 1) := dk_79 (dk_at dksX5_readsNode_7 14 rfl rfl)
theorem dX5_readsNode_176 : decode cX5_readsNode 176 = .ok (.aload_n 0, 1) := dk_42 (dk_at dksX5_readsNode_7 15 rfl rfl)
theorem dX5_readsNode_177 : decode cX5_readsNode 177 = .ok (.dup, 1) := dk_89 (dk_at dksX5_readsNode_7 16 rfl rfl)
theorem dX5_readsNode_178 : decode cX5_readsNode 178 = .ok (.getfield 151, 3) := dk_180 0 151 (dk_at dksX5_readsNode_7 17 rfl rfl)
theorem dX5_readsNode_181 : decode cX5_readsNode 181 = .ok (.iconst 1, 1) := dk_4 (dk_at dksX5_readsNode_7 20 rfl rfl)
theorem dX5_readsNode_182 : decode cX5_readsNode 182 = .ok (.iadd, 1) := dk_96 (dk_at dksX5_readsNode_7 21 rfl rfl)
theorem dX5_readsNode_183 : decode cX5_readsNode 183 = .ok (.putfield 151, 3) := dk_181 0 151 (dk_at dksX5_readsNode_8 0 rfl rfl)
theorem dX5_readsNode_186 : decode cX5_readsNode 186 = .ok (.iload_n 3, 1) := dk_29 (dk_at dksX5_readsNode_8 3 rfl rfl)
theorem dX5_readsNode_187 : decode cX5_readsNode 187 = .ok (.ifCond .le 25, 3) := dk_158 0 25 (dk_at dksX5_readsNode_8 4 rfl rfl)
theorem dX5_readsNode_190 : decode cX5_readsNode 190 = .ok (.aload_n 0, 1) := dk_42 (dk_at dksX5_readsNode_8 7 rfl rfl)
theorem dX5_readsNode_191 : decode cX5_readsNode 191 = .ok (.getfield 25, 3) := dk_180 0 25 (dk_at dksX5_readsNode_8 8 rfl rfl)
theorem dX5_readsNode_194 : decode cX5_readsNode 194 = .ok (.aload_n 0, 1) := dk_42 (dk_at dksX5_readsNode_8 11 rfl rfl)
theorem dX5_readsNode_195 : decode cX5_readsNode 195 = .ok (.getfield 157, 3) := dk_180 0 157 (dk_at dksX5_readsNode_8 12 rfl rfl)
theorem dX5_readsNode_198 : decode cX5_readsNode 198 = .ok (.iload_n 3, 1) := dk_29 (dk_at dksX5_readsNode_8 15 rfl rfl)
theorem dX5_readsNode_199 : decode cX5_readsNode 199 = .ok (.iastore, 1) := dk_79 (dk_at dksX5_readsNode_8 16 rfl rfl)
theorem dX5_readsNode_200 : decode cX5_readsNode 200 = .ok (.aload_n 0, 1) := dk_42 (dk_at dksX5_readsNode_8 17 rfl rfl)
theorem dX5_readsNode_201 : decode cX5_readsNode 201 = .ok (.dup, 1) := dk_89 (dk_at dksX5_readsNode_8 18 rfl rfl)
theorem dX5_readsNode_202 : decode cX5_readsNode 202 = .ok (.getfield 157, 3) := dk_180 0 157 (dk_at dksX5_readsNode_8 19 rfl rfl)
theorem dX5_readsNode_205 : decode cX5_readsNode 205 = .ok (.iconst 1, 1) := dk_4 (dk_at dksX5_readsNode_8 22 rfl rfl)
theorem dX5_readsNode_206 : decode cX5_readsNode 206 = .ok (.iadd, 1) := dk_96 (dk_at dksX5_readsNode_8 23 rfl rfl)
theorem dX5_readsNode_207 : decode cX5_readsNode 207 = .ok (.putfield 157, 3) := dk_181 0 157 (dk_at dksX5_readsNode_9 0 rfl rfl)
theorem dX5_readsNode_210 : decode cX5_readsNode 210 = .ok (.iconst 1, 1) := dk_4 (dk_at dksX5_readsNode_9 3 rfl rfl)
theorem dX5_readsNode_211 : decode cX5_readsNode 211 = .ok (.ireturn, 1) := dk_172 (dk_at dksX5_readsNode_9 4 rfl rfl)
theorem dX5_readsNode_212 : decode cX5_readsNode 212 = .ok (.iload_n 2, 1) := dk_28 (dk_at dksX5_readsNode_9 5 rfl rfl)
theorem dX5_readsNode_213 : decode cX5_readsNode 213 = .ok (.invokestatic 111, 3) := dk_184 0 111 (dk_at dksX5_readsNode_9 6 rfl rfl)
theorem dX5_readsNode_216 : decode cX5_readsNode 216 = .ok (.iconst 2, 1) := dk_5 (dk_at dksX5_readsNode_9 9 rfl rfl)
theorem dX5_readsNode_217 : decode cX5_readsNode 217 = .ok (.if_icmp .le 28, 3) := dk_164 0 28 (dk_at dksX5_readsNode_9 10 rfl rfl)
theorem dX5_readsNode_220 : decode cX5_readsNode 220 = .ok (.aload_n 0, 1) := dk_42 (dk_at dksX5_readsNode_9 13 rfl rfl)
theorem dX5_readsNode_221 : decode cX5_readsNode 221 = .ok (.aload_n 0, 1) := dk_42 (dk_at dksX5_readsNode_9 14 rfl rfl)
theorem dX5_readsNode_222 : decode cX5_readsNode 222 = .ok (.getfield 139, 3) := dk_180 0 139 (dk_at dksX5_readsNode_9 15 rfl rfl)
theorem dX5_readsNode_225 : decode cX5_readsNode 225 = .ok (.invokevirtual 142, 3) := dk_182 0 142 (dk_at dksX5_readsNode_9 18 rfl rfl)
theorem dX5_readsNode_228 : decode cX5_readsNode 228 = .ok (.bipush 41, 2) := dk_16 41 (dk_at dksX5_readsNode_9 21 rfl rfl)
theorem dX5_readsNode_230 : decode cX5_readsNode 230 = .ok (.if_icmp .eq 5, 3) := dk_159 0 5 (dk_at dksX5_readsNode_10 0 rfl rfl)
theorem dX5_readsNode_233 : decode cX5_readsNode 233 = .ok (.iconst 0, 1) := dk_3 (dk_at dksX5_readsNode_10 3 rfl rfl)
theorem dX5_readsNode_234 : decode cX5_readsNode 234 = .ok (.ireturn, 1) := dk_172 (dk_at dksX5_readsNode_10 4 rfl rfl)
theorem dX5_readsNode_235 : decode cX5_readsNode 235 = .ok (.aload_n 0, 1) := dk_42 (dk_at dksX5_readsNode_10 5 rfl rfl)
theorem dX5_readsNode_236 : decode cX5_readsNode 236 = .ok (.dup, 1) := dk_89 (dk_at dksX5_readsNode_10 6 rfl rfl)
theorem dX5_readsNode_237 : decode cX5_readsNode 237 = .ok (.getfield 139, 3) := dk_180 0 139 (dk_at dksX5_readsNode_10 7 rfl rfl)
theorem dX5_readsNode_240 : decode cX5_readsNode 240 = .ok (.iconst 1, 1) := dk_4 (dk_at dksX5_readsNode_10 10 rfl rfl)
theorem dX5_readsNode_241 : decode cX5_readsNode 241 = .ok (.iadd, 1) := dk_96 (dk_at dksX5_readsNode_10 11 rfl rfl)
theorem dX5_readsNode_242 : decode cX5_readsNode 242 = .ok (.putfield 139, 3) := dk_181 0 139 (dk_at dksX5_readsNode_10 12 rfl rfl)
theorem dX5_readsNode_245 : decode cX5_readsNode 245 = .ok (.aload_n 0, 1) := dk_42 (dk_at dksX5_readsNode_10 15 rfl rfl)
theorem dX5_readsNode_246 : decode cX5_readsNode 246 = .ok (.invokevirtual 160, 3) := dk_182 0 160 (dk_at dksX5_readsNode_10 16 rfl rfl)
theorem dX5_readsNode_249 : decode cX5_readsNode 249 = .ok (.ireturn, 1) := dk_172 (dk_at dksX5_readsNode_10 19 rfl rfl)
abbrev cX5_here : ByteArray := prog_10_method_34_code
def yX5_here : MethodName := ⟨RX5, "here", "(I)I"⟩
def dkwX5_here_0 : List UInt8 := [27, 42, 180, 0, 119, 162, 0, 12, 42, 180, 0, 19, 27, 46, 167, 0, 4, 2, 172]
abbrev dktX5_here_0 : List UInt8 := dkwX5_here_0 ++ []
theorem dksX5_here_0 : cX5_here.data.toList.drop 0 = dktX5_here_0 := by decide +kernel
theorem dX5_here_0 : decode cX5_here 0 = .ok (.iload_n 1, 1) := dk_27 (dk_at dksX5_here_0 0 rfl rfl)
theorem dX5_here_1 : decode cX5_here 1 = .ok (.aload_n 0, 1) := dk_42 (dk_at dksX5_here_0 1 rfl rfl)
theorem dX5_here_2 : decode cX5_here 2 = .ok (.getfield 119, 3) := dk_180 0 119 (dk_at dksX5_here_0 2 rfl rfl)
theorem dX5_here_5 : decode cX5_here 5 = .ok (.if_icmp .ge 12, 3) := dk_162 0 12 (dk_at dksX5_here_0 5 rfl rfl)
theorem dX5_here_8 : decode cX5_here 8 = .ok (.aload_n 0, 1) := dk_42 (dk_at dksX5_here_0 8 rfl rfl)
theorem dX5_here_9 : decode cX5_here 9 = .ok (.getfield 19, 3) := dk_180 0 19 (dk_at dksX5_here_0 9 rfl rfl)
theorem dX5_here_12 : decode cX5_here 12 = .ok (.iload_n 1, 1) := dk_27 (dk_at dksX5_here_0 12 rfl rfl)
theorem dX5_here_13 : decode cX5_here 13 = .ok (.iaload, 1) := dk_46 (dk_at dksX5_here_0 13 rfl rfl)
theorem dX5_here_14 : decode cX5_here 14 = .ok (.goto 4, 3) := dk_167 0 4 (dk_at dksX5_here_0 14 rfl rfl)
theorem dX5_here_17 : decode cX5_here 17 = .ok (.iconst (-1), 1) := dk_2 (dk_at dksX5_here_0 17 rfl rfl)
theorem dX5_here_18 : decode cX5_here 18 = .ok (.ireturn, 1) := dk_172 (dk_at dksX5_here_0 18 rfl rfl)
abbrev cX5_isDigit : ByteArray := prog_10_method_35_code
def yX5_isDigit : MethodName := ⟨RX5, "isDigit", "(I)Z"⟩
def dkwX5_isDigit_0 : List UInt8 := [26, 133, 20, 0, 122, 20, 0, 124, 184, 0, 55, 172]
abbrev dktX5_isDigit_0 : List UInt8 := dkwX5_isDigit_0 ++ []
theorem dksX5_isDigit_0 : cX5_isDigit.data.toList.drop 0 = dktX5_isDigit_0 := by decide +kernel
theorem dX5_isDigit_0 : decode cX5_isDigit 0 = .ok (.iload_n 0, 1) := dk_26 (dk_at dksX5_isDigit_0 0 rfl rfl)
theorem dX5_isDigit_1 : decode cX5_isDigit 1 = .ok (.i2l, 1) := dk_133 (dk_at dksX5_isDigit_0 1 rfl rfl)
theorem dX5_isDigit_2 : decode cX5_isDigit 2 = .ok (.ldc2_w 122, 3) := dk_20 0 122 (dk_at dksX5_isDigit_0 2 rfl rfl)
theorem dX5_isDigit_5 : decode cX5_isDigit 5 = .ok (.ldc2_w 124, 3) := dk_20 0 124 (dk_at dksX5_isDigit_0 5 rfl rfl)
theorem dX5_isDigit_8 : decode cX5_isDigit 8 = .ok (.invokestatic 55, 3) := dk_184 0 55 (dk_at dksX5_isDigit_0 8 rfl rfl)
theorem dX5_isDigit_11 : decode cX5_isDigit 11 = .ok (.ireturn, 1) := dk_172 (dk_at dksX5_isDigit_0 11 rfl rfl)
abbrev cX5_node : ByteArray := prog_10_method_30_code
def yX5_node : MethodName := ⟨RX5, "node", "(III)I"⟩
def dkwX5_node_0 : List UInt8 := [17, 39, 16, 26, 104, 16, 10, 27, 104, 96, 28, 96, 172]
abbrev dktX5_node_0 : List UInt8 := dkwX5_node_0 ++ []
theorem dksX5_node_0 : cX5_node.data.toList.drop 0 = dktX5_node_0 := by decide +kernel
theorem dX5_node_0 : decode cX5_node 0 = .ok (.sipush 10000, 3) := dk_17 39 16 (dk_at dksX5_node_0 0 rfl rfl)
theorem dX5_node_3 : decode cX5_node 3 = .ok (.iload_n 0, 1) := dk_26 (dk_at dksX5_node_0 3 rfl rfl)
theorem dX5_node_4 : decode cX5_node 4 = .ok (.imul, 1) := dk_104 (dk_at dksX5_node_0 4 rfl rfl)
theorem dX5_node_5 : decode cX5_node 5 = .ok (.bipush 10, 2) := dk_16 10 (dk_at dksX5_node_0 5 rfl rfl)
theorem dX5_node_7 : decode cX5_node 7 = .ok (.iload_n 1, 1) := dk_27 (dk_at dksX5_node_0 7 rfl rfl)
theorem dX5_node_8 : decode cX5_node 8 = .ok (.imul, 1) := dk_104 (dk_at dksX5_node_0 8 rfl rfl)
theorem dX5_node_9 : decode cX5_node 9 = .ok (.iadd, 1) := dk_96 (dk_at dksX5_node_0 9 rfl rfl)
theorem dX5_node_10 : decode cX5_node 10 = .ok (.iload_n 2, 1) := dk_28 (dk_at dksX5_node_0 10 rfl rfl)
theorem dX5_node_11 : decode cX5_node 11 = .ok (.iadd, 1) := dk_96 (dk_at dksX5_node_0 11 rfl rfl)
theorem dX5_node_12 : decode cX5_node 12 = .ok (.ireturn, 1) := dk_172 (dk_at dksX5_node_0 12 rfl rfl)
abbrev cX5_nodeOf : ByteArray := prog_10_method_36_code
def yX5_nodeOf : MethodName := ⟨RX5, "nodeOf", "(I)I"⟩
def dkwX5_nodeOf_4 : List UInt8 := [184, 0, 55, 153, 0, 15, 8, 27, 16, 112, 100, 3, 184, 0, 126, 167, 0, 4, 2, 172]
abbrev dktX5_nodeOf_4 : List UInt8 := dkwX5_nodeOf_4 ++ []
def dkwX5_nodeOf_3 : List UInt8 := [3, 184, 0, 126, 172, 27, 133, 20, 0, 137, 16, 112, 42, 180, 0, 7, 16, 116, 46, 96, 4, 100, 133]
abbrev dktX5_nodeOf_3 : List UInt8 := dkwX5_nodeOf_3 ++ dktX5_nodeOf_4
def dkwX5_nodeOf_2 : List UInt8 := [3, 184, 0, 126, 172, 27, 133, 20, 0, 133, 20, 0, 135, 184, 0, 55, 153, 0, 13, 7, 27, 16, 65, 100]
abbrev dktX5_nodeOf_2 : List UInt8 := dkwX5_nodeOf_2 ++ dktX5_nodeOf_3
def dkwX5_nodeOf_1 : List UInt8 := [3, 184, 0, 126, 172, 27, 133, 20, 0, 129, 20, 0, 131, 184, 0, 55, 153, 0, 13, 6, 27, 16, 97, 100]
abbrev dktX5_nodeOf_1 : List UInt8 := dkwX5_nodeOf_1 ++ dktX5_nodeOf_2
def dkwX5_nodeOf_0 : List UInt8 := [27, 16, 120, 159, 0, 9, 27, 16, 121, 160, 0, 20, 27, 16, 120, 160, 0, 7, 4, 167, 0, 4, 5, 3]
abbrev dktX5_nodeOf_0 : List UInt8 := dkwX5_nodeOf_0 ++ dktX5_nodeOf_1
theorem dksX5_nodeOf_0 : cX5_nodeOf.data.toList.drop 0 = dktX5_nodeOf_0 := by decide +kernel
theorem dksX5_nodeOf_1 : cX5_nodeOf.data.toList.drop 24 = dktX5_nodeOf_1 := dk_seg dksX5_nodeOf_0 24 rfl rfl
theorem dksX5_nodeOf_2 : cX5_nodeOf.data.toList.drop 48 = dktX5_nodeOf_2 := dk_seg dksX5_nodeOf_1 24 rfl rfl
theorem dksX5_nodeOf_3 : cX5_nodeOf.data.toList.drop 72 = dktX5_nodeOf_3 := dk_seg dksX5_nodeOf_2 24 rfl rfl
theorem dksX5_nodeOf_4 : cX5_nodeOf.data.toList.drop 95 = dktX5_nodeOf_4 := dk_seg dksX5_nodeOf_3 23 rfl rfl
theorem dX5_nodeOf_0 : decode cX5_nodeOf 0 = .ok (.iload_n 1, 1) := dk_27 (dk_at dksX5_nodeOf_0 0 rfl rfl)
theorem dX5_nodeOf_1 : decode cX5_nodeOf 1 = .ok (.bipush 120, 2) := dk_16 120 (dk_at dksX5_nodeOf_0 1 rfl rfl)
theorem dX5_nodeOf_3 : decode cX5_nodeOf 3 = .ok (.if_icmp .eq 9, 3) := dk_159 0 9 (dk_at dksX5_nodeOf_0 3 rfl rfl)
theorem dX5_nodeOf_6 : decode cX5_nodeOf 6 = .ok (.iload_n 1, 1) := dk_27 (dk_at dksX5_nodeOf_0 6 rfl rfl)
theorem dX5_nodeOf_7 : decode cX5_nodeOf 7 = .ok (.bipush 121, 2) := dk_16 121 (dk_at dksX5_nodeOf_0 7 rfl rfl)
theorem dX5_nodeOf_9 : decode cX5_nodeOf 9 = .ok (.if_icmp .ne 20, 3) := dk_160 0 20 (dk_at dksX5_nodeOf_0 9 rfl rfl)
theorem dX5_nodeOf_12 : decode cX5_nodeOf 12 = .ok (.iload_n 1, 1) := dk_27 (dk_at dksX5_nodeOf_0 12 rfl rfl)
theorem dX5_nodeOf_13 : decode cX5_nodeOf 13 = .ok (.bipush 120, 2) := dk_16 120 (dk_at dksX5_nodeOf_0 13 rfl rfl)
theorem dX5_nodeOf_15 : decode cX5_nodeOf 15 = .ok (.if_icmp .ne 7, 3) := dk_160 0 7 (dk_at dksX5_nodeOf_0 15 rfl rfl)
theorem dX5_nodeOf_18 : decode cX5_nodeOf 18 = .ok (.iconst 1, 1) := dk_4 (dk_at dksX5_nodeOf_0 18 rfl rfl)
theorem dX5_nodeOf_19 : decode cX5_nodeOf 19 = .ok (.goto 4, 3) := dk_167 0 4 (dk_at dksX5_nodeOf_0 19 rfl rfl)
theorem dX5_nodeOf_22 : decode cX5_nodeOf 22 = .ok (.iconst 2, 1) := dk_5 (dk_at dksX5_nodeOf_0 22 rfl rfl)
theorem dX5_nodeOf_23 : decode cX5_nodeOf 23 = .ok (.iconst 0, 1) := dk_3 (dk_at dksX5_nodeOf_0 23 rfl rfl)
theorem dX5_nodeOf_24 : decode cX5_nodeOf 24 = .ok (.iconst 0, 1) := dk_3 (dk_at dksX5_nodeOf_1 0 rfl rfl)
theorem dX5_nodeOf_25 : decode cX5_nodeOf 25 = .ok (.invokestatic 126, 3) := dk_184 0 126 (dk_at dksX5_nodeOf_1 1 rfl rfl)
theorem dX5_nodeOf_28 : decode cX5_nodeOf 28 = .ok (.ireturn, 1) := dk_172 (dk_at dksX5_nodeOf_1 4 rfl rfl)
theorem dX5_nodeOf_29 : decode cX5_nodeOf 29 = .ok (.iload_n 1, 1) := dk_27 (dk_at dksX5_nodeOf_1 5 rfl rfl)
theorem dX5_nodeOf_30 : decode cX5_nodeOf 30 = .ok (.i2l, 1) := dk_133 (dk_at dksX5_nodeOf_1 6 rfl rfl)
theorem dX5_nodeOf_31 : decode cX5_nodeOf 31 = .ok (.ldc2_w 129, 3) := dk_20 0 129 (dk_at dksX5_nodeOf_1 7 rfl rfl)
theorem dX5_nodeOf_34 : decode cX5_nodeOf 34 = .ok (.ldc2_w 131, 3) := dk_20 0 131 (dk_at dksX5_nodeOf_1 10 rfl rfl)
theorem dX5_nodeOf_37 : decode cX5_nodeOf 37 = .ok (.invokestatic 55, 3) := dk_184 0 55 (dk_at dksX5_nodeOf_1 13 rfl rfl)
theorem dX5_nodeOf_40 : decode cX5_nodeOf 40 = .ok (.ifCond .eq 13, 3) := dk_153 0 13 (dk_at dksX5_nodeOf_1 16 rfl rfl)
theorem dX5_nodeOf_43 : decode cX5_nodeOf 43 = .ok (.iconst 3, 1) := dk_6 (dk_at dksX5_nodeOf_1 19 rfl rfl)
theorem dX5_nodeOf_44 : decode cX5_nodeOf 44 = .ok (.iload_n 1, 1) := dk_27 (dk_at dksX5_nodeOf_1 20 rfl rfl)
theorem dX5_nodeOf_45 : decode cX5_nodeOf 45 = .ok (.bipush 97, 2) := dk_16 97 (dk_at dksX5_nodeOf_1 21 rfl rfl)
theorem dX5_nodeOf_47 : decode cX5_nodeOf 47 = .ok (.isub, 1) := dk_100 (dk_at dksX5_nodeOf_1 23 rfl rfl)
theorem dX5_nodeOf_48 : decode cX5_nodeOf 48 = .ok (.iconst 0, 1) := dk_3 (dk_at dksX5_nodeOf_2 0 rfl rfl)
theorem dX5_nodeOf_49 : decode cX5_nodeOf 49 = .ok (.invokestatic 126, 3) := dk_184 0 126 (dk_at dksX5_nodeOf_2 1 rfl rfl)
theorem dX5_nodeOf_52 : decode cX5_nodeOf 52 = .ok (.ireturn, 1) := dk_172 (dk_at dksX5_nodeOf_2 4 rfl rfl)
theorem dX5_nodeOf_53 : decode cX5_nodeOf 53 = .ok (.iload_n 1, 1) := dk_27 (dk_at dksX5_nodeOf_2 5 rfl rfl)
theorem dX5_nodeOf_54 : decode cX5_nodeOf 54 = .ok (.i2l, 1) := dk_133 (dk_at dksX5_nodeOf_2 6 rfl rfl)
theorem dX5_nodeOf_55 : decode cX5_nodeOf 55 = .ok (.ldc2_w 133, 3) := dk_20 0 133 (dk_at dksX5_nodeOf_2 7 rfl rfl)
theorem dX5_nodeOf_58 : decode cX5_nodeOf 58 = .ok (.ldc2_w 135, 3) := dk_20 0 135 (dk_at dksX5_nodeOf_2 10 rfl rfl)
theorem dX5_nodeOf_61 : decode cX5_nodeOf 61 = .ok (.invokestatic 55, 3) := dk_184 0 55 (dk_at dksX5_nodeOf_2 13 rfl rfl)
theorem dX5_nodeOf_64 : decode cX5_nodeOf 64 = .ok (.ifCond .eq 13, 3) := dk_153 0 13 (dk_at dksX5_nodeOf_2 16 rfl rfl)
theorem dX5_nodeOf_67 : decode cX5_nodeOf 67 = .ok (.iconst 4, 1) := dk_7 (dk_at dksX5_nodeOf_2 19 rfl rfl)
theorem dX5_nodeOf_68 : decode cX5_nodeOf 68 = .ok (.iload_n 1, 1) := dk_27 (dk_at dksX5_nodeOf_2 20 rfl rfl)
theorem dX5_nodeOf_69 : decode cX5_nodeOf 69 = .ok (.bipush 65, 2) := dk_16 65 (dk_at dksX5_nodeOf_2 21 rfl rfl)
theorem dX5_nodeOf_71 : decode cX5_nodeOf 71 = .ok (.isub, 1) := dk_100 (dk_at dksX5_nodeOf_2 23 rfl rfl)
theorem dX5_nodeOf_72 : decode cX5_nodeOf 72 = .ok (.iconst 0, 1) := dk_3 (dk_at dksX5_nodeOf_3 0 rfl rfl)
theorem dX5_nodeOf_73 : decode cX5_nodeOf 73 = .ok (.invokestatic 126, 3) := dk_184 0 126 (dk_at dksX5_nodeOf_3 1 rfl rfl)
theorem dX5_nodeOf_76 : decode cX5_nodeOf 76 = .ok (.ireturn, 1) := dk_172 (dk_at dksX5_nodeOf_3 4 rfl rfl)
theorem dX5_nodeOf_77 : decode cX5_nodeOf 77 = .ok (.iload_n 1, 1) := dk_27 (dk_at dksX5_nodeOf_3 5 rfl rfl)
theorem dX5_nodeOf_78 : decode cX5_nodeOf 78 = .ok (.i2l, 1) := dk_133 (dk_at dksX5_nodeOf_3 6 rfl rfl)
theorem dX5_nodeOf_79 : decode cX5_nodeOf 79 = .ok (.ldc2_w 137, 3) := dk_20 0 137 (dk_at dksX5_nodeOf_3 7 rfl rfl)
theorem dX5_nodeOf_82 : decode cX5_nodeOf 82 = .ok (.bipush 112, 2) := dk_16 112 (dk_at dksX5_nodeOf_3 10 rfl rfl)
theorem dX5_nodeOf_84 : decode cX5_nodeOf 84 = .ok (.aload_n 0, 1) := dk_42 (dk_at dksX5_nodeOf_3 12 rfl rfl)
theorem dX5_nodeOf_85 : decode cX5_nodeOf 85 = .ok (.getfield 7, 3) := dk_180 0 7 (dk_at dksX5_nodeOf_3 13 rfl rfl)
theorem dX5_nodeOf_88 : decode cX5_nodeOf 88 = .ok (.bipush 116, 2) := dk_16 116 (dk_at dksX5_nodeOf_3 16 rfl rfl)
theorem dX5_nodeOf_90 : decode cX5_nodeOf 90 = .ok (.iaload, 1) := dk_46 (dk_at dksX5_nodeOf_3 18 rfl rfl)
theorem dX5_nodeOf_91 : decode cX5_nodeOf 91 = .ok (.iadd, 1) := dk_96 (dk_at dksX5_nodeOf_3 19 rfl rfl)
theorem dX5_nodeOf_92 : decode cX5_nodeOf 92 = .ok (.iconst 1, 1) := dk_4 (dk_at dksX5_nodeOf_3 20 rfl rfl)
theorem dX5_nodeOf_93 : decode cX5_nodeOf 93 = .ok (.isub, 1) := dk_100 (dk_at dksX5_nodeOf_3 21 rfl rfl)
theorem dX5_nodeOf_94 : decode cX5_nodeOf 94 = .ok (.i2l, 1) := dk_133 (dk_at dksX5_nodeOf_3 22 rfl rfl)
theorem dX5_nodeOf_95 : decode cX5_nodeOf 95 = .ok (.invokestatic 55, 3) := dk_184 0 55 (dk_at dksX5_nodeOf_4 0 rfl rfl)
theorem dX5_nodeOf_98 : decode cX5_nodeOf 98 = .ok (.ifCond .eq 15, 3) := dk_153 0 15 (dk_at dksX5_nodeOf_4 3 rfl rfl)
theorem dX5_nodeOf_101 : decode cX5_nodeOf 101 = .ok (.iconst 5, 1) := dk_8 (dk_at dksX5_nodeOf_4 6 rfl rfl)
theorem dX5_nodeOf_102 : decode cX5_nodeOf 102 = .ok (.iload_n 1, 1) := dk_27 (dk_at dksX5_nodeOf_4 7 rfl rfl)
theorem dX5_nodeOf_103 : decode cX5_nodeOf 103 = .ok (.bipush 112, 2) := dk_16 112 (dk_at dksX5_nodeOf_4 8 rfl rfl)
theorem dX5_nodeOf_105 : decode cX5_nodeOf 105 = .ok (.isub, 1) := dk_100 (dk_at dksX5_nodeOf_4 10 rfl rfl)
theorem dX5_nodeOf_106 : decode cX5_nodeOf 106 = .ok (.iconst 0, 1) := dk_3 (dk_at dksX5_nodeOf_4 11 rfl rfl)
theorem dX5_nodeOf_107 : decode cX5_nodeOf 107 = .ok (.invokestatic 126, 3) := dk_184 0 126 (dk_at dksX5_nodeOf_4 12 rfl rfl)
theorem dX5_nodeOf_110 : decode cX5_nodeOf 110 = .ok (.goto 4, 3) := dk_167 0 4 (dk_at dksX5_nodeOf_4 15 rfl rfl)
theorem dX5_nodeOf_113 : decode cX5_nodeOf 113 = .ok (.iconst (-1), 1) := dk_2 (dk_at dksX5_nodeOf_4 18 rfl rfl)
theorem dX5_nodeOf_114 : decode cX5_nodeOf 114 = .ok (.ireturn, 1) := dk_172 (dk_at dksX5_nodeOf_4 19 rfl rfl)
abbrev cX5_kind : ByteArray := prog_10_method_27_code
def yX5_kind : MethodName := ⟨RX5, "kind", "(I)I"⟩
def dkwX5_kind_0 : List UInt8 := [26, 17, 39, 16, 108, 172]
abbrev dktX5_kind_0 : List UInt8 := dkwX5_kind_0 ++ []
theorem dksX5_kind_0 : cX5_kind.data.toList.drop 0 = dktX5_kind_0 := by decide +kernel
theorem dX5_kind_0 : decode cX5_kind 0 = .ok (.iload_n 0, 1) := dk_26 (dk_at dksX5_kind_0 0 rfl rfl)
theorem dX5_kind_1 : decode cX5_kind 1 = .ok (.sipush 10000, 3) := dk_17 39 16 (dk_at dksX5_kind_0 1 rfl rfl)
theorem dX5_kind_4 : decode cX5_kind 4 = .ok (.idiv, 1) := dk_108 (dk_at dksX5_kind_0 4 rfl rfl)
theorem dX5_kind_5 : decode cX5_kind 5 = .ok (.ireturn, 1) := dk_172 (dk_at dksX5_kind_0 5 rfl rfl)
abbrev cX5_function : ByteArray := prog_10_method_31_code
def yX5_function : MethodName := ⟨RX5, "function", "(I)I"⟩
def dkwX5_function_2 : List UInt8 := [184, 0, 114, 104, 96, 172]
abbrev dktX5_function_2 : List UInt8 := dkwX5_function_2 ++ []
def dkwX5_function_1 : List UInt8 := [7, 160, 0, 16, 16, 42, 16, 7, 27, 184, 0, 114, 104, 96, 167, 0, 13, 16, 84, 16, 8, 27]
abbrev dktX5_function_1 : List UInt8 := dkwX5_function_1 ++ dktX5_function_2
def dkwX5_function_0 : List UInt8 := [27, 184, 0, 111, 6, 160, 0, 15, 3, 16, 7, 27, 184, 0, 114, 104, 96, 167, 0, 34, 27, 184, 0, 111]
abbrev dktX5_function_0 : List UInt8 := dkwX5_function_0 ++ dktX5_function_1
theorem dksX5_function_0 : cX5_function.data.toList.drop 0 = dktX5_function_0 := by decide +kernel
theorem dksX5_function_1 : cX5_function.data.toList.drop 24 = dktX5_function_1 := dk_seg dksX5_function_0 24 rfl rfl
theorem dksX5_function_2 : cX5_function.data.toList.drop 46 = dktX5_function_2 := dk_seg dksX5_function_1 22 rfl rfl
theorem dX5_function_0 : decode cX5_function 0 = .ok (.iload_n 1, 1) := dk_27 (dk_at dksX5_function_0 0 rfl rfl)
theorem dX5_function_1 : decode cX5_function 1 = .ok (.invokestatic 111, 3) := dk_184 0 111 (dk_at dksX5_function_0 1 rfl rfl)
theorem dX5_function_4 : decode cX5_function 4 = .ok (.iconst 3, 1) := dk_6 (dk_at dksX5_function_0 4 rfl rfl)
theorem dX5_function_5 : decode cX5_function 5 = .ok (.if_icmp .ne 15, 3) := dk_160 0 15 (dk_at dksX5_function_0 5 rfl rfl)
theorem dX5_function_8 : decode cX5_function 8 = .ok (.iconst 0, 1) := dk_3 (dk_at dksX5_function_0 8 rfl rfl)
theorem dX5_function_9 : decode cX5_function 9 = .ok (.bipush 7, 2) := dk_16 7 (dk_at dksX5_function_0 9 rfl rfl)
theorem dX5_function_11 : decode cX5_function 11 = .ok (.iload_n 1, 1) := dk_27 (dk_at dksX5_function_0 11 rfl rfl)
theorem dX5_function_12 : decode cX5_function 12 = .ok (.invokestatic 114, 3) := dk_184 0 114 (dk_at dksX5_function_0 12 rfl rfl)
theorem dX5_function_15 : decode cX5_function 15 = .ok (.imul, 1) := dk_104 (dk_at dksX5_function_0 15 rfl rfl)
theorem dX5_function_16 : decode cX5_function 16 = .ok (.iadd, 1) := dk_96 (dk_at dksX5_function_0 16 rfl rfl)
theorem dX5_function_17 : decode cX5_function 17 = .ok (.goto 34, 3) := dk_167 0 34 (dk_at dksX5_function_0 17 rfl rfl)
theorem dX5_function_20 : decode cX5_function 20 = .ok (.iload_n 1, 1) := dk_27 (dk_at dksX5_function_0 20 rfl rfl)
theorem dX5_function_21 : decode cX5_function 21 = .ok (.invokestatic 111, 3) := dk_184 0 111 (dk_at dksX5_function_0 21 rfl rfl)
theorem dX5_function_24 : decode cX5_function 24 = .ok (.iconst 4, 1) := dk_7 (dk_at dksX5_function_1 0 rfl rfl)
theorem dX5_function_25 : decode cX5_function 25 = .ok (.if_icmp .ne 16, 3) := dk_160 0 16 (dk_at dksX5_function_1 1 rfl rfl)
theorem dX5_function_28 : decode cX5_function 28 = .ok (.bipush 42, 2) := dk_16 42 (dk_at dksX5_function_1 4 rfl rfl)
theorem dX5_function_30 : decode cX5_function 30 = .ok (.bipush 7, 2) := dk_16 7 (dk_at dksX5_function_1 6 rfl rfl)
theorem dX5_function_32 : decode cX5_function 32 = .ok (.iload_n 1, 1) := dk_27 (dk_at dksX5_function_1 8 rfl rfl)
theorem dX5_function_33 : decode cX5_function 33 = .ok (.invokestatic 114, 3) := dk_184 0 114 (dk_at dksX5_function_1 9 rfl rfl)
theorem dX5_function_36 : decode cX5_function 36 = .ok (.imul, 1) := dk_104 (dk_at dksX5_function_1 12 rfl rfl)
theorem dX5_function_37 : decode cX5_function 37 = .ok (.iadd, 1) := dk_96 (dk_at dksX5_function_1 13 rfl rfl)
theorem dX5_function_38 : decode cX5_function 38 = .ok (.goto 13, 3) := dk_167 0 13 (dk_at dksX5_function_1 14 rfl rfl)
theorem dX5_function_41 : decode cX5_function 41 = .ok (.bipush 84, 2) := dk_16 84 (dk_at dksX5_function_1 17 rfl rfl)
theorem dX5_function_43 : decode cX5_function 43 = .ok (.bipush 8, 2) := dk_16 8 (dk_at dksX5_function_1 19 rfl rfl)
theorem dX5_function_45 : decode cX5_function 45 = .ok (.iload_n 1, 1) := dk_27 (dk_at dksX5_function_1 21 rfl rfl)
theorem dX5_function_46 : decode cX5_function 46 = .ok (.invokestatic 114, 3) := dk_184 0 114 (dk_at dksX5_function_2 0 rfl rfl)
theorem dX5_function_49 : decode cX5_function 49 = .ok (.imul, 1) := dk_104 (dk_at dksX5_function_2 3 rfl rfl)
theorem dX5_function_50 : decode cX5_function 50 = .ok (.iadd, 1) := dk_96 (dk_at dksX5_function_2 4 rfl rfl)
theorem dX5_function_51 : decode cX5_function 51 = .ok (.ireturn, 1) := dk_172 (dk_at dksX5_function_2 5 rfl rfl)
abbrev cX5_which : ByteArray := prog_10_method_28_code
def yX5_which : MethodName := ⟨RX5, "which", "(I)I"⟩
def dkwX5_which_0 : List UInt8 := [26, 16, 10, 108, 17, 3, 232, 112, 172]
abbrev dktX5_which_0 : List UInt8 := dkwX5_which_0 ++ []
theorem dksX5_which_0 : cX5_which.data.toList.drop 0 = dktX5_which_0 := by decide +kernel
theorem dX5_which_0 : decode cX5_which 0 = .ok (.iload_n 0, 1) := dk_26 (dk_at dksX5_which_0 0 rfl rfl)
theorem dX5_which_1 : decode cX5_which 1 = .ok (.bipush 10, 2) := dk_16 10 (dk_at dksX5_which_0 1 rfl rfl)
theorem dX5_which_3 : decode cX5_which 3 = .ok (.idiv, 1) := dk_108 (dk_at dksX5_which_0 3 rfl rfl)
theorem dX5_which_4 : decode cX5_which 4 = .ok (.sipush 1000, 3) := dk_17 3 232 (dk_at dksX5_which_0 4 rfl rfl)
theorem dX5_which_7 : decode cX5_which 7 = .ok (.irem, 1) := dk_112 (dk_at dksX5_which_0 7 rfl rfl)
theorem dX5_which_8 : decode cX5_which 8 = .ok (.ireturn, 1) := dk_172 (dk_at dksX5_which_0 8 rfl rfl)
abbrev cX5_closes : ByteArray := prog_10_method_38_code
def yX5_closes : MethodName := ⟨RX5, "closes", "()Z"⟩
def dkwX5_closes_4 : List UInt8 := [167, 255, 164, 4, 172]
abbrev dktX5_closes_4 : List UInt8 := dkwX5_closes_4 ++ []
def dkwX5_closes_3 : List UInt8 := [42, 180, 0, 157, 4, 100, 46, 158, 0, 5, 4, 172, 42, 89, 180, 0, 157, 4, 100, 181, 0, 157]
abbrev dktX5_closes_3 : List UInt8 := dkwX5_closes_3 ++ dktX5_closes_4
def dkwX5_closes_2 : List UInt8 := [167, 0, 5, 16, 41, 159, 0, 5, 3, 172, 42, 89, 180, 0, 139, 4, 96, 181, 0, 139, 42, 180, 0, 25]
abbrev dktX5_closes_2 : List UInt8 := dkwX5_closes_2 ++ dktX5_closes_3
def dkwX5_closes_1 : List UInt8 := [180, 0, 139, 182, 0, 142, 42, 180, 0, 25, 42, 180, 0, 157, 4, 100, 46, 158, 0, 8, 16, 44]
abbrev dktX5_closes_1 : List UInt8 := dkwX5_closes_1 ++ dktX5_closes_2
def dkwX5_closes_0 : List UInt8 := [42, 180, 0, 157, 158, 0, 91, 42, 180, 0, 25, 42, 180, 0, 157, 4, 100, 92, 46, 4, 100, 79, 42, 42]
abbrev dktX5_closes_0 : List UInt8 := dkwX5_closes_0 ++ dktX5_closes_1
theorem dksX5_closes_0 : cX5_closes.data.toList.drop 0 = dktX5_closes_0 := by decide +kernel
theorem dksX5_closes_1 : cX5_closes.data.toList.drop 24 = dktX5_closes_1 := dk_seg dksX5_closes_0 24 rfl rfl
theorem dksX5_closes_2 : cX5_closes.data.toList.drop 46 = dktX5_closes_2 := dk_seg dksX5_closes_1 22 rfl rfl
theorem dksX5_closes_3 : cX5_closes.data.toList.drop 70 = dktX5_closes_3 := dk_seg dksX5_closes_2 24 rfl rfl
theorem dksX5_closes_4 : cX5_closes.data.toList.drop 92 = dktX5_closes_4 := dk_seg dksX5_closes_3 22 rfl rfl
theorem dX5_closes_0 : decode cX5_closes 0 = .ok (.aload_n 0, 1) := dk_42 (dk_at dksX5_closes_0 0 rfl rfl)
theorem dX5_closes_1 : decode cX5_closes 1 = .ok (.getfield 157, 3) := dk_180 0 157 (dk_at dksX5_closes_0 1 rfl rfl)
theorem dX5_closes_4 : decode cX5_closes 4 = .ok (.ifCond .le 91, 3) := dk_158 0 91 (dk_at dksX5_closes_0 4 rfl rfl)
theorem dX5_closes_7 : decode cX5_closes 7 = .ok (.aload_n 0, 1) := dk_42 (dk_at dksX5_closes_0 7 rfl rfl)
theorem dX5_closes_8 : decode cX5_closes 8 = .ok (.getfield 25, 3) := dk_180 0 25 (dk_at dksX5_closes_0 8 rfl rfl)
theorem dX5_closes_11 : decode cX5_closes 11 = .ok (.aload_n 0, 1) := dk_42 (dk_at dksX5_closes_0 11 rfl rfl)
theorem dX5_closes_12 : decode cX5_closes 12 = .ok (.getfield 157, 3) := dk_180 0 157 (dk_at dksX5_closes_0 12 rfl rfl)
theorem dX5_closes_15 : decode cX5_closes 15 = .ok (.iconst 1, 1) := dk_4 (dk_at dksX5_closes_0 15 rfl rfl)
theorem dX5_closes_16 : decode cX5_closes 16 = .ok (.isub, 1) := dk_100 (dk_at dksX5_closes_0 16 rfl rfl)
theorem dX5_closes_17 : decode cX5_closes 17 = .ok (.dup2, 1) := dk_92 (dk_at dksX5_closes_0 17 rfl rfl)
theorem dX5_closes_18 : decode cX5_closes 18 = .ok (.iaload, 1) := dk_46 (dk_at dksX5_closes_0 18 rfl rfl)
theorem dX5_closes_19 : decode cX5_closes 19 = .ok (.iconst 1, 1) := dk_4 (dk_at dksX5_closes_0 19 rfl rfl)
theorem dX5_closes_20 : decode cX5_closes 20 = .ok (.isub, 1) := dk_100 (dk_at dksX5_closes_0 20 rfl rfl)
theorem dX5_closes_21 : decode cX5_closes 21 = .ok (.iastore, 1) := dk_79 (dk_at dksX5_closes_0 21 rfl rfl)
theorem dX5_closes_22 : decode cX5_closes 22 = .ok (.aload_n 0, 1) := dk_42 (dk_at dksX5_closes_0 22 rfl rfl)
theorem dX5_closes_23 : decode cX5_closes 23 = .ok (.aload_n 0, 1) := dk_42 (dk_at dksX5_closes_0 23 rfl rfl)
theorem dX5_closes_24 : decode cX5_closes 24 = .ok (.getfield 139, 3) := dk_180 0 139 (dk_at dksX5_closes_1 0 rfl rfl)
theorem dX5_closes_27 : decode cX5_closes 27 = .ok (.invokevirtual 142, 3) := dk_182 0 142 (dk_at dksX5_closes_1 3 rfl rfl)
theorem dX5_closes_30 : decode cX5_closes 30 = .ok (.aload_n 0, 1) := dk_42 (dk_at dksX5_closes_1 6 rfl rfl)
theorem dX5_closes_31 : decode cX5_closes 31 = .ok (.getfield 25, 3) := dk_180 0 25 (dk_at dksX5_closes_1 7 rfl rfl)
theorem dX5_closes_34 : decode cX5_closes 34 = .ok (.aload_n 0, 1) := dk_42 (dk_at dksX5_closes_1 10 rfl rfl)
theorem dX5_closes_35 : decode cX5_closes 35 = .ok (.getfield 157, 3) := dk_180 0 157 (dk_at dksX5_closes_1 11 rfl rfl)
theorem dX5_closes_38 : decode cX5_closes 38 = .ok (.iconst 1, 1) := dk_4 (dk_at dksX5_closes_1 14 rfl rfl)
theorem dX5_closes_39 : decode cX5_closes 39 = .ok (.isub, 1) := dk_100 (dk_at dksX5_closes_1 15 rfl rfl)
theorem dX5_closes_40 : decode cX5_closes 40 = .ok (.iaload, 1) := dk_46 (dk_at dksX5_closes_1 16 rfl rfl)
theorem dX5_closes_41 : decode cX5_closes 41 = .ok (.ifCond .le 8, 3) := dk_158 0 8 (dk_at dksX5_closes_1 17 rfl rfl)
theorem dX5_closes_44 : decode cX5_closes 44 = .ok (.bipush 44, 2) := dk_16 44 (dk_at dksX5_closes_1 20 rfl rfl)
theorem dX5_closes_46 : decode cX5_closes 46 = .ok (.goto 5, 3) := dk_167 0 5 (dk_at dksX5_closes_2 0 rfl rfl)
theorem dX5_closes_49 : decode cX5_closes 49 = .ok (.bipush 41, 2) := dk_16 41 (dk_at dksX5_closes_2 3 rfl rfl)
theorem dX5_closes_51 : decode cX5_closes 51 = .ok (.if_icmp .eq 5, 3) := dk_159 0 5 (dk_at dksX5_closes_2 5 rfl rfl)
theorem dX5_closes_54 : decode cX5_closes 54 = .ok (.iconst 0, 1) := dk_3 (dk_at dksX5_closes_2 8 rfl rfl)
theorem dX5_closes_55 : decode cX5_closes 55 = .ok (.ireturn, 1) := dk_172 (dk_at dksX5_closes_2 9 rfl rfl)
theorem dX5_closes_56 : decode cX5_closes 56 = .ok (.aload_n 0, 1) := dk_42 (dk_at dksX5_closes_2 10 rfl rfl)
theorem dX5_closes_57 : decode cX5_closes 57 = .ok (.dup, 1) := dk_89 (dk_at dksX5_closes_2 11 rfl rfl)
theorem dX5_closes_58 : decode cX5_closes 58 = .ok (.getfield 139, 3) := dk_180 0 139 (dk_at dksX5_closes_2 12 rfl rfl)
theorem dX5_closes_61 : decode cX5_closes 61 = .ok (.iconst 1, 1) := dk_4 (dk_at dksX5_closes_2 15 rfl rfl)
theorem dX5_closes_62 : decode cX5_closes 62 = .ok (.iadd, 1) := dk_96 (dk_at dksX5_closes_2 16 rfl rfl)
theorem dX5_closes_63 : decode cX5_closes 63 = .ok (.putfield 139, 3) := dk_181 0 139 (dk_at dksX5_closes_2 17 rfl rfl)
theorem dX5_closes_66 : decode cX5_closes 66 = .ok (.aload_n 0, 1) := dk_42 (dk_at dksX5_closes_2 20 rfl rfl)
theorem dX5_closes_67 : decode cX5_closes 67 = .ok (.getfield 25, 3) := dk_180 0 25 (dk_at dksX5_closes_2 21 rfl rfl)
theorem dX5_closes_70 : decode cX5_closes 70 = .ok (.aload_n 0, 1) := dk_42 (dk_at dksX5_closes_3 0 rfl rfl)
theorem dX5_closes_71 : decode cX5_closes 71 = .ok (.getfield 157, 3) := dk_180 0 157 (dk_at dksX5_closes_3 1 rfl rfl)
theorem dX5_closes_74 : decode cX5_closes 74 = .ok (.iconst 1, 1) := dk_4 (dk_at dksX5_closes_3 4 rfl rfl)
theorem dX5_closes_75 : decode cX5_closes 75 = .ok (.isub, 1) := dk_100 (dk_at dksX5_closes_3 5 rfl rfl)
theorem dX5_closes_76 : decode cX5_closes 76 = .ok (.iaload, 1) := dk_46 (dk_at dksX5_closes_3 6 rfl rfl)
theorem dX5_closes_77 : decode cX5_closes 77 = .ok (.ifCond .le 5, 3) := dk_158 0 5 (dk_at dksX5_closes_3 7 rfl rfl)
theorem dX5_closes_80 : decode cX5_closes 80 = .ok (.iconst 1, 1) := dk_4 (dk_at dksX5_closes_3 10 rfl rfl)
theorem dX5_closes_81 : decode cX5_closes 81 = .ok (.ireturn, 1) := dk_172 (dk_at dksX5_closes_3 11 rfl rfl)
theorem dX5_closes_82 : decode cX5_closes 82 = .ok (.aload_n 0, 1) := dk_42 (dk_at dksX5_closes_3 12 rfl rfl)
theorem dX5_closes_83 : decode cX5_closes 83 = .ok (.dup, 1) := dk_89 (dk_at dksX5_closes_3 13 rfl rfl)
theorem dX5_closes_84 : decode cX5_closes 84 = .ok (.getfield 157, 3) := dk_180 0 157 (dk_at dksX5_closes_3 14 rfl rfl)
theorem dX5_closes_87 : decode cX5_closes 87 = .ok (.iconst 1, 1) := dk_4 (dk_at dksX5_closes_3 17 rfl rfl)
theorem dX5_closes_88 : decode cX5_closes 88 = .ok (.isub, 1) := dk_100 (dk_at dksX5_closes_3 18 rfl rfl)
theorem dX5_closes_89 : decode cX5_closes 89 = .ok (.putfield 157, 3) := dk_181 0 157 (dk_at dksX5_closes_3 19 rfl rfl)
theorem dX5_closes_92 : decode cX5_closes 92 = .ok (.goto (-92), 3) := dk_167 255 164 (dk_at dksX5_closes_4 0 rfl rfl)
theorem dX5_closes_95 : decode cX5_closes 95 = .ok (.iconst 1, 1) := dk_4 (dk_at dksX5_closes_4 3 rfl rfl)
theorem dX5_closes_96 : decode cX5_closes 96 = .ok (.ireturn, 1) := dk_172 (dk_at dksX5_closes_4 4 rfl rfl)
abbrev cX5_migrate : ByteArray := prog_10_method_50_code
def yX5_migrate : MethodName := ⟨RX5, "migrate", "()I"⟩
def dkwX5_migrate_8 : List UInt8 := [167, 255, 229, 42, 180, 0, 7, 17, 0, 148, 42, 180, 0, 173, 79, 27, 172]
abbrev dktX5_migrate_8 : List UInt8 := dkwX5_migrate_8 ++ []
def dkwX5_migrate_7 : List UInt8 := [162, 0, 25, 42, 180, 0, 7, 17, 0, 149, 28, 96, 42, 180, 0, 28, 28, 46, 79, 132, 2, 1]
abbrev dktX5_migrate_7 : List UInt8 := dkwX5_migrate_7 ++ dktX5_migrate_8
def dkwX5_migrate_6 : List UInt8 := [96, 60, 27, 42, 182, 0, 213, 96, 60, 132, 2, 1, 167, 255, 172, 3, 61, 28, 42, 180, 0, 173]
abbrev dktX5_migrate_6 : List UInt8 := dkwX5_migrate_6 ++ dktX5_migrate_7
def dkwX5_migrate_5 : List UInt8 := [29, 184, 0, 167, 79, 42, 89, 180, 0, 207, 4, 96, 181, 0, 207, 167, 0, 18, 27, 42, 29, 182, 0, 210]
abbrev dktX5_migrate_5 : List UInt8 := dkwX5_migrate_5 ++ dktX5_migrate_6
def dkwX5_migrate_4 : List UInt8 := [184, 0, 167, 158, 0, 39, 42, 180, 0, 37, 42, 180, 0, 207, 29, 79, 42, 180, 0, 40, 42, 180, 0, 207]
abbrev dktX5_migrate_4 : List UInt8 := dkwX5_migrate_4 ++ dktX5_migrate_5
def dkwX5_migrate_3 : List UInt8 := [180, 0, 7, 17, 0, 148, 46, 162, 0, 78, 42, 180, 0, 7, 17, 0, 149, 28, 96, 46, 62, 29]
abbrev dktX5_migrate_3 : List UInt8 := dkwX5_migrate_3 ++ dktX5_migrate_4
def dkwX5_migrate_2 : List UInt8 := [3, 181, 0, 170, 42, 180, 0, 31, 3, 3, 79, 42, 3, 181, 0, 207, 3, 60, 3, 61, 28, 42]
abbrev dktX5_migrate_2 : List UInt8 := dkwX5_migrate_2 ++ dktX5_migrate_3
def dkwX5_migrate_1 : List UInt8 := [132, 1, 1, 167, 255, 236, 42, 42, 180, 0, 7, 17, 0, 148, 46, 181, 0, 185, 42, 3, 181, 0, 173, 42]
abbrev dktX5_migrate_1 : List UInt8 := dkwX5_migrate_1 ++ dktX5_migrate_2
def dkwX5_migrate_0 : List UInt8 := [42, 182, 0, 59, 3, 60, 27, 16, 7, 162, 0, 20, 42, 180, 0, 7, 17, 0, 179, 27, 96, 3, 79]
abbrev dktX5_migrate_0 : List UInt8 := dkwX5_migrate_0 ++ dktX5_migrate_1
theorem dksX5_migrate_0 : cX5_migrate.data.toList.drop 0 = dktX5_migrate_0 := by decide +kernel
theorem dksX5_migrate_1 : cX5_migrate.data.toList.drop 23 = dktX5_migrate_1 := dk_seg dksX5_migrate_0 23 rfl rfl
theorem dksX5_migrate_2 : cX5_migrate.data.toList.drop 47 = dktX5_migrate_2 := dk_seg dksX5_migrate_1 24 rfl rfl
theorem dksX5_migrate_3 : cX5_migrate.data.toList.drop 69 = dktX5_migrate_3 := dk_seg dksX5_migrate_2 22 rfl rfl
theorem dksX5_migrate_4 : cX5_migrate.data.toList.drop 91 = dktX5_migrate_4 := dk_seg dksX5_migrate_3 22 rfl rfl
theorem dksX5_migrate_5 : cX5_migrate.data.toList.drop 115 = dktX5_migrate_5 := dk_seg dksX5_migrate_4 24 rfl rfl
theorem dksX5_migrate_6 : cX5_migrate.data.toList.drop 139 = dktX5_migrate_6 := dk_seg dksX5_migrate_5 24 rfl rfl
theorem dksX5_migrate_7 : cX5_migrate.data.toList.drop 161 = dktX5_migrate_7 := dk_seg dksX5_migrate_6 22 rfl rfl
theorem dksX5_migrate_8 : cX5_migrate.data.toList.drop 183 = dktX5_migrate_8 := dk_seg dksX5_migrate_7 22 rfl rfl
theorem dX5_migrate_0 : decode cX5_migrate 0 = .ok (.aload_n 0, 1) := dk_42 (dk_at dksX5_migrate_0 0 rfl rfl)
theorem dX5_migrate_1 : decode cX5_migrate 1 = .ok (.invokevirtual 59, 3) := dk_182 0 59 (dk_at dksX5_migrate_0 1 rfl rfl)
theorem dX5_migrate_4 : decode cX5_migrate 4 = .ok (.iconst 0, 1) := dk_3 (dk_at dksX5_migrate_0 4 rfl rfl)
theorem dX5_migrate_5 : decode cX5_migrate 5 = .ok (.istore_n 1, 1) := dk_60 (dk_at dksX5_migrate_0 5 rfl rfl)
theorem dX5_migrate_6 : decode cX5_migrate 6 = .ok (.iload_n 1, 1) := dk_27 (dk_at dksX5_migrate_0 6 rfl rfl)
theorem dX5_migrate_7 : decode cX5_migrate 7 = .ok (.bipush 7, 2) := dk_16 7 (dk_at dksX5_migrate_0 7 rfl rfl)
theorem dX5_migrate_9 : decode cX5_migrate 9 = .ok (.if_icmp .ge 20, 3) := dk_162 0 20 (dk_at dksX5_migrate_0 9 rfl rfl)
theorem dX5_migrate_12 : decode cX5_migrate 12 = .ok (.aload_n 0, 1) := dk_42 (dk_at dksX5_migrate_0 12 rfl rfl)
theorem dX5_migrate_13 : decode cX5_migrate 13 = .ok (.getfield 7, 3) := dk_180 0 7 (dk_at dksX5_migrate_0 13 rfl rfl)
theorem dX5_migrate_16 : decode cX5_migrate 16 = .ok (.sipush 179, 3) := dk_17 0 179 (dk_at dksX5_migrate_0 16 rfl rfl)
theorem dX5_migrate_19 : decode cX5_migrate 19 = .ok (.iload_n 1, 1) := dk_27 (dk_at dksX5_migrate_0 19 rfl rfl)
theorem dX5_migrate_20 : decode cX5_migrate 20 = .ok (.iadd, 1) := dk_96 (dk_at dksX5_migrate_0 20 rfl rfl)
theorem dX5_migrate_21 : decode cX5_migrate 21 = .ok (.iconst 0, 1) := dk_3 (dk_at dksX5_migrate_0 21 rfl rfl)
theorem dX5_migrate_22 : decode cX5_migrate 22 = .ok (.iastore, 1) := dk_79 (dk_at dksX5_migrate_0 22 rfl rfl)
theorem dX5_migrate_23 : decode cX5_migrate 23 = .ok (.iinc 1 1, 3) := dk_132 1 1 (dk_at dksX5_migrate_1 0 rfl rfl)
theorem dX5_migrate_26 : decode cX5_migrate 26 = .ok (.goto (-20), 3) := dk_167 255 236 (dk_at dksX5_migrate_1 3 rfl rfl)
theorem dX5_migrate_29 : decode cX5_migrate 29 = .ok (.aload_n 0, 1) := dk_42 (dk_at dksX5_migrate_1 6 rfl rfl)
theorem dX5_migrate_30 : decode cX5_migrate 30 = .ok (.aload_n 0, 1) := dk_42 (dk_at dksX5_migrate_1 7 rfl rfl)
theorem dX5_migrate_31 : decode cX5_migrate 31 = .ok (.getfield 7, 3) := dk_180 0 7 (dk_at dksX5_migrate_1 8 rfl rfl)
theorem dX5_migrate_34 : decode cX5_migrate 34 = .ok (.sipush 148, 3) := dk_17 0 148 (dk_at dksX5_migrate_1 11 rfl rfl)
theorem dX5_migrate_37 : decode cX5_migrate 37 = .ok (.iaload, 1) := dk_46 (dk_at dksX5_migrate_1 14 rfl rfl)
theorem dX5_migrate_38 : decode cX5_migrate 38 = .ok (.putfield 185, 3) := dk_181 0 185 (dk_at dksX5_migrate_1 15 rfl rfl)
theorem dX5_migrate_41 : decode cX5_migrate 41 = .ok (.aload_n 0, 1) := dk_42 (dk_at dksX5_migrate_1 18 rfl rfl)
theorem dX5_migrate_42 : decode cX5_migrate 42 = .ok (.iconst 0, 1) := dk_3 (dk_at dksX5_migrate_1 19 rfl rfl)
theorem dX5_migrate_43 : decode cX5_migrate 43 = .ok (.putfield 173, 3) := dk_181 0 173 (dk_at dksX5_migrate_1 20 rfl rfl)
theorem dX5_migrate_46 : decode cX5_migrate 46 = .ok (.aload_n 0, 1) := dk_42 (dk_at dksX5_migrate_1 23 rfl rfl)
theorem dX5_migrate_47 : decode cX5_migrate 47 = .ok (.iconst 0, 1) := dk_3 (dk_at dksX5_migrate_2 0 rfl rfl)
theorem dX5_migrate_48 : decode cX5_migrate 48 = .ok (.putfield 170, 3) := dk_181 0 170 (dk_at dksX5_migrate_2 1 rfl rfl)
theorem dX5_migrate_51 : decode cX5_migrate 51 = .ok (.aload_n 0, 1) := dk_42 (dk_at dksX5_migrate_2 4 rfl rfl)
theorem dX5_migrate_52 : decode cX5_migrate 52 = .ok (.getfield 31, 3) := dk_180 0 31 (dk_at dksX5_migrate_2 5 rfl rfl)
theorem dX5_migrate_55 : decode cX5_migrate 55 = .ok (.iconst 0, 1) := dk_3 (dk_at dksX5_migrate_2 8 rfl rfl)
theorem dX5_migrate_56 : decode cX5_migrate 56 = .ok (.iconst 0, 1) := dk_3 (dk_at dksX5_migrate_2 9 rfl rfl)
theorem dX5_migrate_57 : decode cX5_migrate 57 = .ok (.iastore, 1) := dk_79 (dk_at dksX5_migrate_2 10 rfl rfl)
theorem dX5_migrate_58 : decode cX5_migrate 58 = .ok (.aload_n 0, 1) := dk_42 (dk_at dksX5_migrate_2 11 rfl rfl)
theorem dX5_migrate_59 : decode cX5_migrate 59 = .ok (.iconst 0, 1) := dk_3 (dk_at dksX5_migrate_2 12 rfl rfl)
theorem dX5_migrate_60 : decode cX5_migrate 60 = .ok (.putfield 207, 3) := dk_181 0 207 (dk_at dksX5_migrate_2 13 rfl rfl)
theorem dX5_migrate_63 : decode cX5_migrate 63 = .ok (.iconst 0, 1) := dk_3 (dk_at dksX5_migrate_2 16 rfl rfl)
theorem dX5_migrate_64 : decode cX5_migrate 64 = .ok (.istore_n 1, 1) := dk_60 (dk_at dksX5_migrate_2 17 rfl rfl)
theorem dX5_migrate_65 : decode cX5_migrate 65 = .ok (.iconst 0, 1) := dk_3 (dk_at dksX5_migrate_2 18 rfl rfl)
theorem dX5_migrate_66 : decode cX5_migrate 66 = .ok (.istore_n 2, 1) := dk_61 (dk_at dksX5_migrate_2 19 rfl rfl)
theorem dX5_migrate_67 : decode cX5_migrate 67 = .ok (.iload_n 2, 1) := dk_28 (dk_at dksX5_migrate_2 20 rfl rfl)
theorem dX5_migrate_68 : decode cX5_migrate 68 = .ok (.aload_n 0, 1) := dk_42 (dk_at dksX5_migrate_2 21 rfl rfl)
theorem dX5_migrate_69 : decode cX5_migrate 69 = .ok (.getfield 7, 3) := dk_180 0 7 (dk_at dksX5_migrate_3 0 rfl rfl)
theorem dX5_migrate_72 : decode cX5_migrate 72 = .ok (.sipush 148, 3) := dk_17 0 148 (dk_at dksX5_migrate_3 3 rfl rfl)
theorem dX5_migrate_75 : decode cX5_migrate 75 = .ok (.iaload, 1) := dk_46 (dk_at dksX5_migrate_3 6 rfl rfl)
theorem dX5_migrate_76 : decode cX5_migrate 76 = .ok (.if_icmp .ge 78, 3) := dk_162 0 78 (dk_at dksX5_migrate_3 7 rfl rfl)
theorem dX5_migrate_79 : decode cX5_migrate 79 = .ok (.aload_n 0, 1) := dk_42 (dk_at dksX5_migrate_3 10 rfl rfl)
theorem dX5_migrate_80 : decode cX5_migrate 80 = .ok (.getfield 7, 3) := dk_180 0 7 (dk_at dksX5_migrate_3 11 rfl rfl)
theorem dX5_migrate_83 : decode cX5_migrate 83 = .ok (.sipush 149, 3) := dk_17 0 149 (dk_at dksX5_migrate_3 14 rfl rfl)
theorem dX5_migrate_86 : decode cX5_migrate 86 = .ok (.iload_n 2, 1) := dk_28 (dk_at dksX5_migrate_3 17 rfl rfl)
theorem dX5_migrate_87 : decode cX5_migrate 87 = .ok (.iadd, 1) := dk_96 (dk_at dksX5_migrate_3 18 rfl rfl)
theorem dX5_migrate_88 : decode cX5_migrate 88 = .ok (.iaload, 1) := dk_46 (dk_at dksX5_migrate_3 19 rfl rfl)
theorem dX5_migrate_89 : decode cX5_migrate 89 = .ok (.istore_n 3, 1) := dk_62 (dk_at dksX5_migrate_3 20 rfl rfl)
theorem dX5_migrate_90 : decode cX5_migrate 90 = .ok (.iload_n 3, 1) := dk_29 (dk_at dksX5_migrate_3 21 rfl rfl)
theorem dX5_migrate_91 : decode cX5_migrate 91 = .ok (.invokestatic 167, 3) := dk_184 0 167 (dk_at dksX5_migrate_4 0 rfl rfl)
theorem dX5_migrate_94 : decode cX5_migrate 94 = .ok (.ifCond .le 39, 3) := dk_158 0 39 (dk_at dksX5_migrate_4 3 rfl rfl)
theorem dX5_migrate_97 : decode cX5_migrate 97 = .ok (.aload_n 0, 1) := dk_42 (dk_at dksX5_migrate_4 6 rfl rfl)
theorem dX5_migrate_98 : decode cX5_migrate 98 = .ok (.getfield 37, 3) := dk_180 0 37 (dk_at dksX5_migrate_4 7 rfl rfl)
theorem dX5_migrate_101 : decode cX5_migrate 101 = .ok (.aload_n 0, 1) := dk_42 (dk_at dksX5_migrate_4 10 rfl rfl)
theorem dX5_migrate_102 : decode cX5_migrate 102 = .ok (.getfield 207, 3) := dk_180 0 207 (dk_at dksX5_migrate_4 11 rfl rfl)
theorem dX5_migrate_105 : decode cX5_migrate 105 = .ok (.iload_n 3, 1) := dk_29 (dk_at dksX5_migrate_4 14 rfl rfl)
theorem dX5_migrate_106 : decode cX5_migrate 106 = .ok (.iastore, 1) := dk_79 (dk_at dksX5_migrate_4 15 rfl rfl)
theorem dX5_migrate_107 : decode cX5_migrate 107 = .ok (.aload_n 0, 1) := dk_42 (dk_at dksX5_migrate_4 16 rfl rfl)
theorem dX5_migrate_108 : decode cX5_migrate 108 = .ok (.getfield 40, 3) := dk_180 0 40 (dk_at dksX5_migrate_4 17 rfl rfl)
theorem dX5_migrate_111 : decode cX5_migrate 111 = .ok (.aload_n 0, 1) := dk_42 (dk_at dksX5_migrate_4 20 rfl rfl)
theorem dX5_migrate_112 : decode cX5_migrate 112 = .ok (.getfield 207, 3) := dk_180 0 207 (dk_at dksX5_migrate_4 21 rfl rfl)
theorem dX5_migrate_115 : decode cX5_migrate 115 = .ok (.iload_n 3, 1) := dk_29 (dk_at dksX5_migrate_5 0 rfl rfl)
theorem dX5_migrate_116 : decode cX5_migrate 116 = .ok (.invokestatic 167, 3) := dk_184 0 167 (dk_at dksX5_migrate_5 1 rfl rfl)
theorem dX5_migrate_119 : decode cX5_migrate 119 = .ok (.iastore, 1) := dk_79 (dk_at dksX5_migrate_5 4 rfl rfl)
theorem dX5_migrate_120 : decode cX5_migrate 120 = .ok (.aload_n 0, 1) := dk_42 (dk_at dksX5_migrate_5 5 rfl rfl)
theorem dX5_migrate_121 : decode cX5_migrate 121 = .ok (.dup, 1) := dk_89 (dk_at dksX5_migrate_5 6 rfl rfl)
theorem dX5_migrate_122 : decode cX5_migrate 122 = .ok (.getfield 207, 3) := dk_180 0 207 (dk_at dksX5_migrate_5 7 rfl rfl)
theorem dX5_migrate_125 : decode cX5_migrate 125 = .ok (.iconst 1, 1) := dk_4 (dk_at dksX5_migrate_5 10 rfl rfl)
theorem dX5_migrate_126 : decode cX5_migrate 126 = .ok (.iadd, 1) := dk_96 (dk_at dksX5_migrate_5 11 rfl rfl)
theorem dX5_migrate_127 : decode cX5_migrate 127 = .ok (.putfield 207, 3) := dk_181 0 207 (dk_at dksX5_migrate_5 12 rfl rfl)
theorem dX5_migrate_130 : decode cX5_migrate 130 = .ok (.goto 18, 3) := dk_167 0 18 (dk_at dksX5_migrate_5 15 rfl rfl)
theorem dX5_migrate_133 : decode cX5_migrate 133 = .ok (.iload_n 1, 1) := dk_27 (dk_at dksX5_migrate_5 18 rfl rfl)
theorem dX5_migrate_134 : decode cX5_migrate 134 = .ok (.aload_n 0, 1) := dk_42 (dk_at dksX5_migrate_5 19 rfl rfl)
theorem dX5_migrate_135 : decode cX5_migrate 135 = .ok (.iload_n 3, 1) := dk_29 (dk_at dksX5_migrate_5 20 rfl rfl)
theorem dX5_migrate_136 : decode cX5_migrate 136 = .ok (.invokevirtual 210, 3) := dk_182 0 210 (dk_at dksX5_migrate_5 21 rfl rfl)
theorem dX5_migrate_139 : decode cX5_migrate 139 = .ok (.iadd, 1) := dk_96 (dk_at dksX5_migrate_6 0 rfl rfl)
theorem dX5_migrate_140 : decode cX5_migrate 140 = .ok (.istore_n 1, 1) := dk_60 (dk_at dksX5_migrate_6 1 rfl rfl)
theorem dX5_migrate_141 : decode cX5_migrate 141 = .ok (.iload_n 1, 1) := dk_27 (dk_at dksX5_migrate_6 2 rfl rfl)
theorem dX5_migrate_142 : decode cX5_migrate 142 = .ok (.aload_n 0, 1) := dk_42 (dk_at dksX5_migrate_6 3 rfl rfl)
theorem dX5_migrate_143 : decode cX5_migrate 143 = .ok (.invokevirtual 213, 3) := dk_182 0 213 (dk_at dksX5_migrate_6 4 rfl rfl)
theorem dX5_migrate_146 : decode cX5_migrate 146 = .ok (.iadd, 1) := dk_96 (dk_at dksX5_migrate_6 7 rfl rfl)
theorem dX5_migrate_147 : decode cX5_migrate 147 = .ok (.istore_n 1, 1) := dk_60 (dk_at dksX5_migrate_6 8 rfl rfl)
theorem dX5_migrate_148 : decode cX5_migrate 148 = .ok (.iinc 2 1, 3) := dk_132 2 1 (dk_at dksX5_migrate_6 9 rfl rfl)
theorem dX5_migrate_151 : decode cX5_migrate 151 = .ok (.goto (-84), 3) := dk_167 255 172 (dk_at dksX5_migrate_6 12 rfl rfl)
theorem dX5_migrate_154 : decode cX5_migrate 154 = .ok (.iconst 0, 1) := dk_3 (dk_at dksX5_migrate_6 15 rfl rfl)
theorem dX5_migrate_155 : decode cX5_migrate 155 = .ok (.istore_n 2, 1) := dk_61 (dk_at dksX5_migrate_6 16 rfl rfl)
theorem dX5_migrate_156 : decode cX5_migrate 156 = .ok (.iload_n 2, 1) := dk_28 (dk_at dksX5_migrate_6 17 rfl rfl)
theorem dX5_migrate_157 : decode cX5_migrate 157 = .ok (.aload_n 0, 1) := dk_42 (dk_at dksX5_migrate_6 18 rfl rfl)
theorem dX5_migrate_158 : decode cX5_migrate 158 = .ok (.getfield 173, 3) := dk_180 0 173 (dk_at dksX5_migrate_6 19 rfl rfl)
theorem dX5_migrate_161 : decode cX5_migrate 161 = .ok (.if_icmp .ge 25, 3) := dk_162 0 25 (dk_at dksX5_migrate_7 0 rfl rfl)
theorem dX5_migrate_164 : decode cX5_migrate 164 = .ok (.aload_n 0, 1) := dk_42 (dk_at dksX5_migrate_7 3 rfl rfl)
theorem dX5_migrate_165 : decode cX5_migrate 165 = .ok (.getfield 7, 3) := dk_180 0 7 (dk_at dksX5_migrate_7 4 rfl rfl)
theorem dX5_migrate_168 : decode cX5_migrate 168 = .ok (.sipush 149, 3) := dk_17 0 149 (dk_at dksX5_migrate_7 7 rfl rfl)
theorem dX5_migrate_171 : decode cX5_migrate 171 = .ok (.iload_n 2, 1) := dk_28 (dk_at dksX5_migrate_7 10 rfl rfl)
theorem dX5_migrate_172 : decode cX5_migrate 172 = .ok (.iadd, 1) := dk_96 (dk_at dksX5_migrate_7 11 rfl rfl)
theorem dX5_migrate_173 : decode cX5_migrate 173 = .ok (.aload_n 0, 1) := dk_42 (dk_at dksX5_migrate_7 12 rfl rfl)
theorem dX5_migrate_174 : decode cX5_migrate 174 = .ok (.getfield 28, 3) := dk_180 0 28 (dk_at dksX5_migrate_7 13 rfl rfl)
theorem dX5_migrate_177 : decode cX5_migrate 177 = .ok (.iload_n 2, 1) := dk_28 (dk_at dksX5_migrate_7 16 rfl rfl)
theorem dX5_migrate_178 : decode cX5_migrate 178 = .ok (.iaload, 1) := dk_46 (dk_at dksX5_migrate_7 17 rfl rfl)
theorem dX5_migrate_179 : decode cX5_migrate 179 = .ok (.iastore, 1) := dk_79 (dk_at dksX5_migrate_7 18 rfl rfl)
theorem dX5_migrate_180 : decode cX5_migrate 180 = .ok (.iinc 2 1, 3) := dk_132 2 1 (dk_at dksX5_migrate_7 19 rfl rfl)
theorem dX5_migrate_183 : decode cX5_migrate 183 = .ok (.goto (-27), 3) := dk_167 255 229 (dk_at dksX5_migrate_8 0 rfl rfl)
theorem dX5_migrate_186 : decode cX5_migrate 186 = .ok (.aload_n 0, 1) := dk_42 (dk_at dksX5_migrate_8 3 rfl rfl)
theorem dX5_migrate_187 : decode cX5_migrate 187 = .ok (.getfield 7, 3) := dk_180 0 7 (dk_at dksX5_migrate_8 4 rfl rfl)
theorem dX5_migrate_190 : decode cX5_migrate 190 = .ok (.sipush 148, 3) := dk_17 0 148 (dk_at dksX5_migrate_8 7 rfl rfl)
theorem dX5_migrate_193 : decode cX5_migrate 193 = .ok (.aload_n 0, 1) := dk_42 (dk_at dksX5_migrate_8 10 rfl rfl)
theorem dX5_migrate_194 : decode cX5_migrate 194 = .ok (.getfield 173, 3) := dk_180 0 173 (dk_at dksX5_migrate_8 11 rfl rfl)
theorem dX5_migrate_197 : decode cX5_migrate 197 = .ok (.iastore, 1) := dk_79 (dk_at dksX5_migrate_8 14 rfl rfl)
theorem dX5_migrate_198 : decode cX5_migrate 198 = .ok (.iload_n 1, 1) := dk_27 (dk_at dksX5_migrate_8 15 rfl rfl)
theorem dX5_migrate_199 : decode cX5_migrate 199 = .ok (.ireturn, 1) := dk_172 (dk_at dksX5_migrate_8 16 rfl rfl)
abbrev cX5_arguments : ByteArray := prog_10_method_29_code
def yX5_arguments : MethodName := ⟨RX5, "arguments", "(I)I"⟩
def dkwX5_arguments_0 : List UInt8 := [26, 16, 10, 112, 172]
abbrev dktX5_arguments_0 : List UInt8 := dkwX5_arguments_0 ++ []
theorem dksX5_arguments_0 : cX5_arguments.data.toList.drop 0 = dktX5_arguments_0 := by decide +kernel
theorem dX5_arguments_0 : decode cX5_arguments 0 = .ok (.iload_n 0, 1) := dk_26 (dk_at dksX5_arguments_0 0 rfl rfl)
theorem dX5_arguments_1 : decode cX5_arguments 1 = .ok (.bipush 10, 2) := dk_16 10 (dk_at dksX5_arguments_0 1 rfl rfl)
theorem dX5_arguments_3 : decode cX5_arguments 3 = .ok (.irem, 1) := dk_112 (dk_at dksX5_arguments_0 3 rfl rfl)
theorem dX5_arguments_4 : decode cX5_arguments 4 = .ok (.ireturn, 1) := dk_172 (dk_at dksX5_arguments_0 4 rfl rfl)
abbrev cX5_treatsLeaf : ByteArray := prog_10_method_51_code
def yX5_treatsLeaf : MethodName := ⟨RX5, "treatsLeaf", "(I)I"⟩
def dkwX5_treatsLeaf_0 : List UInt8 := [42, 27, 182, 0, 217, 172]
abbrev dktX5_treatsLeaf_0 : List UInt8 := dkwX5_treatsLeaf_0 ++ []
theorem dksX5_treatsLeaf_0 : cX5_treatsLeaf.data.toList.drop 0 = dktX5_treatsLeaf_0 := by decide +kernel
theorem dX5_treatsLeaf_0 : decode cX5_treatsLeaf 0 = .ok (.aload_n 0, 1) := dk_42 (dk_at dksX5_treatsLeaf_0 0 rfl rfl)
theorem dX5_treatsLeaf_1 : decode cX5_treatsLeaf 1 = .ok (.iload_n 1, 1) := dk_27 (dk_at dksX5_treatsLeaf_0 1 rfl rfl)
theorem dX5_treatsLeaf_2 : decode cX5_treatsLeaf 2 = .ok (.invokevirtual 217, 3) := dk_182 0 217 (dk_at dksX5_treatsLeaf_0 2 rfl rfl)
theorem dX5_treatsLeaf_5 : decode cX5_treatsLeaf 5 = .ok (.ireturn, 1) := dk_172 (dk_at dksX5_treatsLeaf_0 5 rfl rfl)
abbrev cX5_treats : ByteArray := prog_10_method_49_code
def yX5_treats : MethodName := ⟨RX5, "treats", "(I)I"⟩
def dkwX5_treats_6 : List UInt8 := [46, 4, 96, 79, 42, 27, 182, 0, 194, 3, 172]
abbrev dktX5_treats_6 : List UInt8 := dkwX5_treats_6 ++ []
def dkwX5_treats_5 : List UInt8 := [62, 29, 154, 0, 10, 42, 27, 182, 0, 204, 4, 172, 42, 180, 0, 7, 17, 0, 179, 29, 96, 4, 100, 92]
abbrev dktX5_treats_5 : List UInt8 := dkwX5_treats_5 ++ dktX5_treats_6
def dkwX5_treats_4 : List UInt8 := [182, 0, 194, 4, 172, 21, 4, 153, 0, 7, 6, 167, 0, 4, 5, 62, 167, 0, 20, 42, 27, 182, 0, 201]
abbrev dktX5_treats_4 : List UInt8 := dkwX5_treats_4 ++ dktX5_treats_5
def dkwX5_treats_3 : List UInt8 := [42, 28, 182, 0, 198, 54, 5, 21, 5, 2, 159, 0, 19, 42, 8, 21, 5, 27, 184, 0, 167, 184, 0, 126]
abbrev dktX5_treats_3 : List UInt8 := dkwX5_treats_3 ++ dktX5_treats_4
def dkwX5_treats_2 : List UInt8 := [2, 159, 0, 7, 4, 167, 0, 4, 3, 54, 4, 21, 4, 153, 0, 11, 42, 28, 182, 0, 96, 154, 0, 46]
abbrev dktX5_treats_2 : List UInt8 := dkwX5_treats_2 ++ dktX5_treats_3
def dkwX5_treats_1 : List UInt8 := [184, 0, 167, 42, 180, 0, 7, 3, 16, 7, 28, 104, 96, 3, 96, 46, 160, 0, 92, 42, 28, 182, 0, 86]
abbrev dktX5_treats_1 : List UInt8 := dkwX5_treats_1 ++ dktX5_treats_2
def dkwX5_treats_0 : List UInt8 := [27, 184, 0, 114, 61, 27, 184, 0, 111, 6, 159, 0, 10, 42, 27, 182, 0, 194, 3, 172, 4, 62, 27]
abbrev dktX5_treats_0 : List UInt8 := dkwX5_treats_0 ++ dktX5_treats_1
theorem dksX5_treats_0 : cX5_treats.data.toList.drop 0 = dktX5_treats_0 := by decide +kernel
theorem dksX5_treats_1 : cX5_treats.data.toList.drop 23 = dktX5_treats_1 := dk_seg dksX5_treats_0 23 rfl rfl
theorem dksX5_treats_2 : cX5_treats.data.toList.drop 47 = dktX5_treats_2 := dk_seg dksX5_treats_1 24 rfl rfl
theorem dksX5_treats_3 : cX5_treats.data.toList.drop 71 = dktX5_treats_3 := dk_seg dksX5_treats_2 24 rfl rfl
theorem dksX5_treats_4 : cX5_treats.data.toList.drop 95 = dktX5_treats_4 := dk_seg dksX5_treats_3 24 rfl rfl
theorem dksX5_treats_5 : cX5_treats.data.toList.drop 119 = dktX5_treats_5 := dk_seg dksX5_treats_4 24 rfl rfl
theorem dksX5_treats_6 : cX5_treats.data.toList.drop 143 = dktX5_treats_6 := dk_seg dksX5_treats_5 24 rfl rfl
theorem dX5_treats_0 : decode cX5_treats 0 = .ok (.iload_n 1, 1) := dk_27 (dk_at dksX5_treats_0 0 rfl rfl)
theorem dX5_treats_1 : decode cX5_treats 1 = .ok (.invokestatic 114, 3) := dk_184 0 114 (dk_at dksX5_treats_0 1 rfl rfl)
theorem dX5_treats_4 : decode cX5_treats 4 = .ok (.istore_n 2, 1) := dk_61 (dk_at dksX5_treats_0 4 rfl rfl)
theorem dX5_treats_5 : decode cX5_treats 5 = .ok (.iload_n 1, 1) := dk_27 (dk_at dksX5_treats_0 5 rfl rfl)
theorem dX5_treats_6 : decode cX5_treats 6 = .ok (.invokestatic 111, 3) := dk_184 0 111 (dk_at dksX5_treats_0 6 rfl rfl)
theorem dX5_treats_9 : decode cX5_treats 9 = .ok (.iconst 3, 1) := dk_6 (dk_at dksX5_treats_0 9 rfl rfl)
theorem dX5_treats_10 : decode cX5_treats 10 = .ok (.if_icmp .eq 10, 3) := dk_159 0 10 (dk_at dksX5_treats_0 10 rfl rfl)
theorem dX5_treats_13 : decode cX5_treats 13 = .ok (.aload_n 0, 1) := dk_42 (dk_at dksX5_treats_0 13 rfl rfl)
theorem dX5_treats_14 : decode cX5_treats 14 = .ok (.iload_n 1, 1) := dk_27 (dk_at dksX5_treats_0 14 rfl rfl)
theorem dX5_treats_15 : decode cX5_treats 15 = .ok (.invokevirtual 194, 3) := dk_182 0 194 (dk_at dksX5_treats_0 15 rfl rfl)
theorem dX5_treats_18 : decode cX5_treats 18 = .ok (.iconst 0, 1) := dk_3 (dk_at dksX5_treats_0 18 rfl rfl)
theorem dX5_treats_19 : decode cX5_treats 19 = .ok (.ireturn, 1) := dk_172 (dk_at dksX5_treats_0 19 rfl rfl)
theorem dX5_treats_20 : decode cX5_treats 20 = .ok (.iconst 1, 1) := dk_4 (dk_at dksX5_treats_0 20 rfl rfl)
theorem dX5_treats_21 : decode cX5_treats 21 = .ok (.istore_n 3, 1) := dk_62 (dk_at dksX5_treats_0 21 rfl rfl)
theorem dX5_treats_22 : decode cX5_treats 22 = .ok (.iload_n 1, 1) := dk_27 (dk_at dksX5_treats_0 22 rfl rfl)
theorem dX5_treats_23 : decode cX5_treats 23 = .ok (.invokestatic 167, 3) := dk_184 0 167 (dk_at dksX5_treats_1 0 rfl rfl)
theorem dX5_treats_26 : decode cX5_treats 26 = .ok (.aload_n 0, 1) := dk_42 (dk_at dksX5_treats_1 3 rfl rfl)
theorem dX5_treats_27 : decode cX5_treats 27 = .ok (.getfield 7, 3) := dk_180 0 7 (dk_at dksX5_treats_1 4 rfl rfl)
theorem dX5_treats_30 : decode cX5_treats 30 = .ok (.iconst 0, 1) := dk_3 (dk_at dksX5_treats_1 7 rfl rfl)
theorem dX5_treats_31 : decode cX5_treats 31 = .ok (.bipush 7, 2) := dk_16 7 (dk_at dksX5_treats_1 8 rfl rfl)
theorem dX5_treats_33 : decode cX5_treats 33 = .ok (.iload_n 2, 1) := dk_28 (dk_at dksX5_treats_1 10 rfl rfl)
theorem dX5_treats_34 : decode cX5_treats 34 = .ok (.imul, 1) := dk_104 (dk_at dksX5_treats_1 11 rfl rfl)
theorem dX5_treats_35 : decode cX5_treats 35 = .ok (.iadd, 1) := dk_96 (dk_at dksX5_treats_1 12 rfl rfl)
theorem dX5_treats_36 : decode cX5_treats 36 = .ok (.iconst 0, 1) := dk_3 (dk_at dksX5_treats_1 13 rfl rfl)
theorem dX5_treats_37 : decode cX5_treats 37 = .ok (.iadd, 1) := dk_96 (dk_at dksX5_treats_1 14 rfl rfl)
theorem dX5_treats_38 : decode cX5_treats 38 = .ok (.iaload, 1) := dk_46 (dk_at dksX5_treats_1 15 rfl rfl)
theorem dX5_treats_39 : decode cX5_treats 39 = .ok (.if_icmp .ne 92, 3) := dk_160 0 92 (dk_at dksX5_treats_1 16 rfl rfl)
theorem dX5_treats_42 : decode cX5_treats 42 = .ok (.aload_n 0, 1) := dk_42 (dk_at dksX5_treats_1 19 rfl rfl)
theorem dX5_treats_43 : decode cX5_treats 43 = .ok (.iload_n 2, 1) := dk_28 (dk_at dksX5_treats_1 20 rfl rfl)
theorem dX5_treats_44 : decode cX5_treats 44 = .ok (.invokevirtual 86, 3) := dk_182 0 86 (dk_at dksX5_treats_1 21 rfl rfl)
theorem dX5_treats_47 : decode cX5_treats 47 = .ok (.iconst (-1), 1) := dk_2 (dk_at dksX5_treats_2 0 rfl rfl)
theorem dX5_treats_48 : decode cX5_treats 48 = .ok (.if_icmp .eq 7, 3) := dk_159 0 7 (dk_at dksX5_treats_2 1 rfl rfl)
theorem dX5_treats_51 : decode cX5_treats 51 = .ok (.iconst 1, 1) := dk_4 (dk_at dksX5_treats_2 4 rfl rfl)
theorem dX5_treats_52 : decode cX5_treats 52 = .ok (.goto 4, 3) := dk_167 0 4 (dk_at dksX5_treats_2 5 rfl rfl)
theorem dX5_treats_55 : decode cX5_treats 55 = .ok (.iconst 0, 1) := dk_3 (dk_at dksX5_treats_2 8 rfl rfl)
theorem dX5_treats_56 : decode cX5_treats 56 = .ok (.istore 4, 2) := dk_54 4 (dk_at dksX5_treats_2 9 rfl rfl)
theorem dX5_treats_58 : decode cX5_treats 58 = .ok (.iload 4, 2) := dk_21 4 (dk_at dksX5_treats_2 11 rfl rfl)
theorem dX5_treats_60 : decode cX5_treats 60 = .ok (.ifCond .eq 11, 3) := dk_153 0 11 (dk_at dksX5_treats_2 13 rfl rfl)
theorem dX5_treats_63 : decode cX5_treats 63 = .ok (.aload_n 0, 1) := dk_42 (dk_at dksX5_treats_2 16 rfl rfl)
theorem dX5_treats_64 : decode cX5_treats 64 = .ok (.iload_n 2, 1) := dk_28 (dk_at dksX5_treats_2 17 rfl rfl)
theorem dX5_treats_65 : decode cX5_treats 65 = .ok (.invokevirtual 96, 3) := dk_182 0 96 (dk_at dksX5_treats_2 18 rfl rfl)
theorem dX5_treats_68 : decode cX5_treats 68 = .ok (.ifCond .ne 46, 3) := dk_154 0 46 (dk_at dksX5_treats_2 21 rfl rfl)
theorem dX5_treats_71 : decode cX5_treats 71 = .ok (.aload_n 0, 1) := dk_42 (dk_at dksX5_treats_3 0 rfl rfl)
theorem dX5_treats_72 : decode cX5_treats 72 = .ok (.iload_n 2, 1) := dk_28 (dk_at dksX5_treats_3 1 rfl rfl)
theorem dX5_treats_73 : decode cX5_treats 73 = .ok (.invokevirtual 198, 3) := dk_182 0 198 (dk_at dksX5_treats_3 2 rfl rfl)
theorem dX5_treats_76 : decode cX5_treats 76 = .ok (.istore 5, 2) := dk_54 5 (dk_at dksX5_treats_3 5 rfl rfl)
theorem dX5_treats_78 : decode cX5_treats 78 = .ok (.iload 5, 2) := dk_21 5 (dk_at dksX5_treats_3 7 rfl rfl)
theorem dX5_treats_80 : decode cX5_treats 80 = .ok (.iconst (-1), 1) := dk_2 (dk_at dksX5_treats_3 9 rfl rfl)
theorem dX5_treats_81 : decode cX5_treats 81 = .ok (.if_icmp .eq 19, 3) := dk_159 0 19 (dk_at dksX5_treats_3 10 rfl rfl)
theorem dX5_treats_84 : decode cX5_treats 84 = .ok (.aload_n 0, 1) := dk_42 (dk_at dksX5_treats_3 13 rfl rfl)
theorem dX5_treats_85 : decode cX5_treats 85 = .ok (.iconst 5, 1) := dk_8 (dk_at dksX5_treats_3 14 rfl rfl)
theorem dX5_treats_86 : decode cX5_treats 86 = .ok (.iload 5, 2) := dk_21 5 (dk_at dksX5_treats_3 15 rfl rfl)
theorem dX5_treats_88 : decode cX5_treats 88 = .ok (.iload_n 1, 1) := dk_27 (dk_at dksX5_treats_3 17 rfl rfl)
theorem dX5_treats_89 : decode cX5_treats 89 = .ok (.invokestatic 167, 3) := dk_184 0 167 (dk_at dksX5_treats_3 18 rfl rfl)
theorem dX5_treats_92 : decode cX5_treats 92 = .ok (.invokestatic 126, 3) := dk_184 0 126 (dk_at dksX5_treats_3 21 rfl rfl)
theorem dX5_treats_95 : decode cX5_treats 95 = .ok (.invokevirtual 194, 3) := dk_182 0 194 (dk_at dksX5_treats_4 0 rfl rfl)
theorem dX5_treats_98 : decode cX5_treats 98 = .ok (.iconst 1, 1) := dk_4 (dk_at dksX5_treats_4 3 rfl rfl)
theorem dX5_treats_99 : decode cX5_treats 99 = .ok (.ireturn, 1) := dk_172 (dk_at dksX5_treats_4 4 rfl rfl)
theorem dX5_treats_100 : decode cX5_treats 100 = .ok (.iload 4, 2) := dk_21 4 (dk_at dksX5_treats_4 5 rfl rfl)
theorem dX5_treats_102 : decode cX5_treats 102 = .ok (.ifCond .eq 7, 3) := dk_153 0 7 (dk_at dksX5_treats_4 7 rfl rfl)
theorem dX5_treats_105 : decode cX5_treats 105 = .ok (.iconst 3, 1) := dk_6 (dk_at dksX5_treats_4 10 rfl rfl)
theorem dX5_treats_106 : decode cX5_treats 106 = .ok (.goto 4, 3) := dk_167 0 4 (dk_at dksX5_treats_4 11 rfl rfl)
theorem dX5_treats_109 : decode cX5_treats 109 = .ok (.iconst 2, 1) := dk_5 (dk_at dksX5_treats_4 14 rfl rfl)
theorem dX5_treats_110 : decode cX5_treats 110 = .ok (.istore_n 3, 1) := dk_62 (dk_at dksX5_treats_4 15 rfl rfl)
theorem dX5_treats_111 : decode cX5_treats 111 = .ok (.goto 20, 3) := dk_167 0 20 (dk_at dksX5_treats_4 16 rfl rfl)
theorem dX5_treats_114 : decode cX5_treats 114 = .ok (.aload_n 0, 1) := dk_42 (dk_at dksX5_treats_4 19 rfl rfl)
theorem dX5_treats_115 : decode cX5_treats 115 = .ok (.iload_n 1, 1) := dk_27 (dk_at dksX5_treats_4 20 rfl rfl)
theorem dX5_treats_116 : decode cX5_treats 116 = .ok (.invokevirtual 201, 3) := dk_182 0 201 (dk_at dksX5_treats_4 21 rfl rfl)
theorem dX5_treats_119 : decode cX5_treats 119 = .ok (.istore_n 3, 1) := dk_62 (dk_at dksX5_treats_5 0 rfl rfl)
theorem dX5_treats_120 : decode cX5_treats 120 = .ok (.iload_n 3, 1) := dk_29 (dk_at dksX5_treats_5 1 rfl rfl)
theorem dX5_treats_121 : decode cX5_treats 121 = .ok (.ifCond .ne 10, 3) := dk_154 0 10 (dk_at dksX5_treats_5 2 rfl rfl)
theorem dX5_treats_124 : decode cX5_treats 124 = .ok (.aload_n 0, 1) := dk_42 (dk_at dksX5_treats_5 5 rfl rfl)
theorem dX5_treats_125 : decode cX5_treats 125 = .ok (.iload_n 1, 1) := dk_27 (dk_at dksX5_treats_5 6 rfl rfl)
theorem dX5_treats_126 : decode cX5_treats 126 = .ok (.invokevirtual 204, 3) := dk_182 0 204 (dk_at dksX5_treats_5 7 rfl rfl)
theorem dX5_treats_129 : decode cX5_treats 129 = .ok (.iconst 1, 1) := dk_4 (dk_at dksX5_treats_5 10 rfl rfl)
theorem dX5_treats_130 : decode cX5_treats 130 = .ok (.ireturn, 1) := dk_172 (dk_at dksX5_treats_5 11 rfl rfl)
theorem dX5_treats_131 : decode cX5_treats 131 = .ok (.aload_n 0, 1) := dk_42 (dk_at dksX5_treats_5 12 rfl rfl)
theorem dX5_treats_132 : decode cX5_treats 132 = .ok (.getfield 7, 3) := dk_180 0 7 (dk_at dksX5_treats_5 13 rfl rfl)
theorem dX5_treats_135 : decode cX5_treats 135 = .ok (.sipush 179, 3) := dk_17 0 179 (dk_at dksX5_treats_5 16 rfl rfl)
theorem dX5_treats_138 : decode cX5_treats 138 = .ok (.iload_n 3, 1) := dk_29 (dk_at dksX5_treats_5 19 rfl rfl)
theorem dX5_treats_139 : decode cX5_treats 139 = .ok (.iadd, 1) := dk_96 (dk_at dksX5_treats_5 20 rfl rfl)
theorem dX5_treats_140 : decode cX5_treats 140 = .ok (.iconst 1, 1) := dk_4 (dk_at dksX5_treats_5 21 rfl rfl)
theorem dX5_treats_141 : decode cX5_treats 141 = .ok (.isub, 1) := dk_100 (dk_at dksX5_treats_5 22 rfl rfl)
theorem dX5_treats_142 : decode cX5_treats 142 = .ok (.dup2, 1) := dk_92 (dk_at dksX5_treats_5 23 rfl rfl)
theorem dX5_treats_143 : decode cX5_treats 143 = .ok (.iaload, 1) := dk_46 (dk_at dksX5_treats_6 0 rfl rfl)
theorem dX5_treats_144 : decode cX5_treats 144 = .ok (.iconst 1, 1) := dk_4 (dk_at dksX5_treats_6 1 rfl rfl)
theorem dX5_treats_145 : decode cX5_treats 145 = .ok (.iadd, 1) := dk_96 (dk_at dksX5_treats_6 2 rfl rfl)
theorem dX5_treats_146 : decode cX5_treats 146 = .ok (.iastore, 1) := dk_79 (dk_at dksX5_treats_6 3 rfl rfl)
theorem dX5_treats_147 : decode cX5_treats 147 = .ok (.aload_n 0, 1) := dk_42 (dk_at dksX5_treats_6 4 rfl rfl)
theorem dX5_treats_148 : decode cX5_treats 148 = .ok (.iload_n 1, 1) := dk_27 (dk_at dksX5_treats_6 5 rfl rfl)
theorem dX5_treats_149 : decode cX5_treats 149 = .ok (.invokevirtual 194, 3) := dk_182 0 194 (dk_at dksX5_treats_6 6 rfl rfl)
theorem dX5_treats_152 : decode cX5_treats 152 = .ok (.iconst 0, 1) := dk_3 (dk_at dksX5_treats_6 9 rfl rfl)
theorem dX5_treats_153 : decode cX5_treats 153 = .ok (.ireturn, 1) := dk_172 (dk_at dksX5_treats_6 10 rfl rfl)
abbrev cX5_putsCall : ByteArray := prog_10_method_41_code
def yX5_putsCall : MethodName := ⟨RX5, "putsCall", "(I)V"⟩
def dkwX5_putsCall_4 : List UInt8 := [177]
abbrev dktX5_putsCall_4 : List UInt8 := dkwX5_putsCall_4 ++ []
def dkwX5_putsCall_3 : List UInt8 := [89, 180, 0, 170, 4, 28, 100, 96, 181, 0, 170, 42, 180, 0, 31, 42, 180, 0, 170, 42, 180, 0, 173, 79]
abbrev dktX5_putsCall_3 : List UInt8 := dkwX5_putsCall_3 ++ dktX5_putsCall_4
def dkwX5_putsCall_2 : List UInt8 := [132, 4, 255, 167, 255, 231, 42, 180, 0, 28, 29, 27, 79, 42, 89, 180, 0, 173, 4, 96, 181, 0, 173, 42]
abbrev dktX5_putsCall_2 : List UInt8 := dkwX5_putsCall_2 ++ dktX5_putsCall_3
def dkwX5_putsCall_1 : List UInt8 := [21, 4, 29, 164, 0, 25, 42, 180, 0, 28, 21, 4, 42, 180, 0, 28, 21, 4, 4, 100, 46, 79]
abbrev dktX5_putsCall_1 : List UInt8 := dkwX5_putsCall_1 ++ dktX5_putsCall_2
def dkwX5_putsCall_0 : List UInt8 := [27, 184, 0, 167, 61, 42, 180, 0, 31, 42, 180, 0, 170, 28, 100, 46, 62, 42, 180, 0, 173, 54, 4]
abbrev dktX5_putsCall_0 : List UInt8 := dkwX5_putsCall_0 ++ dktX5_putsCall_1
theorem dksX5_putsCall_0 : cX5_putsCall.data.toList.drop 0 = dktX5_putsCall_0 := by decide +kernel
theorem dksX5_putsCall_1 : cX5_putsCall.data.toList.drop 23 = dktX5_putsCall_1 := dk_seg dksX5_putsCall_0 23 rfl rfl
theorem dksX5_putsCall_2 : cX5_putsCall.data.toList.drop 45 = dktX5_putsCall_2 := dk_seg dksX5_putsCall_1 22 rfl rfl
theorem dksX5_putsCall_3 : cX5_putsCall.data.toList.drop 69 = dktX5_putsCall_3 := dk_seg dksX5_putsCall_2 24 rfl rfl
theorem dksX5_putsCall_4 : cX5_putsCall.data.toList.drop 93 = dktX5_putsCall_4 := dk_seg dksX5_putsCall_3 24 rfl rfl
theorem dX5_putsCall_0 : decode cX5_putsCall 0 = .ok (.iload_n 1, 1) := dk_27 (dk_at dksX5_putsCall_0 0 rfl rfl)
theorem dX5_putsCall_1 : decode cX5_putsCall 1 = .ok (.invokestatic 167, 3) := dk_184 0 167 (dk_at dksX5_putsCall_0 1 rfl rfl)
theorem dX5_putsCall_4 : decode cX5_putsCall 4 = .ok (.istore_n 2, 1) := dk_61 (dk_at dksX5_putsCall_0 4 rfl rfl)
theorem dX5_putsCall_5 : decode cX5_putsCall 5 = .ok (.aload_n 0, 1) := dk_42 (dk_at dksX5_putsCall_0 5 rfl rfl)
theorem dX5_putsCall_6 : decode cX5_putsCall 6 = .ok (.getfield 31, 3) := dk_180 0 31 (dk_at dksX5_putsCall_0 6 rfl rfl)
theorem dX5_putsCall_9 : decode cX5_putsCall 9 = .ok (.aload_n 0, 1) := dk_42 (dk_at dksX5_putsCall_0 9 rfl rfl)
theorem dX5_putsCall_10 : decode cX5_putsCall 10 = .ok (.getfield 170, 3) := dk_180 0 170 (dk_at dksX5_putsCall_0 10 rfl rfl)
theorem dX5_putsCall_13 : decode cX5_putsCall 13 = .ok (.iload_n 2, 1) := dk_28 (dk_at dksX5_putsCall_0 13 rfl rfl)
theorem dX5_putsCall_14 : decode cX5_putsCall 14 = .ok (.isub, 1) := dk_100 (dk_at dksX5_putsCall_0 14 rfl rfl)
theorem dX5_putsCall_15 : decode cX5_putsCall 15 = .ok (.iaload, 1) := dk_46 (dk_at dksX5_putsCall_0 15 rfl rfl)
theorem dX5_putsCall_16 : decode cX5_putsCall 16 = .ok (.istore_n 3, 1) := dk_62 (dk_at dksX5_putsCall_0 16 rfl rfl)
theorem dX5_putsCall_17 : decode cX5_putsCall 17 = .ok (.aload_n 0, 1) := dk_42 (dk_at dksX5_putsCall_0 17 rfl rfl)
theorem dX5_putsCall_18 : decode cX5_putsCall 18 = .ok (.getfield 173, 3) := dk_180 0 173 (dk_at dksX5_putsCall_0 18 rfl rfl)
theorem dX5_putsCall_21 : decode cX5_putsCall 21 = .ok (.istore 4, 2) := dk_54 4 (dk_at dksX5_putsCall_0 21 rfl rfl)
theorem dX5_putsCall_23 : decode cX5_putsCall 23 = .ok (.iload 4, 2) := dk_21 4 (dk_at dksX5_putsCall_1 0 rfl rfl)
theorem dX5_putsCall_25 : decode cX5_putsCall 25 = .ok (.iload_n 3, 1) := dk_29 (dk_at dksX5_putsCall_1 2 rfl rfl)
theorem dX5_putsCall_26 : decode cX5_putsCall 26 = .ok (.if_icmp .le 25, 3) := dk_164 0 25 (dk_at dksX5_putsCall_1 3 rfl rfl)
theorem dX5_putsCall_29 : decode cX5_putsCall 29 = .ok (.aload_n 0, 1) := dk_42 (dk_at dksX5_putsCall_1 6 rfl rfl)
theorem dX5_putsCall_30 : decode cX5_putsCall 30 = .ok (.getfield 28, 3) := dk_180 0 28 (dk_at dksX5_putsCall_1 7 rfl rfl)
theorem dX5_putsCall_33 : decode cX5_putsCall 33 = .ok (.iload 4, 2) := dk_21 4 (dk_at dksX5_putsCall_1 10 rfl rfl)
theorem dX5_putsCall_35 : decode cX5_putsCall 35 = .ok (.aload_n 0, 1) := dk_42 (dk_at dksX5_putsCall_1 12 rfl rfl)
theorem dX5_putsCall_36 : decode cX5_putsCall 36 = .ok (.getfield 28, 3) := dk_180 0 28 (dk_at dksX5_putsCall_1 13 rfl rfl)
theorem dX5_putsCall_39 : decode cX5_putsCall 39 = .ok (.iload 4, 2) := dk_21 4 (dk_at dksX5_putsCall_1 16 rfl rfl)
theorem dX5_putsCall_41 : decode cX5_putsCall 41 = .ok (.iconst 1, 1) := dk_4 (dk_at dksX5_putsCall_1 18 rfl rfl)
theorem dX5_putsCall_42 : decode cX5_putsCall 42 = .ok (.isub, 1) := dk_100 (dk_at dksX5_putsCall_1 19 rfl rfl)
theorem dX5_putsCall_43 : decode cX5_putsCall 43 = .ok (.iaload, 1) := dk_46 (dk_at dksX5_putsCall_1 20 rfl rfl)
theorem dX5_putsCall_44 : decode cX5_putsCall 44 = .ok (.iastore, 1) := dk_79 (dk_at dksX5_putsCall_1 21 rfl rfl)
theorem dX5_putsCall_45 : decode cX5_putsCall 45 = .ok (.iinc 4 (-1), 3) := dk_132 4 255 (dk_at dksX5_putsCall_2 0 rfl rfl)
theorem dX5_putsCall_48 : decode cX5_putsCall 48 = .ok (.goto (-25), 3) := dk_167 255 231 (dk_at dksX5_putsCall_2 3 rfl rfl)
theorem dX5_putsCall_51 : decode cX5_putsCall 51 = .ok (.aload_n 0, 1) := dk_42 (dk_at dksX5_putsCall_2 6 rfl rfl)
theorem dX5_putsCall_52 : decode cX5_putsCall 52 = .ok (.getfield 28, 3) := dk_180 0 28 (dk_at dksX5_putsCall_2 7 rfl rfl)
theorem dX5_putsCall_55 : decode cX5_putsCall 55 = .ok (.iload_n 3, 1) := dk_29 (dk_at dksX5_putsCall_2 10 rfl rfl)
theorem dX5_putsCall_56 : decode cX5_putsCall 56 = .ok (.iload_n 1, 1) := dk_27 (dk_at dksX5_putsCall_2 11 rfl rfl)
theorem dX5_putsCall_57 : decode cX5_putsCall 57 = .ok (.iastore, 1) := dk_79 (dk_at dksX5_putsCall_2 12 rfl rfl)
theorem dX5_putsCall_58 : decode cX5_putsCall 58 = .ok (.aload_n 0, 1) := dk_42 (dk_at dksX5_putsCall_2 13 rfl rfl)
theorem dX5_putsCall_59 : decode cX5_putsCall 59 = .ok (.dup, 1) := dk_89 (dk_at dksX5_putsCall_2 14 rfl rfl)
theorem dX5_putsCall_60 : decode cX5_putsCall 60 = .ok (.getfield 173, 3) := dk_180 0 173 (dk_at dksX5_putsCall_2 15 rfl rfl)
theorem dX5_putsCall_63 : decode cX5_putsCall 63 = .ok (.iconst 1, 1) := dk_4 (dk_at dksX5_putsCall_2 18 rfl rfl)
theorem dX5_putsCall_64 : decode cX5_putsCall 64 = .ok (.iadd, 1) := dk_96 (dk_at dksX5_putsCall_2 19 rfl rfl)
theorem dX5_putsCall_65 : decode cX5_putsCall 65 = .ok (.putfield 173, 3) := dk_181 0 173 (dk_at dksX5_putsCall_2 20 rfl rfl)
theorem dX5_putsCall_68 : decode cX5_putsCall 68 = .ok (.aload_n 0, 1) := dk_42 (dk_at dksX5_putsCall_2 23 rfl rfl)
theorem dX5_putsCall_69 : decode cX5_putsCall 69 = .ok (.dup, 1) := dk_89 (dk_at dksX5_putsCall_3 0 rfl rfl)
theorem dX5_putsCall_70 : decode cX5_putsCall 70 = .ok (.getfield 170, 3) := dk_180 0 170 (dk_at dksX5_putsCall_3 1 rfl rfl)
theorem dX5_putsCall_73 : decode cX5_putsCall 73 = .ok (.iconst 1, 1) := dk_4 (dk_at dksX5_putsCall_3 4 rfl rfl)
theorem dX5_putsCall_74 : decode cX5_putsCall 74 = .ok (.iload_n 2, 1) := dk_28 (dk_at dksX5_putsCall_3 5 rfl rfl)
theorem dX5_putsCall_75 : decode cX5_putsCall 75 = .ok (.isub, 1) := dk_100 (dk_at dksX5_putsCall_3 6 rfl rfl)
theorem dX5_putsCall_76 : decode cX5_putsCall 76 = .ok (.iadd, 1) := dk_96 (dk_at dksX5_putsCall_3 7 rfl rfl)
theorem dX5_putsCall_77 : decode cX5_putsCall 77 = .ok (.putfield 170, 3) := dk_181 0 170 (dk_at dksX5_putsCall_3 8 rfl rfl)
theorem dX5_putsCall_80 : decode cX5_putsCall 80 = .ok (.aload_n 0, 1) := dk_42 (dk_at dksX5_putsCall_3 11 rfl rfl)
theorem dX5_putsCall_81 : decode cX5_putsCall 81 = .ok (.getfield 31, 3) := dk_180 0 31 (dk_at dksX5_putsCall_3 12 rfl rfl)
theorem dX5_putsCall_84 : decode cX5_putsCall 84 = .ok (.aload_n 0, 1) := dk_42 (dk_at dksX5_putsCall_3 15 rfl rfl)
theorem dX5_putsCall_85 : decode cX5_putsCall 85 = .ok (.getfield 170, 3) := dk_180 0 170 (dk_at dksX5_putsCall_3 16 rfl rfl)
theorem dX5_putsCall_88 : decode cX5_putsCall 88 = .ok (.aload_n 0, 1) := dk_42 (dk_at dksX5_putsCall_3 19 rfl rfl)
theorem dX5_putsCall_89 : decode cX5_putsCall 89 = .ok (.getfield 173, 3) := dk_180 0 173 (dk_at dksX5_putsCall_3 20 rfl rfl)
theorem dX5_putsCall_92 : decode cX5_putsCall 92 = .ok (.iastore, 1) := dk_79 (dk_at dksX5_putsCall_3 23 rfl rfl)
theorem dX5_putsCall_93 : decode cX5_putsCall 93 = .ok (.return_, 1) := dk_177 (dk_at dksX5_putsCall_4 0 rfl rfl)
abbrev cX5_adapterFor : ByteArray := prog_10_method_48_code
def yX5_adapterFor : MethodName := ⟨RX5, "adapterFor", "(I)I"⟩
def dkwX5_adapterFor_5 : List UInt8 := [180, 0, 7, 16, 116, 46, 4, 100, 172]
abbrev dktX5_adapterFor_5 : List UInt8 := dkwX5_adapterFor_5 ++ []
def dkwX5_adapterFor_4 : List UInt8 := [42, 180, 0, 7, 29, 16, 7, 96, 27, 79, 42, 180, 0, 7, 16, 116, 92, 46, 4, 96, 79, 42]
abbrev dktX5_adapterFor_4 : List UInt8 := dkwX5_adapterFor_4 ++ dktX5_adapterFor_5
def dkwX5_adapterFor_3 : List UInt8 := [21, 4, 96, 42, 180, 0, 7, 3, 16, 7, 27, 104, 96, 21, 4, 96, 46, 79, 132, 4, 1, 167, 255, 223]
abbrev dktX5_adapterFor_3 : List UInt8 := dkwX5_adapterFor_3 ++ dktX5_adapterFor_4
def dkwX5_adapterFor_2 : List UInt8 := [180, 0, 7, 16, 116, 46, 104, 96, 62, 3, 54, 4, 21, 4, 16, 7, 162, 0, 32, 42, 180, 0, 7, 29]
abbrev dktX5_adapterFor_2 : List UInt8 := dkwX5_adapterFor_2 ++ dktX5_adapterFor_3
def dkwX5_adapterFor_1 : List UInt8 := [180, 0, 7, 16, 116, 46, 7, 160, 0, 5, 2, 172, 28, 2, 159, 0, 5, 28, 172, 16, 84, 16, 8, 42]
abbrev dktX5_adapterFor_1 : List UInt8 := dkwX5_adapterFor_1 ++ dktX5_adapterFor_2
def dkwX5_adapterFor_0 : List UInt8 := [42, 27, 182, 0, 108, 61, 42, 180, 0, 7, 17, 0, 147, 46, 153, 0, 19, 28, 2, 160, 0, 16, 42]
abbrev dktX5_adapterFor_0 : List UInt8 := dkwX5_adapterFor_0 ++ dktX5_adapterFor_1
theorem dksX5_adapterFor_0 : cX5_adapterFor.data.toList.drop 0 = dktX5_adapterFor_0 := by decide +kernel
theorem dksX5_adapterFor_1 : cX5_adapterFor.data.toList.drop 23 = dktX5_adapterFor_1 := dk_seg dksX5_adapterFor_0 23 rfl rfl
theorem dksX5_adapterFor_2 : cX5_adapterFor.data.toList.drop 47 = dktX5_adapterFor_2 := dk_seg dksX5_adapterFor_1 24 rfl rfl
theorem dksX5_adapterFor_3 : cX5_adapterFor.data.toList.drop 71 = dktX5_adapterFor_3 := dk_seg dksX5_adapterFor_2 24 rfl rfl
theorem dksX5_adapterFor_4 : cX5_adapterFor.data.toList.drop 95 = dktX5_adapterFor_4 := dk_seg dksX5_adapterFor_3 24 rfl rfl
theorem dksX5_adapterFor_5 : cX5_adapterFor.data.toList.drop 117 = dktX5_adapterFor_5 := dk_seg dksX5_adapterFor_4 22 rfl rfl
theorem dX5_adapterFor_0 : decode cX5_adapterFor 0 = .ok (.aload_n 0, 1) := dk_42 (dk_at dksX5_adapterFor_0 0 rfl rfl)
theorem dX5_adapterFor_1 : decode cX5_adapterFor 1 = .ok (.iload_n 1, 1) := dk_27 (dk_at dksX5_adapterFor_0 1 rfl rfl)
theorem dX5_adapterFor_2 : decode cX5_adapterFor 2 = .ok (.invokevirtual 108, 3) := dk_182 0 108 (dk_at dksX5_adapterFor_0 2 rfl rfl)
theorem dX5_adapterFor_5 : decode cX5_adapterFor 5 = .ok (.istore_n 2, 1) := dk_61 (dk_at dksX5_adapterFor_0 5 rfl rfl)
theorem dX5_adapterFor_6 : decode cX5_adapterFor 6 = .ok (.aload_n 0, 1) := dk_42 (dk_at dksX5_adapterFor_0 6 rfl rfl)
theorem dX5_adapterFor_7 : decode cX5_adapterFor 7 = .ok (.getfield 7, 3) := dk_180 0 7 (dk_at dksX5_adapterFor_0 7 rfl rfl)
theorem dX5_adapterFor_10 : decode cX5_adapterFor 10 = .ok (.sipush 147, 3) := dk_17 0 147 (dk_at dksX5_adapterFor_0 10 rfl rfl)
theorem dX5_adapterFor_13 : decode cX5_adapterFor 13 = .ok (.iaload, 1) := dk_46 (dk_at dksX5_adapterFor_0 13 rfl rfl)
theorem dX5_adapterFor_14 : decode cX5_adapterFor 14 = .ok (.ifCond .eq 19, 3) := dk_153 0 19 (dk_at dksX5_adapterFor_0 14 rfl rfl)
theorem dX5_adapterFor_17 : decode cX5_adapterFor 17 = .ok (.iload_n 2, 1) := dk_28 (dk_at dksX5_adapterFor_0 17 rfl rfl)
theorem dX5_adapterFor_18 : decode cX5_adapterFor 18 = .ok (.iconst (-1), 1) := dk_2 (dk_at dksX5_adapterFor_0 18 rfl rfl)
theorem dX5_adapterFor_19 : decode cX5_adapterFor 19 = .ok (.if_icmp .ne 16, 3) := dk_160 0 16 (dk_at dksX5_adapterFor_0 19 rfl rfl)
theorem dX5_adapterFor_22 : decode cX5_adapterFor 22 = .ok (.aload_n 0, 1) := dk_42 (dk_at dksX5_adapterFor_0 22 rfl rfl)
theorem dX5_adapterFor_23 : decode cX5_adapterFor 23 = .ok (.getfield 7, 3) := dk_180 0 7 (dk_at dksX5_adapterFor_1 0 rfl rfl)
theorem dX5_adapterFor_26 : decode cX5_adapterFor 26 = .ok (.bipush 116, 2) := dk_16 116 (dk_at dksX5_adapterFor_1 3 rfl rfl)
theorem dX5_adapterFor_28 : decode cX5_adapterFor 28 = .ok (.iaload, 1) := dk_46 (dk_at dksX5_adapterFor_1 5 rfl rfl)
theorem dX5_adapterFor_29 : decode cX5_adapterFor 29 = .ok (.iconst 4, 1) := dk_7 (dk_at dksX5_adapterFor_1 6 rfl rfl)
theorem dX5_adapterFor_30 : decode cX5_adapterFor 30 = .ok (.if_icmp .ne 5, 3) := dk_160 0 5 (dk_at dksX5_adapterFor_1 7 rfl rfl)
theorem dX5_adapterFor_33 : decode cX5_adapterFor 33 = .ok (.iconst (-1), 1) := dk_2 (dk_at dksX5_adapterFor_1 10 rfl rfl)
theorem dX5_adapterFor_34 : decode cX5_adapterFor 34 = .ok (.ireturn, 1) := dk_172 (dk_at dksX5_adapterFor_1 11 rfl rfl)
theorem dX5_adapterFor_35 : decode cX5_adapterFor 35 = .ok (.iload_n 2, 1) := dk_28 (dk_at dksX5_adapterFor_1 12 rfl rfl)
theorem dX5_adapterFor_36 : decode cX5_adapterFor 36 = .ok (.iconst (-1), 1) := dk_2 (dk_at dksX5_adapterFor_1 13 rfl rfl)
theorem dX5_adapterFor_37 : decode cX5_adapterFor 37 = .ok (.if_icmp .eq 5, 3) := dk_159 0 5 (dk_at dksX5_adapterFor_1 14 rfl rfl)
theorem dX5_adapterFor_40 : decode cX5_adapterFor 40 = .ok (.iload_n 2, 1) := dk_28 (dk_at dksX5_adapterFor_1 17 rfl rfl)
theorem dX5_adapterFor_41 : decode cX5_adapterFor 41 = .ok (.ireturn, 1) := dk_172 (dk_at dksX5_adapterFor_1 18 rfl rfl)
theorem dX5_adapterFor_42 : decode cX5_adapterFor 42 = .ok (.bipush 84, 2) := dk_16 84 (dk_at dksX5_adapterFor_1 19 rfl rfl)
theorem dX5_adapterFor_44 : decode cX5_adapterFor 44 = .ok (.bipush 8, 2) := dk_16 8 (dk_at dksX5_adapterFor_1 21 rfl rfl)
theorem dX5_adapterFor_46 : decode cX5_adapterFor 46 = .ok (.aload_n 0, 1) := dk_42 (dk_at dksX5_adapterFor_1 23 rfl rfl)
theorem dX5_adapterFor_47 : decode cX5_adapterFor 47 = .ok (.getfield 7, 3) := dk_180 0 7 (dk_at dksX5_adapterFor_2 0 rfl rfl)
theorem dX5_adapterFor_50 : decode cX5_adapterFor 50 = .ok (.bipush 116, 2) := dk_16 116 (dk_at dksX5_adapterFor_2 3 rfl rfl)
theorem dX5_adapterFor_52 : decode cX5_adapterFor 52 = .ok (.iaload, 1) := dk_46 (dk_at dksX5_adapterFor_2 5 rfl rfl)
theorem dX5_adapterFor_53 : decode cX5_adapterFor 53 = .ok (.imul, 1) := dk_104 (dk_at dksX5_adapterFor_2 6 rfl rfl)
theorem dX5_adapterFor_54 : decode cX5_adapterFor 54 = .ok (.iadd, 1) := dk_96 (dk_at dksX5_adapterFor_2 7 rfl rfl)
theorem dX5_adapterFor_55 : decode cX5_adapterFor 55 = .ok (.istore_n 3, 1) := dk_62 (dk_at dksX5_adapterFor_2 8 rfl rfl)
theorem dX5_adapterFor_56 : decode cX5_adapterFor 56 = .ok (.iconst 0, 1) := dk_3 (dk_at dksX5_adapterFor_2 9 rfl rfl)
theorem dX5_adapterFor_57 : decode cX5_adapterFor 57 = .ok (.istore 4, 2) := dk_54 4 (dk_at dksX5_adapterFor_2 10 rfl rfl)
theorem dX5_adapterFor_59 : decode cX5_adapterFor 59 = .ok (.iload 4, 2) := dk_21 4 (dk_at dksX5_adapterFor_2 12 rfl rfl)
theorem dX5_adapterFor_61 : decode cX5_adapterFor 61 = .ok (.bipush 7, 2) := dk_16 7 (dk_at dksX5_adapterFor_2 14 rfl rfl)
theorem dX5_adapterFor_63 : decode cX5_adapterFor 63 = .ok (.if_icmp .ge 32, 3) := dk_162 0 32 (dk_at dksX5_adapterFor_2 16 rfl rfl)
theorem dX5_adapterFor_66 : decode cX5_adapterFor 66 = .ok (.aload_n 0, 1) := dk_42 (dk_at dksX5_adapterFor_2 19 rfl rfl)
theorem dX5_adapterFor_67 : decode cX5_adapterFor 67 = .ok (.getfield 7, 3) := dk_180 0 7 (dk_at dksX5_adapterFor_2 20 rfl rfl)
theorem dX5_adapterFor_70 : decode cX5_adapterFor 70 = .ok (.iload_n 3, 1) := dk_29 (dk_at dksX5_adapterFor_2 23 rfl rfl)
theorem dX5_adapterFor_71 : decode cX5_adapterFor 71 = .ok (.iload 4, 2) := dk_21 4 (dk_at dksX5_adapterFor_3 0 rfl rfl)
theorem dX5_adapterFor_73 : decode cX5_adapterFor 73 = .ok (.iadd, 1) := dk_96 (dk_at dksX5_adapterFor_3 2 rfl rfl)
theorem dX5_adapterFor_74 : decode cX5_adapterFor 74 = .ok (.aload_n 0, 1) := dk_42 (dk_at dksX5_adapterFor_3 3 rfl rfl)
theorem dX5_adapterFor_75 : decode cX5_adapterFor 75 = .ok (.getfield 7, 3) := dk_180 0 7 (dk_at dksX5_adapterFor_3 4 rfl rfl)
theorem dX5_adapterFor_78 : decode cX5_adapterFor 78 = .ok (.iconst 0, 1) := dk_3 (dk_at dksX5_adapterFor_3 7 rfl rfl)
theorem dX5_adapterFor_79 : decode cX5_adapterFor 79 = .ok (.bipush 7, 2) := dk_16 7 (dk_at dksX5_adapterFor_3 8 rfl rfl)
theorem dX5_adapterFor_81 : decode cX5_adapterFor 81 = .ok (.iload_n 1, 1) := dk_27 (dk_at dksX5_adapterFor_3 10 rfl rfl)
theorem dX5_adapterFor_82 : decode cX5_adapterFor 82 = .ok (.imul, 1) := dk_104 (dk_at dksX5_adapterFor_3 11 rfl rfl)
theorem dX5_adapterFor_83 : decode cX5_adapterFor 83 = .ok (.iadd, 1) := dk_96 (dk_at dksX5_adapterFor_3 12 rfl rfl)
theorem dX5_adapterFor_84 : decode cX5_adapterFor 84 = .ok (.iload 4, 2) := dk_21 4 (dk_at dksX5_adapterFor_3 13 rfl rfl)
theorem dX5_adapterFor_86 : decode cX5_adapterFor 86 = .ok (.iadd, 1) := dk_96 (dk_at dksX5_adapterFor_3 15 rfl rfl)
theorem dX5_adapterFor_87 : decode cX5_adapterFor 87 = .ok (.iaload, 1) := dk_46 (dk_at dksX5_adapterFor_3 16 rfl rfl)
theorem dX5_adapterFor_88 : decode cX5_adapterFor 88 = .ok (.iastore, 1) := dk_79 (dk_at dksX5_adapterFor_3 17 rfl rfl)
theorem dX5_adapterFor_89 : decode cX5_adapterFor 89 = .ok (.iinc 4 1, 3) := dk_132 4 1 (dk_at dksX5_adapterFor_3 18 rfl rfl)
theorem dX5_adapterFor_92 : decode cX5_adapterFor 92 = .ok (.goto (-33), 3) := dk_167 255 223 (dk_at dksX5_adapterFor_3 21 rfl rfl)
theorem dX5_adapterFor_95 : decode cX5_adapterFor 95 = .ok (.aload_n 0, 1) := dk_42 (dk_at dksX5_adapterFor_4 0 rfl rfl)
theorem dX5_adapterFor_96 : decode cX5_adapterFor 96 = .ok (.getfield 7, 3) := dk_180 0 7 (dk_at dksX5_adapterFor_4 1 rfl rfl)
theorem dX5_adapterFor_99 : decode cX5_adapterFor 99 = .ok (.iload_n 3, 1) := dk_29 (dk_at dksX5_adapterFor_4 4 rfl rfl)
theorem dX5_adapterFor_100 : decode cX5_adapterFor 100 = .ok (.bipush 7, 2) := dk_16 7 (dk_at dksX5_adapterFor_4 5 rfl rfl)
theorem dX5_adapterFor_102 : decode cX5_adapterFor 102 = .ok (.iadd, 1) := dk_96 (dk_at dksX5_adapterFor_4 7 rfl rfl)
theorem dX5_adapterFor_103 : decode cX5_adapterFor 103 = .ok (.iload_n 1, 1) := dk_27 (dk_at dksX5_adapterFor_4 8 rfl rfl)
theorem dX5_adapterFor_104 : decode cX5_adapterFor 104 = .ok (.iastore, 1) := dk_79 (dk_at dksX5_adapterFor_4 9 rfl rfl)
theorem dX5_adapterFor_105 : decode cX5_adapterFor 105 = .ok (.aload_n 0, 1) := dk_42 (dk_at dksX5_adapterFor_4 10 rfl rfl)
theorem dX5_adapterFor_106 : decode cX5_adapterFor 106 = .ok (.getfield 7, 3) := dk_180 0 7 (dk_at dksX5_adapterFor_4 11 rfl rfl)
theorem dX5_adapterFor_109 : decode cX5_adapterFor 109 = .ok (.bipush 116, 2) := dk_16 116 (dk_at dksX5_adapterFor_4 14 rfl rfl)
theorem dX5_adapterFor_111 : decode cX5_adapterFor 111 = .ok (.dup2, 1) := dk_92 (dk_at dksX5_adapterFor_4 16 rfl rfl)
theorem dX5_adapterFor_112 : decode cX5_adapterFor 112 = .ok (.iaload, 1) := dk_46 (dk_at dksX5_adapterFor_4 17 rfl rfl)
theorem dX5_adapterFor_113 : decode cX5_adapterFor 113 = .ok (.iconst 1, 1) := dk_4 (dk_at dksX5_adapterFor_4 18 rfl rfl)
theorem dX5_adapterFor_114 : decode cX5_adapterFor 114 = .ok (.iadd, 1) := dk_96 (dk_at dksX5_adapterFor_4 19 rfl rfl)
theorem dX5_adapterFor_115 : decode cX5_adapterFor 115 = .ok (.iastore, 1) := dk_79 (dk_at dksX5_adapterFor_4 20 rfl rfl)
theorem dX5_adapterFor_116 : decode cX5_adapterFor 116 = .ok (.aload_n 0, 1) := dk_42 (dk_at dksX5_adapterFor_4 21 rfl rfl)
theorem dX5_adapterFor_117 : decode cX5_adapterFor 117 = .ok (.getfield 7, 3) := dk_180 0 7 (dk_at dksX5_adapterFor_5 0 rfl rfl)
theorem dX5_adapterFor_120 : decode cX5_adapterFor 120 = .ok (.bipush 116, 2) := dk_16 116 (dk_at dksX5_adapterFor_5 3 rfl rfl)
theorem dX5_adapterFor_122 : decode cX5_adapterFor 122 = .ok (.iaload, 1) := dk_46 (dk_at dksX5_adapterFor_5 5 rfl rfl)
theorem dX5_adapterFor_123 : decode cX5_adapterFor 123 = .ok (.iconst 1, 1) := dk_4 (dk_at dksX5_adapterFor_5 6 rfl rfl)
theorem dX5_adapterFor_124 : decode cX5_adapterFor 124 = .ok (.isub, 1) := dk_100 (dk_at dksX5_adapterFor_5 7 rfl rfl)
theorem dX5_adapterFor_125 : decode cX5_adapterFor 125 = .ok (.ireturn, 1) := dk_172 (dk_at dksX5_adapterFor_5 8 rfl rfl)
abbrev cX5_reason : ByteArray := prog_10_method_44_code
def yX5_reason : MethodName := ⟨RX5, "reason", "(I)I"⟩
def dkwX5_reason_9 : List UInt8 := [164, 0, 8, 16, 7, 167, 0, 4, 3, 172]
abbrev dktX5_reason_9 : List UInt8 := dkwX5_reason_9 ++ []
def dkwX5_reason_8 : List UInt8 := [180, 0, 185, 42, 29, 42, 180, 0, 170, 182, 0, 188, 100, 42, 28, 29, 182, 0, 191, 96, 16, 30]
abbrev dktX5_reason_8 : List UInt8 := dkwX5_reason_8 ++ dktX5_reason_9
def dkwX5_reason_7 : List UInt8 := [153, 0, 17, 21, 8, 21, 6, 162, 0, 6, 16, 6, 172, 21, 8, 54, 6, 132, 7, 1, 167, 255, 202, 42]
abbrev dktX5_reason_7 : List UInt8 := dkwX5_reason_7 ++ dktX5_reason_8
def dkwX5_reason_6 : List UInt8 := [21, 7, 182, 0, 92, 54, 8, 21, 8, 16, 100, 162, 0, 28, 42, 29, 21, 8, 96, 182, 0, 179]
abbrev dktX5_reason_6 : List UInt8 := dkwX5_reason_6 ++ dktX5_reason_7
def dkwX5_reason_5 : List UInt8 := [167, 0, 4, 8, 172, 2, 54, 6, 3, 54, 7, 21, 7, 42, 28, 182, 0, 89, 162, 0, 50, 42, 28]
abbrev dktX5_reason_5 : List UInt8 := dkwX5_reason_5 ++ dktX5_reason_6
def dkwX5_reason_4 : List UInt8 := [54, 5, 132, 6, 1, 167, 255, 177, 21, 4, 154, 0, 8, 21, 5, 153, 0, 14, 21, 4, 153, 0, 7, 7]
abbrev dktX5_reason_4 : List UInt8 := dkwX5_reason_4 ++ dktX5_reason_5
def dkwX5_reason_3 : List UInt8 := [21, 6, 96, 182, 0, 179, 153, 0, 17, 42, 28, 21, 6, 182, 0, 182, 154, 0, 7, 4, 167, 0, 4, 3]
abbrev dktX5_reason_3 : List UInt8 := dkwX5_reason_3 ++ dktX5_reason_4
def dkwX5_reason_2 : List UInt8 := [21, 6, 182, 0, 182, 4, 164, 0, 7, 4, 167, 0, 4, 3, 54, 4, 21, 5, 154, 0, 24, 42, 29]
abbrev dktX5_reason_2 : List UInt8 := dkwX5_reason_2 ++ dktX5_reason_3
def dkwX5_reason_1 : List UInt8 := [184, 0, 167, 162, 0, 76, 21, 4, 154, 0, 25, 42, 29, 21, 6, 96, 182, 0, 179, 153, 0, 18, 42, 28]
abbrev dktX5_reason_1 : List UInt8 := dkwX5_reason_1 ++ dktX5_reason_2
def dkwX5_reason_0 : List UInt8 := [27, 184, 0, 114, 61, 42, 27, 182, 0, 176, 62, 3, 54, 4, 3, 54, 5, 3, 54, 6, 21, 6, 27]
abbrev dktX5_reason_0 : List UInt8 := dkwX5_reason_0 ++ dktX5_reason_1
theorem dksX5_reason_0 : cX5_reason.data.toList.drop 0 = dktX5_reason_0 := by decide +kernel
theorem dksX5_reason_1 : cX5_reason.data.toList.drop 23 = dktX5_reason_1 := dk_seg dksX5_reason_0 23 rfl rfl
theorem dksX5_reason_2 : cX5_reason.data.toList.drop 47 = dktX5_reason_2 := dk_seg dksX5_reason_1 24 rfl rfl
theorem dksX5_reason_3 : cX5_reason.data.toList.drop 70 = dktX5_reason_3 := dk_seg dksX5_reason_2 23 rfl rfl
theorem dksX5_reason_4 : cX5_reason.data.toList.drop 94 = dktX5_reason_4 := dk_seg dksX5_reason_3 24 rfl rfl
theorem dksX5_reason_5 : cX5_reason.data.toList.drop 118 = dktX5_reason_5 := dk_seg dksX5_reason_4 24 rfl rfl
theorem dksX5_reason_6 : cX5_reason.data.toList.drop 141 = dktX5_reason_6 := dk_seg dksX5_reason_5 23 rfl rfl
theorem dksX5_reason_7 : cX5_reason.data.toList.drop 163 = dktX5_reason_7 := dk_seg dksX5_reason_6 22 rfl rfl
theorem dksX5_reason_8 : cX5_reason.data.toList.drop 187 = dktX5_reason_8 := dk_seg dksX5_reason_7 24 rfl rfl
theorem dksX5_reason_9 : cX5_reason.data.toList.drop 209 = dktX5_reason_9 := dk_seg dksX5_reason_8 22 rfl rfl
theorem dX5_reason_0 : decode cX5_reason 0 = .ok (.iload_n 1, 1) := dk_27 (dk_at dksX5_reason_0 0 rfl rfl)
theorem dX5_reason_1 : decode cX5_reason 1 = .ok (.invokestatic 114, 3) := dk_184 0 114 (dk_at dksX5_reason_0 1 rfl rfl)
theorem dX5_reason_4 : decode cX5_reason 4 = .ok (.istore_n 2, 1) := dk_61 (dk_at dksX5_reason_0 4 rfl rfl)
theorem dX5_reason_5 : decode cX5_reason 5 = .ok (.aload_n 0, 1) := dk_42 (dk_at dksX5_reason_0 5 rfl rfl)
theorem dX5_reason_6 : decode cX5_reason 6 = .ok (.iload_n 1, 1) := dk_27 (dk_at dksX5_reason_0 6 rfl rfl)
theorem dX5_reason_7 : decode cX5_reason 7 = .ok (.invokevirtual 176, 3) := dk_182 0 176 (dk_at dksX5_reason_0 7 rfl rfl)
theorem dX5_reason_10 : decode cX5_reason 10 = .ok (.istore_n 3, 1) := dk_62 (dk_at dksX5_reason_0 10 rfl rfl)
theorem dX5_reason_11 : decode cX5_reason 11 = .ok (.iconst 0, 1) := dk_3 (dk_at dksX5_reason_0 11 rfl rfl)
theorem dX5_reason_12 : decode cX5_reason 12 = .ok (.istore 4, 2) := dk_54 4 (dk_at dksX5_reason_0 12 rfl rfl)
theorem dX5_reason_14 : decode cX5_reason 14 = .ok (.iconst 0, 1) := dk_3 (dk_at dksX5_reason_0 14 rfl rfl)
theorem dX5_reason_15 : decode cX5_reason 15 = .ok (.istore 5, 2) := dk_54 5 (dk_at dksX5_reason_0 15 rfl rfl)
theorem dX5_reason_17 : decode cX5_reason 17 = .ok (.iconst 0, 1) := dk_3 (dk_at dksX5_reason_0 17 rfl rfl)
theorem dX5_reason_18 : decode cX5_reason 18 = .ok (.istore 6, 2) := dk_54 6 (dk_at dksX5_reason_0 18 rfl rfl)
theorem dX5_reason_20 : decode cX5_reason 20 = .ok (.iload 6, 2) := dk_21 6 (dk_at dksX5_reason_0 20 rfl rfl)
theorem dX5_reason_22 : decode cX5_reason 22 = .ok (.iload_n 1, 1) := dk_27 (dk_at dksX5_reason_0 22 rfl rfl)
theorem dX5_reason_23 : decode cX5_reason 23 = .ok (.invokestatic 167, 3) := dk_184 0 167 (dk_at dksX5_reason_1 0 rfl rfl)
theorem dX5_reason_26 : decode cX5_reason 26 = .ok (.if_icmp .ge 76, 3) := dk_162 0 76 (dk_at dksX5_reason_1 3 rfl rfl)
theorem dX5_reason_29 : decode cX5_reason 29 = .ok (.iload 4, 2) := dk_21 4 (dk_at dksX5_reason_1 6 rfl rfl)
theorem dX5_reason_31 : decode cX5_reason 31 = .ok (.ifCond .ne 25, 3) := dk_154 0 25 (dk_at dksX5_reason_1 8 rfl rfl)
theorem dX5_reason_34 : decode cX5_reason 34 = .ok (.aload_n 0, 1) := dk_42 (dk_at dksX5_reason_1 11 rfl rfl)
theorem dX5_reason_35 : decode cX5_reason 35 = .ok (.iload_n 3, 1) := dk_29 (dk_at dksX5_reason_1 12 rfl rfl)
theorem dX5_reason_36 : decode cX5_reason 36 = .ok (.iload 6, 2) := dk_21 6 (dk_at dksX5_reason_1 13 rfl rfl)
theorem dX5_reason_38 : decode cX5_reason 38 = .ok (.iadd, 1) := dk_96 (dk_at dksX5_reason_1 15 rfl rfl)
theorem dX5_reason_39 : decode cX5_reason 39 = .ok (.invokevirtual 179, 3) := dk_182 0 179 (dk_at dksX5_reason_1 16 rfl rfl)
theorem dX5_reason_42 : decode cX5_reason 42 = .ok (.ifCond .eq 18, 3) := dk_153 0 18 (dk_at dksX5_reason_1 19 rfl rfl)
theorem dX5_reason_45 : decode cX5_reason 45 = .ok (.aload_n 0, 1) := dk_42 (dk_at dksX5_reason_1 22 rfl rfl)
theorem dX5_reason_46 : decode cX5_reason 46 = .ok (.iload_n 2, 1) := dk_28 (dk_at dksX5_reason_1 23 rfl rfl)
theorem dX5_reason_47 : decode cX5_reason 47 = .ok (.iload 6, 2) := dk_21 6 (dk_at dksX5_reason_2 0 rfl rfl)
theorem dX5_reason_49 : decode cX5_reason 49 = .ok (.invokevirtual 182, 3) := dk_182 0 182 (dk_at dksX5_reason_2 2 rfl rfl)
theorem dX5_reason_52 : decode cX5_reason 52 = .ok (.iconst 1, 1) := dk_4 (dk_at dksX5_reason_2 5 rfl rfl)
theorem dX5_reason_53 : decode cX5_reason 53 = .ok (.if_icmp .le 7, 3) := dk_164 0 7 (dk_at dksX5_reason_2 6 rfl rfl)
theorem dX5_reason_56 : decode cX5_reason 56 = .ok (.iconst 1, 1) := dk_4 (dk_at dksX5_reason_2 9 rfl rfl)
theorem dX5_reason_57 : decode cX5_reason 57 = .ok (.goto 4, 3) := dk_167 0 4 (dk_at dksX5_reason_2 10 rfl rfl)
theorem dX5_reason_60 : decode cX5_reason 60 = .ok (.iconst 0, 1) := dk_3 (dk_at dksX5_reason_2 13 rfl rfl)
theorem dX5_reason_61 : decode cX5_reason 61 = .ok (.istore 4, 2) := dk_54 4 (dk_at dksX5_reason_2 14 rfl rfl)
theorem dX5_reason_63 : decode cX5_reason 63 = .ok (.iload 5, 2) := dk_21 5 (dk_at dksX5_reason_2 16 rfl rfl)
theorem dX5_reason_65 : decode cX5_reason 65 = .ok (.ifCond .ne 24, 3) := dk_154 0 24 (dk_at dksX5_reason_2 18 rfl rfl)
theorem dX5_reason_68 : decode cX5_reason 68 = .ok (.aload_n 0, 1) := dk_42 (dk_at dksX5_reason_2 21 rfl rfl)
theorem dX5_reason_69 : decode cX5_reason 69 = .ok (.iload_n 3, 1) := dk_29 (dk_at dksX5_reason_2 22 rfl rfl)
theorem dX5_reason_70 : decode cX5_reason 70 = .ok (.iload 6, 2) := dk_21 6 (dk_at dksX5_reason_3 0 rfl rfl)
theorem dX5_reason_72 : decode cX5_reason 72 = .ok (.iadd, 1) := dk_96 (dk_at dksX5_reason_3 2 rfl rfl)
theorem dX5_reason_73 : decode cX5_reason 73 = .ok (.invokevirtual 179, 3) := dk_182 0 179 (dk_at dksX5_reason_3 3 rfl rfl)
theorem dX5_reason_76 : decode cX5_reason 76 = .ok (.ifCond .eq 17, 3) := dk_153 0 17 (dk_at dksX5_reason_3 6 rfl rfl)
theorem dX5_reason_79 : decode cX5_reason 79 = .ok (.aload_n 0, 1) := dk_42 (dk_at dksX5_reason_3 9 rfl rfl)
theorem dX5_reason_80 : decode cX5_reason 80 = .ok (.iload_n 2, 1) := dk_28 (dk_at dksX5_reason_3 10 rfl rfl)
theorem dX5_reason_81 : decode cX5_reason 81 = .ok (.iload 6, 2) := dk_21 6 (dk_at dksX5_reason_3 11 rfl rfl)
theorem dX5_reason_83 : decode cX5_reason 83 = .ok (.invokevirtual 182, 3) := dk_182 0 182 (dk_at dksX5_reason_3 13 rfl rfl)
theorem dX5_reason_86 : decode cX5_reason 86 = .ok (.ifCond .ne 7, 3) := dk_154 0 7 (dk_at dksX5_reason_3 16 rfl rfl)
theorem dX5_reason_89 : decode cX5_reason 89 = .ok (.iconst 1, 1) := dk_4 (dk_at dksX5_reason_3 19 rfl rfl)
theorem dX5_reason_90 : decode cX5_reason 90 = .ok (.goto 4, 3) := dk_167 0 4 (dk_at dksX5_reason_3 20 rfl rfl)
theorem dX5_reason_93 : decode cX5_reason 93 = .ok (.iconst 0, 1) := dk_3 (dk_at dksX5_reason_3 23 rfl rfl)
theorem dX5_reason_94 : decode cX5_reason 94 = .ok (.istore 5, 2) := dk_54 5 (dk_at dksX5_reason_4 0 rfl rfl)
theorem dX5_reason_96 : decode cX5_reason 96 = .ok (.iinc 6 1, 3) := dk_132 6 1 (dk_at dksX5_reason_4 2 rfl rfl)
theorem dX5_reason_99 : decode cX5_reason 99 = .ok (.goto (-79), 3) := dk_167 255 177 (dk_at dksX5_reason_4 5 rfl rfl)
theorem dX5_reason_102 : decode cX5_reason 102 = .ok (.iload 4, 2) := dk_21 4 (dk_at dksX5_reason_4 8 rfl rfl)
theorem dX5_reason_104 : decode cX5_reason 104 = .ok (.ifCond .ne 8, 3) := dk_154 0 8 (dk_at dksX5_reason_4 10 rfl rfl)
theorem dX5_reason_107 : decode cX5_reason 107 = .ok (.iload 5, 2) := dk_21 5 (dk_at dksX5_reason_4 13 rfl rfl)
theorem dX5_reason_109 : decode cX5_reason 109 = .ok (.ifCond .eq 14, 3) := dk_153 0 14 (dk_at dksX5_reason_4 15 rfl rfl)
theorem dX5_reason_112 : decode cX5_reason 112 = .ok (.iload 4, 2) := dk_21 4 (dk_at dksX5_reason_4 18 rfl rfl)
theorem dX5_reason_114 : decode cX5_reason 114 = .ok (.ifCond .eq 7, 3) := dk_153 0 7 (dk_at dksX5_reason_4 20 rfl rfl)
theorem dX5_reason_117 : decode cX5_reason 117 = .ok (.iconst 4, 1) := dk_7 (dk_at dksX5_reason_4 23 rfl rfl)
theorem dX5_reason_118 : decode cX5_reason 118 = .ok (.goto 4, 3) := dk_167 0 4 (dk_at dksX5_reason_5 0 rfl rfl)
theorem dX5_reason_121 : decode cX5_reason 121 = .ok (.iconst 5, 1) := dk_8 (dk_at dksX5_reason_5 3 rfl rfl)
theorem dX5_reason_122 : decode cX5_reason 122 = .ok (.ireturn, 1) := dk_172 (dk_at dksX5_reason_5 4 rfl rfl)
theorem dX5_reason_123 : decode cX5_reason 123 = .ok (.iconst (-1), 1) := dk_2 (dk_at dksX5_reason_5 5 rfl rfl)
theorem dX5_reason_124 : decode cX5_reason 124 = .ok (.istore 6, 2) := dk_54 6 (dk_at dksX5_reason_5 6 rfl rfl)
theorem dX5_reason_126 : decode cX5_reason 126 = .ok (.iconst 0, 1) := dk_3 (dk_at dksX5_reason_5 8 rfl rfl)
theorem dX5_reason_127 : decode cX5_reason 127 = .ok (.istore 7, 2) := dk_54 7 (dk_at dksX5_reason_5 9 rfl rfl)
theorem dX5_reason_129 : decode cX5_reason 129 = .ok (.iload 7, 2) := dk_21 7 (dk_at dksX5_reason_5 11 rfl rfl)
theorem dX5_reason_131 : decode cX5_reason 131 = .ok (.aload_n 0, 1) := dk_42 (dk_at dksX5_reason_5 13 rfl rfl)
theorem dX5_reason_132 : decode cX5_reason 132 = .ok (.iload_n 2, 1) := dk_28 (dk_at dksX5_reason_5 14 rfl rfl)
theorem dX5_reason_133 : decode cX5_reason 133 = .ok (.invokevirtual 89, 3) := dk_182 0 89 (dk_at dksX5_reason_5 15 rfl rfl)
theorem dX5_reason_136 : decode cX5_reason 136 = .ok (.if_icmp .ge 50, 3) := dk_162 0 50 (dk_at dksX5_reason_5 18 rfl rfl)
theorem dX5_reason_139 : decode cX5_reason 139 = .ok (.aload_n 0, 1) := dk_42 (dk_at dksX5_reason_5 21 rfl rfl)
theorem dX5_reason_140 : decode cX5_reason 140 = .ok (.iload_n 2, 1) := dk_28 (dk_at dksX5_reason_5 22 rfl rfl)
theorem dX5_reason_141 : decode cX5_reason 141 = .ok (.iload 7, 2) := dk_21 7 (dk_at dksX5_reason_6 0 rfl rfl)
theorem dX5_reason_143 : decode cX5_reason 143 = .ok (.invokevirtual 92, 3) := dk_182 0 92 (dk_at dksX5_reason_6 2 rfl rfl)
theorem dX5_reason_146 : decode cX5_reason 146 = .ok (.istore 8, 2) := dk_54 8 (dk_at dksX5_reason_6 5 rfl rfl)
theorem dX5_reason_148 : decode cX5_reason 148 = .ok (.iload 8, 2) := dk_21 8 (dk_at dksX5_reason_6 7 rfl rfl)
theorem dX5_reason_150 : decode cX5_reason 150 = .ok (.bipush 100, 2) := dk_16 100 (dk_at dksX5_reason_6 9 rfl rfl)
theorem dX5_reason_152 : decode cX5_reason 152 = .ok (.if_icmp .ge 28, 3) := dk_162 0 28 (dk_at dksX5_reason_6 11 rfl rfl)
theorem dX5_reason_155 : decode cX5_reason 155 = .ok (.aload_n 0, 1) := dk_42 (dk_at dksX5_reason_6 14 rfl rfl)
theorem dX5_reason_156 : decode cX5_reason 156 = .ok (.iload_n 3, 1) := dk_29 (dk_at dksX5_reason_6 15 rfl rfl)
theorem dX5_reason_157 : decode cX5_reason 157 = .ok (.iload 8, 2) := dk_21 8 (dk_at dksX5_reason_6 16 rfl rfl)
theorem dX5_reason_159 : decode cX5_reason 159 = .ok (.iadd, 1) := dk_96 (dk_at dksX5_reason_6 18 rfl rfl)
theorem dX5_reason_160 : decode cX5_reason 160 = .ok (.invokevirtual 179, 3) := dk_182 0 179 (dk_at dksX5_reason_6 19 rfl rfl)
theorem dX5_reason_163 : decode cX5_reason 163 = .ok (.ifCond .eq 17, 3) := dk_153 0 17 (dk_at dksX5_reason_7 0 rfl rfl)
theorem dX5_reason_166 : decode cX5_reason 166 = .ok (.iload 8, 2) := dk_21 8 (dk_at dksX5_reason_7 3 rfl rfl)
theorem dX5_reason_168 : decode cX5_reason 168 = .ok (.iload 6, 2) := dk_21 6 (dk_at dksX5_reason_7 5 rfl rfl)
theorem dX5_reason_170 : decode cX5_reason 170 = .ok (.if_icmp .ge 6, 3) := dk_162 0 6 (dk_at dksX5_reason_7 7 rfl rfl)
theorem dX5_reason_173 : decode cX5_reason 173 = .ok (.bipush 6, 2) := dk_16 6 (dk_at dksX5_reason_7 10 rfl rfl)
theorem dX5_reason_175 : decode cX5_reason 175 = .ok (.ireturn, 1) := dk_172 (dk_at dksX5_reason_7 12 rfl rfl)
theorem dX5_reason_176 : decode cX5_reason 176 = .ok (.iload 8, 2) := dk_21 8 (dk_at dksX5_reason_7 13 rfl rfl)
theorem dX5_reason_178 : decode cX5_reason 178 = .ok (.istore 6, 2) := dk_54 6 (dk_at dksX5_reason_7 15 rfl rfl)
theorem dX5_reason_180 : decode cX5_reason 180 = .ok (.iinc 7 1, 3) := dk_132 7 1 (dk_at dksX5_reason_7 17 rfl rfl)
theorem dX5_reason_183 : decode cX5_reason 183 = .ok (.goto (-54), 3) := dk_167 255 202 (dk_at dksX5_reason_7 20 rfl rfl)
theorem dX5_reason_186 : decode cX5_reason 186 = .ok (.aload_n 0, 1) := dk_42 (dk_at dksX5_reason_7 23 rfl rfl)
theorem dX5_reason_187 : decode cX5_reason 187 = .ok (.getfield 185, 3) := dk_180 0 185 (dk_at dksX5_reason_8 0 rfl rfl)
theorem dX5_reason_190 : decode cX5_reason 190 = .ok (.aload_n 0, 1) := dk_42 (dk_at dksX5_reason_8 3 rfl rfl)
theorem dX5_reason_191 : decode cX5_reason 191 = .ok (.iload_n 3, 1) := dk_29 (dk_at dksX5_reason_8 4 rfl rfl)
theorem dX5_reason_192 : decode cX5_reason 192 = .ok (.aload_n 0, 1) := dk_42 (dk_at dksX5_reason_8 5 rfl rfl)
theorem dX5_reason_193 : decode cX5_reason 193 = .ok (.getfield 170, 3) := dk_180 0 170 (dk_at dksX5_reason_8 6 rfl rfl)
theorem dX5_reason_196 : decode cX5_reason 196 = .ok (.invokevirtual 188, 3) := dk_182 0 188 (dk_at dksX5_reason_8 9 rfl rfl)
theorem dX5_reason_199 : decode cX5_reason 199 = .ok (.isub, 1) := dk_100 (dk_at dksX5_reason_8 12 rfl rfl)
theorem dX5_reason_200 : decode cX5_reason 200 = .ok (.aload_n 0, 1) := dk_42 (dk_at dksX5_reason_8 13 rfl rfl)
theorem dX5_reason_201 : decode cX5_reason 201 = .ok (.iload_n 2, 1) := dk_28 (dk_at dksX5_reason_8 14 rfl rfl)
theorem dX5_reason_202 : decode cX5_reason 202 = .ok (.iload_n 3, 1) := dk_29 (dk_at dksX5_reason_8 15 rfl rfl)
theorem dX5_reason_203 : decode cX5_reason 203 = .ok (.invokevirtual 191, 3) := dk_182 0 191 (dk_at dksX5_reason_8 16 rfl rfl)
theorem dX5_reason_206 : decode cX5_reason 206 = .ok (.iadd, 1) := dk_96 (dk_at dksX5_reason_8 19 rfl rfl)
theorem dX5_reason_207 : decode cX5_reason 207 = .ok (.bipush 30, 2) := dk_16 30 (dk_at dksX5_reason_8 20 rfl rfl)
theorem dX5_reason_209 : decode cX5_reason 209 = .ok (.if_icmp .le 8, 3) := dk_164 0 8 (dk_at dksX5_reason_9 0 rfl rfl)
theorem dX5_reason_212 : decode cX5_reason 212 = .ok (.bipush 7, 2) := dk_16 7 (dk_at dksX5_reason_9 3 rfl rfl)
theorem dX5_reason_214 : decode cX5_reason 214 = .ok (.goto 4, 3) := dk_167 0 4 (dk_at dksX5_reason_9 5 rfl rfl)
theorem dX5_reason_217 : decode cX5_reason 217 = .ok (.iconst 0, 1) := dk_3 (dk_at dksX5_reason_9 8 rfl rfl)
theorem dX5_reason_218 : decode cX5_reason 218 = .ok (.ireturn, 1) := dk_172 (dk_at dksX5_reason_9 9 rfl rfl)
abbrev cX5_first : ByteArray := prog_10_method_42_code
def yX5_first : MethodName := ⟨RX5, "first", "(I)I"⟩
def dkwX5_first_0 : List UInt8 := [42, 180, 0, 170, 27, 184, 0, 167, 100, 172]
abbrev dktX5_first_0 : List UInt8 := dkwX5_first_0 ++ []
theorem dksX5_first_0 : cX5_first.data.toList.drop 0 = dktX5_first_0 := by decide +kernel
theorem dX5_first_0 : decode cX5_first 0 = .ok (.aload_n 0, 1) := dk_42 (dk_at dksX5_first_0 0 rfl rfl)
theorem dX5_first_1 : decode cX5_first 1 = .ok (.getfield 170, 3) := dk_180 0 170 (dk_at dksX5_first_0 1 rfl rfl)
theorem dX5_first_4 : decode cX5_first 4 = .ok (.iload_n 1, 1) := dk_27 (dk_at dksX5_first_0 4 rfl rfl)
theorem dX5_first_5 : decode cX5_first 5 = .ok (.invokestatic 167, 3) := dk_184 0 167 (dk_at dksX5_first_0 5 rfl rfl)
theorem dX5_first_8 : decode cX5_first 8 = .ok (.isub, 1) := dk_100 (dk_at dksX5_first_0 8 rfl rfl)
theorem dX5_first_9 : decode cX5_first 9 = .ok (.ireturn, 1) := dk_172 (dk_at dksX5_first_0 9 rfl rfl)
abbrev cX5_hasEffect : ByteArray := prog_10_method_40_code
def yX5_hasEffect : MethodName := ⟨RX5, "hasEffect", "(I)Z"⟩
def dkwX5_hasEffect_3 : List UInt8 := [167, 255, 197, 28, 172]
abbrev dktX5_hasEffect_3 : List UInt8 := dkwX5_hasEffect_3 ++ []
def dkwX5_hasEffect_2 : List UInt8 := [180, 0, 28, 29, 46, 182, 0, 154, 4, 96, 46, 4, 160, 0, 7, 4, 167, 0, 4, 3, 61, 132, 3, 1]
abbrev dktX5_hasEffect_2 : List UInt8 := dkwX5_hasEffect_2 ++ dktX5_hasEffect_3
def dkwX5_hasEffect_1 : List UInt8 := [154, 0, 37, 42, 180, 0, 28, 29, 46, 184, 0, 111, 5, 164, 0, 28, 42, 180, 0, 7, 42, 42]
abbrev dktX5_hasEffect_1 : List UInt8 := dkwX5_hasEffect_1 ++ dktX5_hasEffect_2
def dkwX5_hasEffect_0 : List UInt8 := [3, 61, 42, 180, 0, 31, 27, 46, 62, 29, 42, 180, 0, 31, 27, 4, 96, 46, 162, 0, 53, 28]
abbrev dktX5_hasEffect_0 : List UInt8 := dkwX5_hasEffect_0 ++ dktX5_hasEffect_1
theorem dksX5_hasEffect_0 : cX5_hasEffect.data.toList.drop 0 = dktX5_hasEffect_0 := by decide +kernel
theorem dksX5_hasEffect_1 : cX5_hasEffect.data.toList.drop 22 = dktX5_hasEffect_1 := dk_seg dksX5_hasEffect_0 22 rfl rfl
theorem dksX5_hasEffect_2 : cX5_hasEffect.data.toList.drop 44 = dktX5_hasEffect_2 := dk_seg dksX5_hasEffect_1 22 rfl rfl
theorem dksX5_hasEffect_3 : cX5_hasEffect.data.toList.drop 68 = dktX5_hasEffect_3 := dk_seg dksX5_hasEffect_2 24 rfl rfl
theorem dX5_hasEffect_0 : decode cX5_hasEffect 0 = .ok (.iconst 0, 1) := dk_3 (dk_at dksX5_hasEffect_0 0 rfl rfl)
theorem dX5_hasEffect_1 : decode cX5_hasEffect 1 = .ok (.istore_n 2, 1) := dk_61 (dk_at dksX5_hasEffect_0 1 rfl rfl)
theorem dX5_hasEffect_2 : decode cX5_hasEffect 2 = .ok (.aload_n 0, 1) := dk_42 (dk_at dksX5_hasEffect_0 2 rfl rfl)
theorem dX5_hasEffect_3 : decode cX5_hasEffect 3 = .ok (.getfield 31, 3) := dk_180 0 31 (dk_at dksX5_hasEffect_0 3 rfl rfl)
theorem dX5_hasEffect_6 : decode cX5_hasEffect 6 = .ok (.iload_n 1, 1) := dk_27 (dk_at dksX5_hasEffect_0 6 rfl rfl)
theorem dX5_hasEffect_7 : decode cX5_hasEffect 7 = .ok (.iaload, 1) := dk_46 (dk_at dksX5_hasEffect_0 7 rfl rfl)
theorem dX5_hasEffect_8 : decode cX5_hasEffect 8 = .ok (.istore_n 3, 1) := dk_62 (dk_at dksX5_hasEffect_0 8 rfl rfl)
theorem dX5_hasEffect_9 : decode cX5_hasEffect 9 = .ok (.iload_n 3, 1) := dk_29 (dk_at dksX5_hasEffect_0 9 rfl rfl)
theorem dX5_hasEffect_10 : decode cX5_hasEffect 10 = .ok (.aload_n 0, 1) := dk_42 (dk_at dksX5_hasEffect_0 10 rfl rfl)
theorem dX5_hasEffect_11 : decode cX5_hasEffect 11 = .ok (.getfield 31, 3) := dk_180 0 31 (dk_at dksX5_hasEffect_0 11 rfl rfl)
theorem dX5_hasEffect_14 : decode cX5_hasEffect 14 = .ok (.iload_n 1, 1) := dk_27 (dk_at dksX5_hasEffect_0 14 rfl rfl)
theorem dX5_hasEffect_15 : decode cX5_hasEffect 15 = .ok (.iconst 1, 1) := dk_4 (dk_at dksX5_hasEffect_0 15 rfl rfl)
theorem dX5_hasEffect_16 : decode cX5_hasEffect 16 = .ok (.iadd, 1) := dk_96 (dk_at dksX5_hasEffect_0 16 rfl rfl)
theorem dX5_hasEffect_17 : decode cX5_hasEffect 17 = .ok (.iaload, 1) := dk_46 (dk_at dksX5_hasEffect_0 17 rfl rfl)
theorem dX5_hasEffect_18 : decode cX5_hasEffect 18 = .ok (.if_icmp .ge 53, 3) := dk_162 0 53 (dk_at dksX5_hasEffect_0 18 rfl rfl)
theorem dX5_hasEffect_21 : decode cX5_hasEffect 21 = .ok (.iload_n 2, 1) := dk_28 (dk_at dksX5_hasEffect_0 21 rfl rfl)
theorem dX5_hasEffect_22 : decode cX5_hasEffect 22 = .ok (.ifCond .ne 37, 3) := dk_154 0 37 (dk_at dksX5_hasEffect_1 0 rfl rfl)
theorem dX5_hasEffect_25 : decode cX5_hasEffect 25 = .ok (.aload_n 0, 1) := dk_42 (dk_at dksX5_hasEffect_1 3 rfl rfl)
theorem dX5_hasEffect_26 : decode cX5_hasEffect 26 = .ok (.getfield 28, 3) := dk_180 0 28 (dk_at dksX5_hasEffect_1 4 rfl rfl)
theorem dX5_hasEffect_29 : decode cX5_hasEffect 29 = .ok (.iload_n 3, 1) := dk_29 (dk_at dksX5_hasEffect_1 7 rfl rfl)
theorem dX5_hasEffect_30 : decode cX5_hasEffect 30 = .ok (.iaload, 1) := dk_46 (dk_at dksX5_hasEffect_1 8 rfl rfl)
theorem dX5_hasEffect_31 : decode cX5_hasEffect 31 = .ok (.invokestatic 111, 3) := dk_184 0 111 (dk_at dksX5_hasEffect_1 9 rfl rfl)
theorem dX5_hasEffect_34 : decode cX5_hasEffect 34 = .ok (.iconst 2, 1) := dk_5 (dk_at dksX5_hasEffect_1 12 rfl rfl)
theorem dX5_hasEffect_35 : decode cX5_hasEffect 35 = .ok (.if_icmp .le 28, 3) := dk_164 0 28 (dk_at dksX5_hasEffect_1 13 rfl rfl)
theorem dX5_hasEffect_38 : decode cX5_hasEffect 38 = .ok (.aload_n 0, 1) := dk_42 (dk_at dksX5_hasEffect_1 16 rfl rfl)
theorem dX5_hasEffect_39 : decode cX5_hasEffect 39 = .ok (.getfield 7, 3) := dk_180 0 7 (dk_at dksX5_hasEffect_1 17 rfl rfl)
theorem dX5_hasEffect_42 : decode cX5_hasEffect 42 = .ok (.aload_n 0, 1) := dk_42 (dk_at dksX5_hasEffect_1 20 rfl rfl)
theorem dX5_hasEffect_43 : decode cX5_hasEffect 43 = .ok (.aload_n 0, 1) := dk_42 (dk_at dksX5_hasEffect_1 21 rfl rfl)
theorem dX5_hasEffect_44 : decode cX5_hasEffect 44 = .ok (.getfield 28, 3) := dk_180 0 28 (dk_at dksX5_hasEffect_2 0 rfl rfl)
theorem dX5_hasEffect_47 : decode cX5_hasEffect 47 = .ok (.iload_n 3, 1) := dk_29 (dk_at dksX5_hasEffect_2 3 rfl rfl)
theorem dX5_hasEffect_48 : decode cX5_hasEffect 48 = .ok (.iaload, 1) := dk_46 (dk_at dksX5_hasEffect_2 4 rfl rfl)
theorem dX5_hasEffect_49 : decode cX5_hasEffect 49 = .ok (.invokevirtual 154, 3) := dk_182 0 154 (dk_at dksX5_hasEffect_2 5 rfl rfl)
theorem dX5_hasEffect_52 : decode cX5_hasEffect 52 = .ok (.iconst 1, 1) := dk_4 (dk_at dksX5_hasEffect_2 8 rfl rfl)
theorem dX5_hasEffect_53 : decode cX5_hasEffect 53 = .ok (.iadd, 1) := dk_96 (dk_at dksX5_hasEffect_2 9 rfl rfl)
theorem dX5_hasEffect_54 : decode cX5_hasEffect 54 = .ok (.iaload, 1) := dk_46 (dk_at dksX5_hasEffect_2 10 rfl rfl)
theorem dX5_hasEffect_55 : decode cX5_hasEffect 55 = .ok (.iconst 1, 1) := dk_4 (dk_at dksX5_hasEffect_2 11 rfl rfl)
theorem dX5_hasEffect_56 : decode cX5_hasEffect 56 = .ok (.if_icmp .ne 7, 3) := dk_160 0 7 (dk_at dksX5_hasEffect_2 12 rfl rfl)
theorem dX5_hasEffect_59 : decode cX5_hasEffect 59 = .ok (.iconst 1, 1) := dk_4 (dk_at dksX5_hasEffect_2 15 rfl rfl)
theorem dX5_hasEffect_60 : decode cX5_hasEffect 60 = .ok (.goto 4, 3) := dk_167 0 4 (dk_at dksX5_hasEffect_2 16 rfl rfl)
theorem dX5_hasEffect_63 : decode cX5_hasEffect 63 = .ok (.iconst 0, 1) := dk_3 (dk_at dksX5_hasEffect_2 19 rfl rfl)
theorem dX5_hasEffect_64 : decode cX5_hasEffect 64 = .ok (.istore_n 2, 1) := dk_61 (dk_at dksX5_hasEffect_2 20 rfl rfl)
theorem dX5_hasEffect_65 : decode cX5_hasEffect 65 = .ok (.iinc 3 1, 3) := dk_132 3 1 (dk_at dksX5_hasEffect_2 21 rfl rfl)
theorem dX5_hasEffect_68 : decode cX5_hasEffect 68 = .ok (.goto (-59), 3) := dk_167 255 197 (dk_at dksX5_hasEffect_3 0 rfl rfl)
theorem dX5_hasEffect_71 : decode cX5_hasEffect 71 = .ok (.iload_n 2, 1) := dk_28 (dk_at dksX5_hasEffect_3 3 rfl rfl)
theorem dX5_hasEffect_72 : decode cX5_hasEffect 72 = .ok (.ireturn, 1) := dk_172 (dk_at dksX5_hasEffect_3 4 rfl rfl)
abbrev cX5_uses : ByteArray := prog_10_method_43_code
def yX5_uses : MethodName := ⟨RX5, "uses", "(II)I"⟩
def dkwX5_uses_1 : List UInt8 := [160, 0, 7, 4, 167, 0, 4, 3, 96, 62, 132, 4, 1, 167, 255, 224, 29, 172]
abbrev dktX5_uses_1 : List UInt8 := dkwX5_uses_1 ++ []
def dkwX5_uses_0 : List UInt8 := [3, 62, 3, 54, 4, 21, 4, 42, 27, 182, 0, 89, 162, 0, 28, 29, 42, 27, 21, 4, 182, 0, 92, 28]
abbrev dktX5_uses_0 : List UInt8 := dkwX5_uses_0 ++ dktX5_uses_1
theorem dksX5_uses_0 : cX5_uses.data.toList.drop 0 = dktX5_uses_0 := by decide +kernel
theorem dksX5_uses_1 : cX5_uses.data.toList.drop 24 = dktX5_uses_1 := dk_seg dksX5_uses_0 24 rfl rfl
theorem dX5_uses_0 : decode cX5_uses 0 = .ok (.iconst 0, 1) := dk_3 (dk_at dksX5_uses_0 0 rfl rfl)
theorem dX5_uses_1 : decode cX5_uses 1 = .ok (.istore_n 3, 1) := dk_62 (dk_at dksX5_uses_0 1 rfl rfl)
theorem dX5_uses_2 : decode cX5_uses 2 = .ok (.iconst 0, 1) := dk_3 (dk_at dksX5_uses_0 2 rfl rfl)
theorem dX5_uses_3 : decode cX5_uses 3 = .ok (.istore 4, 2) := dk_54 4 (dk_at dksX5_uses_0 3 rfl rfl)
theorem dX5_uses_5 : decode cX5_uses 5 = .ok (.iload 4, 2) := dk_21 4 (dk_at dksX5_uses_0 5 rfl rfl)
theorem dX5_uses_7 : decode cX5_uses 7 = .ok (.aload_n 0, 1) := dk_42 (dk_at dksX5_uses_0 7 rfl rfl)
theorem dX5_uses_8 : decode cX5_uses 8 = .ok (.iload_n 1, 1) := dk_27 (dk_at dksX5_uses_0 8 rfl rfl)
theorem dX5_uses_9 : decode cX5_uses 9 = .ok (.invokevirtual 89, 3) := dk_182 0 89 (dk_at dksX5_uses_0 9 rfl rfl)
theorem dX5_uses_12 : decode cX5_uses 12 = .ok (.if_icmp .ge 28, 3) := dk_162 0 28 (dk_at dksX5_uses_0 12 rfl rfl)
theorem dX5_uses_15 : decode cX5_uses 15 = .ok (.iload_n 3, 1) := dk_29 (dk_at dksX5_uses_0 15 rfl rfl)
theorem dX5_uses_16 : decode cX5_uses 16 = .ok (.aload_n 0, 1) := dk_42 (dk_at dksX5_uses_0 16 rfl rfl)
theorem dX5_uses_17 : decode cX5_uses 17 = .ok (.iload_n 1, 1) := dk_27 (dk_at dksX5_uses_0 17 rfl rfl)
theorem dX5_uses_18 : decode cX5_uses 18 = .ok (.iload 4, 2) := dk_21 4 (dk_at dksX5_uses_0 18 rfl rfl)
theorem dX5_uses_20 : decode cX5_uses 20 = .ok (.invokevirtual 92, 3) := dk_182 0 92 (dk_at dksX5_uses_0 20 rfl rfl)
theorem dX5_uses_23 : decode cX5_uses 23 = .ok (.iload_n 2, 1) := dk_28 (dk_at dksX5_uses_0 23 rfl rfl)
theorem dX5_uses_24 : decode cX5_uses 24 = .ok (.if_icmp .ne 7, 3) := dk_160 0 7 (dk_at dksX5_uses_1 0 rfl rfl)
theorem dX5_uses_27 : decode cX5_uses 27 = .ok (.iconst 1, 1) := dk_4 (dk_at dksX5_uses_1 3 rfl rfl)
theorem dX5_uses_28 : decode cX5_uses 28 = .ok (.goto 4, 3) := dk_167 0 4 (dk_at dksX5_uses_1 4 rfl rfl)
theorem dX5_uses_31 : decode cX5_uses 31 = .ok (.iconst 0, 1) := dk_3 (dk_at dksX5_uses_1 7 rfl rfl)
theorem dX5_uses_32 : decode cX5_uses 32 = .ok (.iadd, 1) := dk_96 (dk_at dksX5_uses_1 8 rfl rfl)
theorem dX5_uses_33 : decode cX5_uses 33 = .ok (.istore_n 3, 1) := dk_62 (dk_at dksX5_uses_1 9 rfl rfl)
theorem dX5_uses_34 : decode cX5_uses 34 = .ok (.iinc 4 1, 3) := dk_132 4 1 (dk_at dksX5_uses_1 10 rfl rfl)
theorem dX5_uses_37 : decode cX5_uses 37 = .ok (.goto (-32), 3) := dk_167 255 224 (dk_at dksX5_uses_1 13 rfl rfl)
theorem dX5_uses_40 : decode cX5_uses 40 = .ok (.iload_n 3, 1) := dk_29 (dk_at dksX5_uses_1 16 rfl rfl)
theorem dX5_uses_41 : decode cX5_uses 41 = .ok (.ireturn, 1) := dk_172 (dk_at dksX5_uses_1 17 rfl rfl)
abbrev cX5_size : ByteArray := prog_10_method_45_code
def yX5_size : MethodName := ⟨RX5, "size", "(II)I"⟩
def dkwX5_size_0 : List UInt8 := [42, 180, 0, 31, 28, 46, 42, 180, 0, 31, 27, 46, 100, 172]
abbrev dktX5_size_0 : List UInt8 := dkwX5_size_0 ++ []
theorem dksX5_size_0 : cX5_size.data.toList.drop 0 = dktX5_size_0 := by decide +kernel
theorem dX5_size_0 : decode cX5_size 0 = .ok (.aload_n 0, 1) := dk_42 (dk_at dksX5_size_0 0 rfl rfl)
theorem dX5_size_1 : decode cX5_size 1 = .ok (.getfield 31, 3) := dk_180 0 31 (dk_at dksX5_size_0 1 rfl rfl)
theorem dX5_size_4 : decode cX5_size 4 = .ok (.iload_n 2, 1) := dk_28 (dk_at dksX5_size_0 4 rfl rfl)
theorem dX5_size_5 : decode cX5_size 5 = .ok (.iaload, 1) := dk_46 (dk_at dksX5_size_0 5 rfl rfl)
theorem dX5_size_6 : decode cX5_size 6 = .ok (.aload_n 0, 1) := dk_42 (dk_at dksX5_size_0 6 rfl rfl)
theorem dX5_size_7 : decode cX5_size 7 = .ok (.getfield 31, 3) := dk_180 0 31 (dk_at dksX5_size_0 7 rfl rfl)
theorem dX5_size_10 : decode cX5_size 10 = .ok (.iload_n 1, 1) := dk_27 (dk_at dksX5_size_0 10 rfl rfl)
theorem dX5_size_11 : decode cX5_size 11 = .ok (.iaload, 1) := dk_46 (dk_at dksX5_size_0 11 rfl rfl)
theorem dX5_size_12 : decode cX5_size 12 = .ok (.isub, 1) := dk_100 (dk_at dksX5_size_0 12 rfl rfl)
theorem dX5_size_13 : decode cX5_size 13 = .ok (.ireturn, 1) := dk_172 (dk_at dksX5_size_0 13 rfl rfl)
abbrev cX5_sizeThen : ByteArray := prog_10_method_46_code
def yX5_sizeThen : MethodName := ⟨RX5, "sizeThen", "(II)I"⟩
def dkwX5_sizeThen_2 : List UInt8 := [167, 0, 4, 4, 96, 62, 132, 4, 1, 167, 255, 206, 29, 172]
abbrev dktX5_sizeThen_2 : List UInt8 := dkwX5_sizeThen_2 ++ []
def dkwX5_sizeThen_1 : List UInt8 := [29, 21, 5, 16, 100, 162, 0, 20, 42, 28, 21, 5, 96, 28, 21, 5, 96, 4, 96, 182, 0, 188]
abbrev dktX5_sizeThen_1 : List UInt8 := dkwX5_sizeThen_1 ++ dktX5_sizeThen_2
def dkwX5_sizeThen_0 : List UInt8 := [3, 62, 3, 54, 4, 21, 4, 42, 27, 182, 0, 89, 162, 0, 46, 42, 27, 21, 4, 182, 0, 92, 54, 5]
abbrev dktX5_sizeThen_0 : List UInt8 := dkwX5_sizeThen_0 ++ dktX5_sizeThen_1
theorem dksX5_sizeThen_0 : cX5_sizeThen.data.toList.drop 0 = dktX5_sizeThen_0 := by decide +kernel
theorem dksX5_sizeThen_1 : cX5_sizeThen.data.toList.drop 24 = dktX5_sizeThen_1 := dk_seg dksX5_sizeThen_0 24 rfl rfl
theorem dksX5_sizeThen_2 : cX5_sizeThen.data.toList.drop 46 = dktX5_sizeThen_2 := dk_seg dksX5_sizeThen_1 22 rfl rfl
theorem dX5_sizeThen_0 : decode cX5_sizeThen 0 = .ok (.iconst 0, 1) := dk_3 (dk_at dksX5_sizeThen_0 0 rfl rfl)
theorem dX5_sizeThen_1 : decode cX5_sizeThen 1 = .ok (.istore_n 3, 1) := dk_62 (dk_at dksX5_sizeThen_0 1 rfl rfl)
theorem dX5_sizeThen_2 : decode cX5_sizeThen 2 = .ok (.iconst 0, 1) := dk_3 (dk_at dksX5_sizeThen_0 2 rfl rfl)
theorem dX5_sizeThen_3 : decode cX5_sizeThen 3 = .ok (.istore 4, 2) := dk_54 4 (dk_at dksX5_sizeThen_0 3 rfl rfl)
theorem dX5_sizeThen_5 : decode cX5_sizeThen 5 = .ok (.iload 4, 2) := dk_21 4 (dk_at dksX5_sizeThen_0 5 rfl rfl)
theorem dX5_sizeThen_7 : decode cX5_sizeThen 7 = .ok (.aload_n 0, 1) := dk_42 (dk_at dksX5_sizeThen_0 7 rfl rfl)
theorem dX5_sizeThen_8 : decode cX5_sizeThen 8 = .ok (.iload_n 1, 1) := dk_27 (dk_at dksX5_sizeThen_0 8 rfl rfl)
theorem dX5_sizeThen_9 : decode cX5_sizeThen 9 = .ok (.invokevirtual 89, 3) := dk_182 0 89 (dk_at dksX5_sizeThen_0 9 rfl rfl)
theorem dX5_sizeThen_12 : decode cX5_sizeThen 12 = .ok (.if_icmp .ge 46, 3) := dk_162 0 46 (dk_at dksX5_sizeThen_0 12 rfl rfl)
theorem dX5_sizeThen_15 : decode cX5_sizeThen 15 = .ok (.aload_n 0, 1) := dk_42 (dk_at dksX5_sizeThen_0 15 rfl rfl)
theorem dX5_sizeThen_16 : decode cX5_sizeThen 16 = .ok (.iload_n 1, 1) := dk_27 (dk_at dksX5_sizeThen_0 16 rfl rfl)
theorem dX5_sizeThen_17 : decode cX5_sizeThen 17 = .ok (.iload 4, 2) := dk_21 4 (dk_at dksX5_sizeThen_0 17 rfl rfl)
theorem dX5_sizeThen_19 : decode cX5_sizeThen 19 = .ok (.invokevirtual 92, 3) := dk_182 0 92 (dk_at dksX5_sizeThen_0 19 rfl rfl)
theorem dX5_sizeThen_22 : decode cX5_sizeThen 22 = .ok (.istore 5, 2) := dk_54 5 (dk_at dksX5_sizeThen_0 22 rfl rfl)
theorem dX5_sizeThen_24 : decode cX5_sizeThen 24 = .ok (.iload_n 3, 1) := dk_29 (dk_at dksX5_sizeThen_1 0 rfl rfl)
theorem dX5_sizeThen_25 : decode cX5_sizeThen 25 = .ok (.iload 5, 2) := dk_21 5 (dk_at dksX5_sizeThen_1 1 rfl rfl)
theorem dX5_sizeThen_27 : decode cX5_sizeThen 27 = .ok (.bipush 100, 2) := dk_16 100 (dk_at dksX5_sizeThen_1 3 rfl rfl)
theorem dX5_sizeThen_29 : decode cX5_sizeThen 29 = .ok (.if_icmp .ge 20, 3) := dk_162 0 20 (dk_at dksX5_sizeThen_1 5 rfl rfl)
theorem dX5_sizeThen_32 : decode cX5_sizeThen 32 = .ok (.aload_n 0, 1) := dk_42 (dk_at dksX5_sizeThen_1 8 rfl rfl)
theorem dX5_sizeThen_33 : decode cX5_sizeThen 33 = .ok (.iload_n 2, 1) := dk_28 (dk_at dksX5_sizeThen_1 9 rfl rfl)
theorem dX5_sizeThen_34 : decode cX5_sizeThen 34 = .ok (.iload 5, 2) := dk_21 5 (dk_at dksX5_sizeThen_1 10 rfl rfl)
theorem dX5_sizeThen_36 : decode cX5_sizeThen 36 = .ok (.iadd, 1) := dk_96 (dk_at dksX5_sizeThen_1 12 rfl rfl)
theorem dX5_sizeThen_37 : decode cX5_sizeThen 37 = .ok (.iload_n 2, 1) := dk_28 (dk_at dksX5_sizeThen_1 13 rfl rfl)
theorem dX5_sizeThen_38 : decode cX5_sizeThen 38 = .ok (.iload 5, 2) := dk_21 5 (dk_at dksX5_sizeThen_1 14 rfl rfl)
theorem dX5_sizeThen_40 : decode cX5_sizeThen 40 = .ok (.iadd, 1) := dk_96 (dk_at dksX5_sizeThen_1 16 rfl rfl)
theorem dX5_sizeThen_41 : decode cX5_sizeThen 41 = .ok (.iconst 1, 1) := dk_4 (dk_at dksX5_sizeThen_1 17 rfl rfl)
theorem dX5_sizeThen_42 : decode cX5_sizeThen 42 = .ok (.iadd, 1) := dk_96 (dk_at dksX5_sizeThen_1 18 rfl rfl)
theorem dX5_sizeThen_43 : decode cX5_sizeThen 43 = .ok (.invokevirtual 188, 3) := dk_182 0 188 (dk_at dksX5_sizeThen_1 19 rfl rfl)
theorem dX5_sizeThen_46 : decode cX5_sizeThen 46 = .ok (.goto 4, 3) := dk_167 0 4 (dk_at dksX5_sizeThen_2 0 rfl rfl)
theorem dX5_sizeThen_49 : decode cX5_sizeThen 49 = .ok (.iconst 1, 1) := dk_4 (dk_at dksX5_sizeThen_2 3 rfl rfl)
theorem dX5_sizeThen_50 : decode cX5_sizeThen 50 = .ok (.iadd, 1) := dk_96 (dk_at dksX5_sizeThen_2 4 rfl rfl)
theorem dX5_sizeThen_51 : decode cX5_sizeThen 51 = .ok (.istore_n 3, 1) := dk_62 (dk_at dksX5_sizeThen_2 5 rfl rfl)
theorem dX5_sizeThen_52 : decode cX5_sizeThen 52 = .ok (.iinc 4 1, 3) := dk_132 4 1 (dk_at dksX5_sizeThen_2 6 rfl rfl)
theorem dX5_sizeThen_55 : decode cX5_sizeThen 55 = .ok (.goto (-50), 3) := dk_167 255 206 (dk_at dksX5_sizeThen_2 9 rfl rfl)
theorem dX5_sizeThen_58 : decode cX5_sizeThen 58 = .ok (.iload_n 3, 1) := dk_29 (dk_at dksX5_sizeThen_2 12 rfl rfl)
theorem dX5_sizeThen_59 : decode cX5_sizeThen 59 = .ok (.ireturn, 1) := dk_172 (dk_at dksX5_sizeThen_2 13 rfl rfl)
abbrev cX5_becomesNew : ByteArray := prog_10_method_47_code
def yX5_becomesNew : MethodName := ⟨RX5, "becomesNew", "(I)V"⟩
def dkwX5_becomesNew_10 : List UInt8 := [180, 0, 170, 42, 180, 0, 173, 79, 177]
abbrev dktX5_becomesNew_10 : List UInt8 := dkwX5_becomesNew_10 ++ []
def dkwX5_becomesNew_9 : List UInt8 := [167, 255, 229, 42, 21, 5, 21, 4, 96, 181, 0, 173, 42, 29, 4, 96, 181, 0, 170, 42, 180, 0, 31, 42]
abbrev dktX5_becomesNew_9 : List UInt8 := dkwX5_becomesNew_9 ++ dktX5_becomesNew_10
def dkwX5_becomesNew_8 : List UInt8 := [162, 0, 26, 42, 180, 0, 28, 21, 5, 21, 6, 96, 42, 180, 0, 34, 21, 6, 46, 79, 132, 6, 1]
abbrev dktX5_becomesNew_8 : List UInt8 := dkwX5_becomesNew_8 ++ dktX5_becomesNew_9
def dkwX5_becomesNew_7 : List UInt8 := [167, 255, 220, 132, 5, 1, 167, 255, 154, 42, 180, 0, 31, 29, 46, 54, 5, 3, 54, 6, 21, 6, 21, 4]
abbrev dktX5_becomesNew_7 : List UInt8 := dkwX5_becomesNew_7 ++ dktX5_becomesNew_8
def dkwX5_becomesNew_6 : List UInt8 := [162, 0, 26, 42, 180, 0, 34, 21, 4, 42, 180, 0, 28, 21, 7, 46, 79, 132, 4, 1, 132, 7, 1]
abbrev dktX5_becomesNew_6 : List UInt8 := dkwX5_becomesNew_6 ++ dktX5_becomesNew_7
def dkwX5_becomesNew_5 : List UInt8 := [180, 0, 31, 29, 21, 6, 96, 46, 54, 7, 21, 7, 42, 180, 0, 31, 29, 21, 6, 96, 4, 96, 46]
abbrev dktX5_becomesNew_5 : List UInt8 := dkwX5_becomesNew_5 ++ dktX5_becomesNew_6
def dkwX5_becomesNew_4 : List UInt8 := [180, 0, 34, 21, 4, 3, 21, 6, 16, 100, 100, 3, 184, 0, 126, 79, 132, 4, 1, 167, 0, 53, 42]
abbrev dktX5_becomesNew_4 : List UInt8 := dkwX5_becomesNew_4 ++ dktX5_becomesNew_5
def dkwX5_becomesNew_3 : List UInt8 := [182, 0, 89, 162, 0, 98, 42, 28, 21, 5, 182, 0, 92, 54, 6, 21, 6, 16, 100, 161, 0, 26, 42]
abbrev dktX5_becomesNew_3 : List UInt8 := dkwX5_becomesNew_3 ++ dktX5_becomesNew_4
def dkwX5_becomesNew_2 : List UInt8 := [182, 0, 191, 42, 29, 42, 180, 0, 170, 182, 0, 188, 100, 96, 181, 0, 185, 3, 54, 5, 21, 5, 42, 28]
abbrev dktX5_becomesNew_2 : List UInt8 := dkwX5_becomesNew_2 ++ dktX5_becomesNew_3
def dkwX5_becomesNew_1 : List UInt8 := [182, 0, 86, 42, 28, 182, 0, 89, 184, 0, 126, 79, 132, 4, 1, 42, 89, 180, 0, 185, 42, 28, 29]
abbrev dktX5_becomesNew_1 : List UInt8 := dkwX5_becomesNew_1 ++ dktX5_becomesNew_2
def dkwX5_becomesNew_0 : List UInt8 := [27, 184, 0, 114, 61, 42, 27, 182, 0, 176, 62, 3, 54, 4, 42, 180, 0, 34, 21, 4, 7, 42, 28]
abbrev dktX5_becomesNew_0 : List UInt8 := dkwX5_becomesNew_0 ++ dktX5_becomesNew_1
theorem dksX5_becomesNew_0 : cX5_becomesNew.data.toList.drop 0 = dktX5_becomesNew_0 := by decide +kernel
theorem dksX5_becomesNew_1 : cX5_becomesNew.data.toList.drop 23 = dktX5_becomesNew_1 := dk_seg dksX5_becomesNew_0 23 rfl rfl
theorem dksX5_becomesNew_2 : cX5_becomesNew.data.toList.drop 46 = dktX5_becomesNew_2 := dk_seg dksX5_becomesNew_1 23 rfl rfl
theorem dksX5_becomesNew_3 : cX5_becomesNew.data.toList.drop 70 = dktX5_becomesNew_3 := dk_seg dksX5_becomesNew_2 24 rfl rfl
theorem dksX5_becomesNew_4 : cX5_becomesNew.data.toList.drop 93 = dktX5_becomesNew_4 := dk_seg dksX5_becomesNew_3 23 rfl rfl
theorem dksX5_becomesNew_5 : cX5_becomesNew.data.toList.drop 116 = dktX5_becomesNew_5 := dk_seg dksX5_becomesNew_4 23 rfl rfl
theorem dksX5_becomesNew_6 : cX5_becomesNew.data.toList.drop 139 = dktX5_becomesNew_6 := dk_seg dksX5_becomesNew_5 23 rfl rfl
theorem dksX5_becomesNew_7 : cX5_becomesNew.data.toList.drop 162 = dktX5_becomesNew_7 := dk_seg dksX5_becomesNew_6 23 rfl rfl
theorem dksX5_becomesNew_8 : cX5_becomesNew.data.toList.drop 186 = dktX5_becomesNew_8 := dk_seg dksX5_becomesNew_7 24 rfl rfl
theorem dksX5_becomesNew_9 : cX5_becomesNew.data.toList.drop 209 = dktX5_becomesNew_9 := dk_seg dksX5_becomesNew_8 23 rfl rfl
theorem dksX5_becomesNew_10 : cX5_becomesNew.data.toList.drop 233 = dktX5_becomesNew_10 := dk_seg dksX5_becomesNew_9 24 rfl rfl
theorem dX5_becomesNew_0 : decode cX5_becomesNew 0 = .ok (.iload_n 1, 1) := dk_27 (dk_at dksX5_becomesNew_0 0 rfl rfl)
theorem dX5_becomesNew_1 : decode cX5_becomesNew 1 = .ok (.invokestatic 114, 3) := dk_184 0 114 (dk_at dksX5_becomesNew_0 1 rfl rfl)
theorem dX5_becomesNew_4 : decode cX5_becomesNew 4 = .ok (.istore_n 2, 1) := dk_61 (dk_at dksX5_becomesNew_0 4 rfl rfl)
theorem dX5_becomesNew_5 : decode cX5_becomesNew 5 = .ok (.aload_n 0, 1) := dk_42 (dk_at dksX5_becomesNew_0 5 rfl rfl)
theorem dX5_becomesNew_6 : decode cX5_becomesNew 6 = .ok (.iload_n 1, 1) := dk_27 (dk_at dksX5_becomesNew_0 6 rfl rfl)
theorem dX5_becomesNew_7 : decode cX5_becomesNew 7 = .ok (.invokevirtual 176, 3) := dk_182 0 176 (dk_at dksX5_becomesNew_0 7 rfl rfl)
theorem dX5_becomesNew_10 : decode cX5_becomesNew 10 = .ok (.istore_n 3, 1) := dk_62 (dk_at dksX5_becomesNew_0 10 rfl rfl)
theorem dX5_becomesNew_11 : decode cX5_becomesNew 11 = .ok (.iconst 0, 1) := dk_3 (dk_at dksX5_becomesNew_0 11 rfl rfl)
theorem dX5_becomesNew_12 : decode cX5_becomesNew 12 = .ok (.istore 4, 2) := dk_54 4 (dk_at dksX5_becomesNew_0 12 rfl rfl)
theorem dX5_becomesNew_14 : decode cX5_becomesNew 14 = .ok (.aload_n 0, 1) := dk_42 (dk_at dksX5_becomesNew_0 14 rfl rfl)
theorem dX5_becomesNew_15 : decode cX5_becomesNew 15 = .ok (.getfield 34, 3) := dk_180 0 34 (dk_at dksX5_becomesNew_0 15 rfl rfl)
theorem dX5_becomesNew_18 : decode cX5_becomesNew 18 = .ok (.iload 4, 2) := dk_21 4 (dk_at dksX5_becomesNew_0 18 rfl rfl)
theorem dX5_becomesNew_20 : decode cX5_becomesNew 20 = .ok (.iconst 4, 1) := dk_7 (dk_at dksX5_becomesNew_0 20 rfl rfl)
theorem dX5_becomesNew_21 : decode cX5_becomesNew 21 = .ok (.aload_n 0, 1) := dk_42 (dk_at dksX5_becomesNew_0 21 rfl rfl)
theorem dX5_becomesNew_22 : decode cX5_becomesNew 22 = .ok (.iload_n 2, 1) := dk_28 (dk_at dksX5_becomesNew_0 22 rfl rfl)
theorem dX5_becomesNew_23 : decode cX5_becomesNew 23 = .ok (.invokevirtual 86, 3) := dk_182 0 86 (dk_at dksX5_becomesNew_1 0 rfl rfl)
theorem dX5_becomesNew_26 : decode cX5_becomesNew 26 = .ok (.aload_n 0, 1) := dk_42 (dk_at dksX5_becomesNew_1 3 rfl rfl)
theorem dX5_becomesNew_27 : decode cX5_becomesNew 27 = .ok (.iload_n 2, 1) := dk_28 (dk_at dksX5_becomesNew_1 4 rfl rfl)
theorem dX5_becomesNew_28 : decode cX5_becomesNew 28 = .ok (.invokevirtual 89, 3) := dk_182 0 89 (dk_at dksX5_becomesNew_1 5 rfl rfl)
theorem dX5_becomesNew_31 : decode cX5_becomesNew 31 = .ok (.invokestatic 126, 3) := dk_184 0 126 (dk_at dksX5_becomesNew_1 8 rfl rfl)
theorem dX5_becomesNew_34 : decode cX5_becomesNew 34 = .ok (.iastore, 1) := dk_79 (dk_at dksX5_becomesNew_1 11 rfl rfl)
theorem dX5_becomesNew_35 : decode cX5_becomesNew 35 = .ok (.iinc 4 1, 3) := dk_132 4 1 (dk_at dksX5_becomesNew_1 12 rfl rfl)
theorem dX5_becomesNew_38 : decode cX5_becomesNew 38 = .ok (.aload_n 0, 1) := dk_42 (dk_at dksX5_becomesNew_1 15 rfl rfl)
theorem dX5_becomesNew_39 : decode cX5_becomesNew 39 = .ok (.dup, 1) := dk_89 (dk_at dksX5_becomesNew_1 16 rfl rfl)
theorem dX5_becomesNew_40 : decode cX5_becomesNew 40 = .ok (.getfield 185, 3) := dk_180 0 185 (dk_at dksX5_becomesNew_1 17 rfl rfl)
theorem dX5_becomesNew_43 : decode cX5_becomesNew 43 = .ok (.aload_n 0, 1) := dk_42 (dk_at dksX5_becomesNew_1 20 rfl rfl)
theorem dX5_becomesNew_44 : decode cX5_becomesNew 44 = .ok (.iload_n 2, 1) := dk_28 (dk_at dksX5_becomesNew_1 21 rfl rfl)
theorem dX5_becomesNew_45 : decode cX5_becomesNew 45 = .ok (.iload_n 3, 1) := dk_29 (dk_at dksX5_becomesNew_1 22 rfl rfl)
theorem dX5_becomesNew_46 : decode cX5_becomesNew 46 = .ok (.invokevirtual 191, 3) := dk_182 0 191 (dk_at dksX5_becomesNew_2 0 rfl rfl)
theorem dX5_becomesNew_49 : decode cX5_becomesNew 49 = .ok (.aload_n 0, 1) := dk_42 (dk_at dksX5_becomesNew_2 3 rfl rfl)
theorem dX5_becomesNew_50 : decode cX5_becomesNew 50 = .ok (.iload_n 3, 1) := dk_29 (dk_at dksX5_becomesNew_2 4 rfl rfl)
theorem dX5_becomesNew_51 : decode cX5_becomesNew 51 = .ok (.aload_n 0, 1) := dk_42 (dk_at dksX5_becomesNew_2 5 rfl rfl)
theorem dX5_becomesNew_52 : decode cX5_becomesNew 52 = .ok (.getfield 170, 3) := dk_180 0 170 (dk_at dksX5_becomesNew_2 6 rfl rfl)
theorem dX5_becomesNew_55 : decode cX5_becomesNew 55 = .ok (.invokevirtual 188, 3) := dk_182 0 188 (dk_at dksX5_becomesNew_2 9 rfl rfl)
theorem dX5_becomesNew_58 : decode cX5_becomesNew 58 = .ok (.isub, 1) := dk_100 (dk_at dksX5_becomesNew_2 12 rfl rfl)
theorem dX5_becomesNew_59 : decode cX5_becomesNew 59 = .ok (.iadd, 1) := dk_96 (dk_at dksX5_becomesNew_2 13 rfl rfl)
theorem dX5_becomesNew_60 : decode cX5_becomesNew 60 = .ok (.putfield 185, 3) := dk_181 0 185 (dk_at dksX5_becomesNew_2 14 rfl rfl)
theorem dX5_becomesNew_63 : decode cX5_becomesNew 63 = .ok (.iconst 0, 1) := dk_3 (dk_at dksX5_becomesNew_2 17 rfl rfl)
theorem dX5_becomesNew_64 : decode cX5_becomesNew 64 = .ok (.istore 5, 2) := dk_54 5 (dk_at dksX5_becomesNew_2 18 rfl rfl)
theorem dX5_becomesNew_66 : decode cX5_becomesNew 66 = .ok (.iload 5, 2) := dk_21 5 (dk_at dksX5_becomesNew_2 20 rfl rfl)
theorem dX5_becomesNew_68 : decode cX5_becomesNew 68 = .ok (.aload_n 0, 1) := dk_42 (dk_at dksX5_becomesNew_2 22 rfl rfl)
theorem dX5_becomesNew_69 : decode cX5_becomesNew 69 = .ok (.iload_n 2, 1) := dk_28 (dk_at dksX5_becomesNew_2 23 rfl rfl)
theorem dX5_becomesNew_70 : decode cX5_becomesNew 70 = .ok (.invokevirtual 89, 3) := dk_182 0 89 (dk_at dksX5_becomesNew_3 0 rfl rfl)
theorem dX5_becomesNew_73 : decode cX5_becomesNew 73 = .ok (.if_icmp .ge 98, 3) := dk_162 0 98 (dk_at dksX5_becomesNew_3 3 rfl rfl)
theorem dX5_becomesNew_76 : decode cX5_becomesNew 76 = .ok (.aload_n 0, 1) := dk_42 (dk_at dksX5_becomesNew_3 6 rfl rfl)
theorem dX5_becomesNew_77 : decode cX5_becomesNew 77 = .ok (.iload_n 2, 1) := dk_28 (dk_at dksX5_becomesNew_3 7 rfl rfl)
theorem dX5_becomesNew_78 : decode cX5_becomesNew 78 = .ok (.iload 5, 2) := dk_21 5 (dk_at dksX5_becomesNew_3 8 rfl rfl)
theorem dX5_becomesNew_80 : decode cX5_becomesNew 80 = .ok (.invokevirtual 92, 3) := dk_182 0 92 (dk_at dksX5_becomesNew_3 10 rfl rfl)
theorem dX5_becomesNew_83 : decode cX5_becomesNew 83 = .ok (.istore 6, 2) := dk_54 6 (dk_at dksX5_becomesNew_3 13 rfl rfl)
theorem dX5_becomesNew_85 : decode cX5_becomesNew 85 = .ok (.iload 6, 2) := dk_21 6 (dk_at dksX5_becomesNew_3 15 rfl rfl)
theorem dX5_becomesNew_87 : decode cX5_becomesNew 87 = .ok (.bipush 100, 2) := dk_16 100 (dk_at dksX5_becomesNew_3 17 rfl rfl)
theorem dX5_becomesNew_89 : decode cX5_becomesNew 89 = .ok (.if_icmp .lt 26, 3) := dk_161 0 26 (dk_at dksX5_becomesNew_3 19 rfl rfl)
theorem dX5_becomesNew_92 : decode cX5_becomesNew 92 = .ok (.aload_n 0, 1) := dk_42 (dk_at dksX5_becomesNew_3 22 rfl rfl)
theorem dX5_becomesNew_93 : decode cX5_becomesNew 93 = .ok (.getfield 34, 3) := dk_180 0 34 (dk_at dksX5_becomesNew_4 0 rfl rfl)
theorem dX5_becomesNew_96 : decode cX5_becomesNew 96 = .ok (.iload 4, 2) := dk_21 4 (dk_at dksX5_becomesNew_4 3 rfl rfl)
theorem dX5_becomesNew_98 : decode cX5_becomesNew 98 = .ok (.iconst 0, 1) := dk_3 (dk_at dksX5_becomesNew_4 5 rfl rfl)
theorem dX5_becomesNew_99 : decode cX5_becomesNew 99 = .ok (.iload 6, 2) := dk_21 6 (dk_at dksX5_becomesNew_4 6 rfl rfl)
theorem dX5_becomesNew_101 : decode cX5_becomesNew 101 = .ok (.bipush 100, 2) := dk_16 100 (dk_at dksX5_becomesNew_4 8 rfl rfl)
theorem dX5_becomesNew_103 : decode cX5_becomesNew 103 = .ok (.isub, 1) := dk_100 (dk_at dksX5_becomesNew_4 10 rfl rfl)
theorem dX5_becomesNew_104 : decode cX5_becomesNew 104 = .ok (.iconst 0, 1) := dk_3 (dk_at dksX5_becomesNew_4 11 rfl rfl)
theorem dX5_becomesNew_105 : decode cX5_becomesNew 105 = .ok (.invokestatic 126, 3) := dk_184 0 126 (dk_at dksX5_becomesNew_4 12 rfl rfl)
theorem dX5_becomesNew_108 : decode cX5_becomesNew 108 = .ok (.iastore, 1) := dk_79 (dk_at dksX5_becomesNew_4 15 rfl rfl)
theorem dX5_becomesNew_109 : decode cX5_becomesNew 109 = .ok (.iinc 4 1, 3) := dk_132 4 1 (dk_at dksX5_becomesNew_4 16 rfl rfl)
theorem dX5_becomesNew_112 : decode cX5_becomesNew 112 = .ok (.goto 53, 3) := dk_167 0 53 (dk_at dksX5_becomesNew_4 19 rfl rfl)
theorem dX5_becomesNew_115 : decode cX5_becomesNew 115 = .ok (.aload_n 0, 1) := dk_42 (dk_at dksX5_becomesNew_4 22 rfl rfl)
theorem dX5_becomesNew_116 : decode cX5_becomesNew 116 = .ok (.getfield 31, 3) := dk_180 0 31 (dk_at dksX5_becomesNew_5 0 rfl rfl)
theorem dX5_becomesNew_119 : decode cX5_becomesNew 119 = .ok (.iload_n 3, 1) := dk_29 (dk_at dksX5_becomesNew_5 3 rfl rfl)
theorem dX5_becomesNew_120 : decode cX5_becomesNew 120 = .ok (.iload 6, 2) := dk_21 6 (dk_at dksX5_becomesNew_5 4 rfl rfl)
theorem dX5_becomesNew_122 : decode cX5_becomesNew 122 = .ok (.iadd, 1) := dk_96 (dk_at dksX5_becomesNew_5 6 rfl rfl)
theorem dX5_becomesNew_123 : decode cX5_becomesNew 123 = .ok (.iaload, 1) := dk_46 (dk_at dksX5_becomesNew_5 7 rfl rfl)
theorem dX5_becomesNew_124 : decode cX5_becomesNew 124 = .ok (.istore 7, 2) := dk_54 7 (dk_at dksX5_becomesNew_5 8 rfl rfl)
theorem dX5_becomesNew_126 : decode cX5_becomesNew 126 = .ok (.iload 7, 2) := dk_21 7 (dk_at dksX5_becomesNew_5 10 rfl rfl)
theorem dX5_becomesNew_128 : decode cX5_becomesNew 128 = .ok (.aload_n 0, 1) := dk_42 (dk_at dksX5_becomesNew_5 12 rfl rfl)
theorem dX5_becomesNew_129 : decode cX5_becomesNew 129 = .ok (.getfield 31, 3) := dk_180 0 31 (dk_at dksX5_becomesNew_5 13 rfl rfl)
theorem dX5_becomesNew_132 : decode cX5_becomesNew 132 = .ok (.iload_n 3, 1) := dk_29 (dk_at dksX5_becomesNew_5 16 rfl rfl)
theorem dX5_becomesNew_133 : decode cX5_becomesNew 133 = .ok (.iload 6, 2) := dk_21 6 (dk_at dksX5_becomesNew_5 17 rfl rfl)
theorem dX5_becomesNew_135 : decode cX5_becomesNew 135 = .ok (.iadd, 1) := dk_96 (dk_at dksX5_becomesNew_5 19 rfl rfl)
theorem dX5_becomesNew_136 : decode cX5_becomesNew 136 = .ok (.iconst 1, 1) := dk_4 (dk_at dksX5_becomesNew_5 20 rfl rfl)
theorem dX5_becomesNew_137 : decode cX5_becomesNew 137 = .ok (.iadd, 1) := dk_96 (dk_at dksX5_becomesNew_5 21 rfl rfl)
theorem dX5_becomesNew_138 : decode cX5_becomesNew 138 = .ok (.iaload, 1) := dk_46 (dk_at dksX5_becomesNew_5 22 rfl rfl)
theorem dX5_becomesNew_139 : decode cX5_becomesNew 139 = .ok (.if_icmp .ge 26, 3) := dk_162 0 26 (dk_at dksX5_becomesNew_6 0 rfl rfl)
theorem dX5_becomesNew_142 : decode cX5_becomesNew 142 = .ok (.aload_n 0, 1) := dk_42 (dk_at dksX5_becomesNew_6 3 rfl rfl)
theorem dX5_becomesNew_143 : decode cX5_becomesNew 143 = .ok (.getfield 34, 3) := dk_180 0 34 (dk_at dksX5_becomesNew_6 4 rfl rfl)
theorem dX5_becomesNew_146 : decode cX5_becomesNew 146 = .ok (.iload 4, 2) := dk_21 4 (dk_at dksX5_becomesNew_6 7 rfl rfl)
theorem dX5_becomesNew_148 : decode cX5_becomesNew 148 = .ok (.aload_n 0, 1) := dk_42 (dk_at dksX5_becomesNew_6 9 rfl rfl)
theorem dX5_becomesNew_149 : decode cX5_becomesNew 149 = .ok (.getfield 28, 3) := dk_180 0 28 (dk_at dksX5_becomesNew_6 10 rfl rfl)
theorem dX5_becomesNew_152 : decode cX5_becomesNew 152 = .ok (.iload 7, 2) := dk_21 7 (dk_at dksX5_becomesNew_6 13 rfl rfl)
theorem dX5_becomesNew_154 : decode cX5_becomesNew 154 = .ok (.iaload, 1) := dk_46 (dk_at dksX5_becomesNew_6 15 rfl rfl)
theorem dX5_becomesNew_155 : decode cX5_becomesNew 155 = .ok (.iastore, 1) := dk_79 (dk_at dksX5_becomesNew_6 16 rfl rfl)
theorem dX5_becomesNew_156 : decode cX5_becomesNew 156 = .ok (.iinc 4 1, 3) := dk_132 4 1 (dk_at dksX5_becomesNew_6 17 rfl rfl)
theorem dX5_becomesNew_159 : decode cX5_becomesNew 159 = .ok (.iinc 7 1, 3) := dk_132 7 1 (dk_at dksX5_becomesNew_6 20 rfl rfl)
theorem dX5_becomesNew_162 : decode cX5_becomesNew 162 = .ok (.goto (-36), 3) := dk_167 255 220 (dk_at dksX5_becomesNew_7 0 rfl rfl)
theorem dX5_becomesNew_165 : decode cX5_becomesNew 165 = .ok (.iinc 5 1, 3) := dk_132 5 1 (dk_at dksX5_becomesNew_7 3 rfl rfl)
theorem dX5_becomesNew_168 : decode cX5_becomesNew 168 = .ok (.goto (-102), 3) := dk_167 255 154 (dk_at dksX5_becomesNew_7 6 rfl rfl)
theorem dX5_becomesNew_171 : decode cX5_becomesNew 171 = .ok (.aload_n 0, 1) := dk_42 (dk_at dksX5_becomesNew_7 9 rfl rfl)
theorem dX5_becomesNew_172 : decode cX5_becomesNew 172 = .ok (.getfield 31, 3) := dk_180 0 31 (dk_at dksX5_becomesNew_7 10 rfl rfl)
theorem dX5_becomesNew_175 : decode cX5_becomesNew 175 = .ok (.iload_n 3, 1) := dk_29 (dk_at dksX5_becomesNew_7 13 rfl rfl)
theorem dX5_becomesNew_176 : decode cX5_becomesNew 176 = .ok (.iaload, 1) := dk_46 (dk_at dksX5_becomesNew_7 14 rfl rfl)
theorem dX5_becomesNew_177 : decode cX5_becomesNew 177 = .ok (.istore 5, 2) := dk_54 5 (dk_at dksX5_becomesNew_7 15 rfl rfl)
theorem dX5_becomesNew_179 : decode cX5_becomesNew 179 = .ok (.iconst 0, 1) := dk_3 (dk_at dksX5_becomesNew_7 17 rfl rfl)
theorem dX5_becomesNew_180 : decode cX5_becomesNew 180 = .ok (.istore 6, 2) := dk_54 6 (dk_at dksX5_becomesNew_7 18 rfl rfl)
theorem dX5_becomesNew_182 : decode cX5_becomesNew 182 = .ok (.iload 6, 2) := dk_21 6 (dk_at dksX5_becomesNew_7 20 rfl rfl)
theorem dX5_becomesNew_184 : decode cX5_becomesNew 184 = .ok (.iload 4, 2) := dk_21 4 (dk_at dksX5_becomesNew_7 22 rfl rfl)
theorem dX5_becomesNew_186 : decode cX5_becomesNew 186 = .ok (.if_icmp .ge 26, 3) := dk_162 0 26 (dk_at dksX5_becomesNew_8 0 rfl rfl)
theorem dX5_becomesNew_189 : decode cX5_becomesNew 189 = .ok (.aload_n 0, 1) := dk_42 (dk_at dksX5_becomesNew_8 3 rfl rfl)
theorem dX5_becomesNew_190 : decode cX5_becomesNew 190 = .ok (.getfield 28, 3) := dk_180 0 28 (dk_at dksX5_becomesNew_8 4 rfl rfl)
theorem dX5_becomesNew_193 : decode cX5_becomesNew 193 = .ok (.iload 5, 2) := dk_21 5 (dk_at dksX5_becomesNew_8 7 rfl rfl)
theorem dX5_becomesNew_195 : decode cX5_becomesNew 195 = .ok (.iload 6, 2) := dk_21 6 (dk_at dksX5_becomesNew_8 9 rfl rfl)
theorem dX5_becomesNew_197 : decode cX5_becomesNew 197 = .ok (.iadd, 1) := dk_96 (dk_at dksX5_becomesNew_8 11 rfl rfl)
theorem dX5_becomesNew_198 : decode cX5_becomesNew 198 = .ok (.aload_n 0, 1) := dk_42 (dk_at dksX5_becomesNew_8 12 rfl rfl)
theorem dX5_becomesNew_199 : decode cX5_becomesNew 199 = .ok (.getfield 34, 3) := dk_180 0 34 (dk_at dksX5_becomesNew_8 13 rfl rfl)
theorem dX5_becomesNew_202 : decode cX5_becomesNew 202 = .ok (.iload 6, 2) := dk_21 6 (dk_at dksX5_becomesNew_8 16 rfl rfl)
theorem dX5_becomesNew_204 : decode cX5_becomesNew 204 = .ok (.iaload, 1) := dk_46 (dk_at dksX5_becomesNew_8 18 rfl rfl)
theorem dX5_becomesNew_205 : decode cX5_becomesNew 205 = .ok (.iastore, 1) := dk_79 (dk_at dksX5_becomesNew_8 19 rfl rfl)
theorem dX5_becomesNew_206 : decode cX5_becomesNew 206 = .ok (.iinc 6 1, 3) := dk_132 6 1 (dk_at dksX5_becomesNew_8 20 rfl rfl)
theorem dX5_becomesNew_209 : decode cX5_becomesNew 209 = .ok (.goto (-27), 3) := dk_167 255 229 (dk_at dksX5_becomesNew_9 0 rfl rfl)
theorem dX5_becomesNew_212 : decode cX5_becomesNew 212 = .ok (.aload_n 0, 1) := dk_42 (dk_at dksX5_becomesNew_9 3 rfl rfl)
theorem dX5_becomesNew_213 : decode cX5_becomesNew 213 = .ok (.iload 5, 2) := dk_21 5 (dk_at dksX5_becomesNew_9 4 rfl rfl)
theorem dX5_becomesNew_215 : decode cX5_becomesNew 215 = .ok (.iload 4, 2) := dk_21 4 (dk_at dksX5_becomesNew_9 6 rfl rfl)
theorem dX5_becomesNew_217 : decode cX5_becomesNew 217 = .ok (.iadd, 1) := dk_96 (dk_at dksX5_becomesNew_9 8 rfl rfl)
theorem dX5_becomesNew_218 : decode cX5_becomesNew 218 = .ok (.putfield 173, 3) := dk_181 0 173 (dk_at dksX5_becomesNew_9 9 rfl rfl)
theorem dX5_becomesNew_221 : decode cX5_becomesNew 221 = .ok (.aload_n 0, 1) := dk_42 (dk_at dksX5_becomesNew_9 12 rfl rfl)
theorem dX5_becomesNew_222 : decode cX5_becomesNew 222 = .ok (.iload_n 3, 1) := dk_29 (dk_at dksX5_becomesNew_9 13 rfl rfl)
theorem dX5_becomesNew_223 : decode cX5_becomesNew 223 = .ok (.iconst 1, 1) := dk_4 (dk_at dksX5_becomesNew_9 14 rfl rfl)
theorem dX5_becomesNew_224 : decode cX5_becomesNew 224 = .ok (.iadd, 1) := dk_96 (dk_at dksX5_becomesNew_9 15 rfl rfl)
theorem dX5_becomesNew_225 : decode cX5_becomesNew 225 = .ok (.putfield 170, 3) := dk_181 0 170 (dk_at dksX5_becomesNew_9 16 rfl rfl)
theorem dX5_becomesNew_228 : decode cX5_becomesNew 228 = .ok (.aload_n 0, 1) := dk_42 (dk_at dksX5_becomesNew_9 19 rfl rfl)
theorem dX5_becomesNew_229 : decode cX5_becomesNew 229 = .ok (.getfield 31, 3) := dk_180 0 31 (dk_at dksX5_becomesNew_9 20 rfl rfl)
theorem dX5_becomesNew_232 : decode cX5_becomesNew 232 = .ok (.aload_n 0, 1) := dk_42 (dk_at dksX5_becomesNew_9 23 rfl rfl)
theorem dX5_becomesNew_233 : decode cX5_becomesNew 233 = .ok (.getfield 170, 3) := dk_180 0 170 (dk_at dksX5_becomesNew_10 0 rfl rfl)
theorem dX5_becomesNew_236 : decode cX5_becomesNew 236 = .ok (.aload_n 0, 1) := dk_42 (dk_at dksX5_becomesNew_10 3 rfl rfl)
theorem dX5_becomesNew_237 : decode cX5_becomesNew 237 = .ok (.getfield 173, 3) := dk_180 0 173 (dk_at dksX5_becomesNew_10 4 rfl rfl)
theorem dX5_becomesNew_240 : decode cX5_becomesNew 240 = .ok (.iastore, 1) := dk_79 (dk_at dksX5_becomesNew_10 7 rfl rfl)
theorem dX5_becomesNew_241 : decode cX5_becomesNew 241 = .ok (.return_, 1) := dk_177 (dk_at dksX5_becomesNew_10 8 rfl rfl)
abbrev cX5_treatsOpen : ByteArray := prog_10_method_52_code
def yX5_treatsOpen : MethodName := ⟨RX5, "treatsOpen", "()I"⟩
def dkwX5_treatsOpen_4 : List UInt8 := [3, 61, 167, 255, 174, 27, 172]
abbrev dktX5_treatsOpen_4 : List UInt8 := dkwX5_treatsOpen_4 ++ []
def dkwX5_treatsOpen_3 : List UInt8 := [180, 0, 37, 42, 180, 0, 207, 46, 182, 0, 217, 96, 60, 42, 180, 0, 207, 158, 0, 7, 4, 167, 0, 4]
abbrev dktX5_treatsOpen_3 : List UInt8 := dkwX5_treatsOpen_3 ++ dktX5_treatsOpen_4
def dkwX5_treatsOpen_2 : List UInt8 := [4, 167, 0, 4, 3, 61, 28, 153, 255, 216, 42, 89, 180, 0, 207, 4, 100, 181, 0, 207, 27, 42, 42]
abbrev dktX5_treatsOpen_2 : List UInt8 := dkwX5_treatsOpen_2 ++ dktX5_treatsOpen_3
def dkwX5_treatsOpen_1 : List UInt8 := [180, 0, 207, 4, 100, 92, 46, 4, 100, 79, 42, 180, 0, 40, 42, 180, 0, 207, 4, 100, 46, 154, 0, 7]
abbrev dktX5_treatsOpen_1 : List UInt8 := dkwX5_treatsOpen_1 ++ dktX5_treatsOpen_2
def dkwX5_treatsOpen_0 : List UInt8 := [3, 60, 42, 180, 0, 207, 158, 0, 7, 4, 167, 0, 4, 3, 61, 28, 153, 0, 84, 42, 180, 0, 40, 42]
abbrev dktX5_treatsOpen_0 : List UInt8 := dkwX5_treatsOpen_0 ++ dktX5_treatsOpen_1
theorem dksX5_treatsOpen_0 : cX5_treatsOpen.data.toList.drop 0 = dktX5_treatsOpen_0 := by decide +kernel
theorem dksX5_treatsOpen_1 : cX5_treatsOpen.data.toList.drop 24 = dktX5_treatsOpen_1 := dk_seg dksX5_treatsOpen_0 24 rfl rfl
theorem dksX5_treatsOpen_2 : cX5_treatsOpen.data.toList.drop 48 = dktX5_treatsOpen_2 := dk_seg dksX5_treatsOpen_1 24 rfl rfl
theorem dksX5_treatsOpen_3 : cX5_treatsOpen.data.toList.drop 71 = dktX5_treatsOpen_3 := dk_seg dksX5_treatsOpen_2 23 rfl rfl
theorem dksX5_treatsOpen_4 : cX5_treatsOpen.data.toList.drop 95 = dktX5_treatsOpen_4 := dk_seg dksX5_treatsOpen_3 24 rfl rfl
theorem dX5_treatsOpen_0 : decode cX5_treatsOpen 0 = .ok (.iconst 0, 1) := dk_3 (dk_at dksX5_treatsOpen_0 0 rfl rfl)
theorem dX5_treatsOpen_1 : decode cX5_treatsOpen 1 = .ok (.istore_n 1, 1) := dk_60 (dk_at dksX5_treatsOpen_0 1 rfl rfl)
theorem dX5_treatsOpen_2 : decode cX5_treatsOpen 2 = .ok (.aload_n 0, 1) := dk_42 (dk_at dksX5_treatsOpen_0 2 rfl rfl)
theorem dX5_treatsOpen_3 : decode cX5_treatsOpen 3 = .ok (.getfield 207, 3) := dk_180 0 207 (dk_at dksX5_treatsOpen_0 3 rfl rfl)
theorem dX5_treatsOpen_6 : decode cX5_treatsOpen 6 = .ok (.ifCond .le 7, 3) := dk_158 0 7 (dk_at dksX5_treatsOpen_0 6 rfl rfl)
theorem dX5_treatsOpen_9 : decode cX5_treatsOpen 9 = .ok (.iconst 1, 1) := dk_4 (dk_at dksX5_treatsOpen_0 9 rfl rfl)
theorem dX5_treatsOpen_10 : decode cX5_treatsOpen 10 = .ok (.goto 4, 3) := dk_167 0 4 (dk_at dksX5_treatsOpen_0 10 rfl rfl)
theorem dX5_treatsOpen_13 : decode cX5_treatsOpen 13 = .ok (.iconst 0, 1) := dk_3 (dk_at dksX5_treatsOpen_0 13 rfl rfl)
theorem dX5_treatsOpen_14 : decode cX5_treatsOpen 14 = .ok (.istore_n 2, 1) := dk_61 (dk_at dksX5_treatsOpen_0 14 rfl rfl)
theorem dX5_treatsOpen_15 : decode cX5_treatsOpen 15 = .ok (.iload_n 2, 1) := dk_28 (dk_at dksX5_treatsOpen_0 15 rfl rfl)
theorem dX5_treatsOpen_16 : decode cX5_treatsOpen 16 = .ok (.ifCond .eq 84, 3) := dk_153 0 84 (dk_at dksX5_treatsOpen_0 16 rfl rfl)
theorem dX5_treatsOpen_19 : decode cX5_treatsOpen 19 = .ok (.aload_n 0, 1) := dk_42 (dk_at dksX5_treatsOpen_0 19 rfl rfl)
theorem dX5_treatsOpen_20 : decode cX5_treatsOpen 20 = .ok (.getfield 40, 3) := dk_180 0 40 (dk_at dksX5_treatsOpen_0 20 rfl rfl)
theorem dX5_treatsOpen_23 : decode cX5_treatsOpen 23 = .ok (.aload_n 0, 1) := dk_42 (dk_at dksX5_treatsOpen_0 23 rfl rfl)
theorem dX5_treatsOpen_24 : decode cX5_treatsOpen 24 = .ok (.getfield 207, 3) := dk_180 0 207 (dk_at dksX5_treatsOpen_1 0 rfl rfl)
theorem dX5_treatsOpen_27 : decode cX5_treatsOpen 27 = .ok (.iconst 1, 1) := dk_4 (dk_at dksX5_treatsOpen_1 3 rfl rfl)
theorem dX5_treatsOpen_28 : decode cX5_treatsOpen 28 = .ok (.isub, 1) := dk_100 (dk_at dksX5_treatsOpen_1 4 rfl rfl)
theorem dX5_treatsOpen_29 : decode cX5_treatsOpen 29 = .ok (.dup2, 1) := dk_92 (dk_at dksX5_treatsOpen_1 5 rfl rfl)
theorem dX5_treatsOpen_30 : decode cX5_treatsOpen 30 = .ok (.iaload, 1) := dk_46 (dk_at dksX5_treatsOpen_1 6 rfl rfl)
theorem dX5_treatsOpen_31 : decode cX5_treatsOpen 31 = .ok (.iconst 1, 1) := dk_4 (dk_at dksX5_treatsOpen_1 7 rfl rfl)
theorem dX5_treatsOpen_32 : decode cX5_treatsOpen 32 = .ok (.isub, 1) := dk_100 (dk_at dksX5_treatsOpen_1 8 rfl rfl)
theorem dX5_treatsOpen_33 : decode cX5_treatsOpen 33 = .ok (.iastore, 1) := dk_79 (dk_at dksX5_treatsOpen_1 9 rfl rfl)
theorem dX5_treatsOpen_34 : decode cX5_treatsOpen 34 = .ok (.aload_n 0, 1) := dk_42 (dk_at dksX5_treatsOpen_1 10 rfl rfl)
theorem dX5_treatsOpen_35 : decode cX5_treatsOpen 35 = .ok (.getfield 40, 3) := dk_180 0 40 (dk_at dksX5_treatsOpen_1 11 rfl rfl)
theorem dX5_treatsOpen_38 : decode cX5_treatsOpen 38 = .ok (.aload_n 0, 1) := dk_42 (dk_at dksX5_treatsOpen_1 14 rfl rfl)
theorem dX5_treatsOpen_39 : decode cX5_treatsOpen 39 = .ok (.getfield 207, 3) := dk_180 0 207 (dk_at dksX5_treatsOpen_1 15 rfl rfl)
theorem dX5_treatsOpen_42 : decode cX5_treatsOpen 42 = .ok (.iconst 1, 1) := dk_4 (dk_at dksX5_treatsOpen_1 18 rfl rfl)
theorem dX5_treatsOpen_43 : decode cX5_treatsOpen 43 = .ok (.isub, 1) := dk_100 (dk_at dksX5_treatsOpen_1 19 rfl rfl)
theorem dX5_treatsOpen_44 : decode cX5_treatsOpen 44 = .ok (.iaload, 1) := dk_46 (dk_at dksX5_treatsOpen_1 20 rfl rfl)
theorem dX5_treatsOpen_45 : decode cX5_treatsOpen 45 = .ok (.ifCond .ne 7, 3) := dk_154 0 7 (dk_at dksX5_treatsOpen_1 21 rfl rfl)
theorem dX5_treatsOpen_48 : decode cX5_treatsOpen 48 = .ok (.iconst 1, 1) := dk_4 (dk_at dksX5_treatsOpen_2 0 rfl rfl)
theorem dX5_treatsOpen_49 : decode cX5_treatsOpen 49 = .ok (.goto 4, 3) := dk_167 0 4 (dk_at dksX5_treatsOpen_2 1 rfl rfl)
theorem dX5_treatsOpen_52 : decode cX5_treatsOpen 52 = .ok (.iconst 0, 1) := dk_3 (dk_at dksX5_treatsOpen_2 4 rfl rfl)
theorem dX5_treatsOpen_53 : decode cX5_treatsOpen 53 = .ok (.istore_n 2, 1) := dk_61 (dk_at dksX5_treatsOpen_2 5 rfl rfl)
theorem dX5_treatsOpen_54 : decode cX5_treatsOpen 54 = .ok (.iload_n 2, 1) := dk_28 (dk_at dksX5_treatsOpen_2 6 rfl rfl)
theorem dX5_treatsOpen_55 : decode cX5_treatsOpen 55 = .ok (.ifCond .eq (-40), 3) := dk_153 255 216 (dk_at dksX5_treatsOpen_2 7 rfl rfl)
theorem dX5_treatsOpen_58 : decode cX5_treatsOpen 58 = .ok (.aload_n 0, 1) := dk_42 (dk_at dksX5_treatsOpen_2 10 rfl rfl)
theorem dX5_treatsOpen_59 : decode cX5_treatsOpen 59 = .ok (.dup, 1) := dk_89 (dk_at dksX5_treatsOpen_2 11 rfl rfl)
theorem dX5_treatsOpen_60 : decode cX5_treatsOpen 60 = .ok (.getfield 207, 3) := dk_180 0 207 (dk_at dksX5_treatsOpen_2 12 rfl rfl)
theorem dX5_treatsOpen_63 : decode cX5_treatsOpen 63 = .ok (.iconst 1, 1) := dk_4 (dk_at dksX5_treatsOpen_2 15 rfl rfl)
theorem dX5_treatsOpen_64 : decode cX5_treatsOpen 64 = .ok (.isub, 1) := dk_100 (dk_at dksX5_treatsOpen_2 16 rfl rfl)
theorem dX5_treatsOpen_65 : decode cX5_treatsOpen 65 = .ok (.putfield 207, 3) := dk_181 0 207 (dk_at dksX5_treatsOpen_2 17 rfl rfl)
theorem dX5_treatsOpen_68 : decode cX5_treatsOpen 68 = .ok (.iload_n 1, 1) := dk_27 (dk_at dksX5_treatsOpen_2 20 rfl rfl)
theorem dX5_treatsOpen_69 : decode cX5_treatsOpen 69 = .ok (.aload_n 0, 1) := dk_42 (dk_at dksX5_treatsOpen_2 21 rfl rfl)
theorem dX5_treatsOpen_70 : decode cX5_treatsOpen 70 = .ok (.aload_n 0, 1) := dk_42 (dk_at dksX5_treatsOpen_2 22 rfl rfl)
theorem dX5_treatsOpen_71 : decode cX5_treatsOpen 71 = .ok (.getfield 37, 3) := dk_180 0 37 (dk_at dksX5_treatsOpen_3 0 rfl rfl)
theorem dX5_treatsOpen_74 : decode cX5_treatsOpen 74 = .ok (.aload_n 0, 1) := dk_42 (dk_at dksX5_treatsOpen_3 3 rfl rfl)
theorem dX5_treatsOpen_75 : decode cX5_treatsOpen 75 = .ok (.getfield 207, 3) := dk_180 0 207 (dk_at dksX5_treatsOpen_3 4 rfl rfl)
theorem dX5_treatsOpen_78 : decode cX5_treatsOpen 78 = .ok (.iaload, 1) := dk_46 (dk_at dksX5_treatsOpen_3 7 rfl rfl)
theorem dX5_treatsOpen_79 : decode cX5_treatsOpen 79 = .ok (.invokevirtual 217, 3) := dk_182 0 217 (dk_at dksX5_treatsOpen_3 8 rfl rfl)
theorem dX5_treatsOpen_82 : decode cX5_treatsOpen 82 = .ok (.iadd, 1) := dk_96 (dk_at dksX5_treatsOpen_3 11 rfl rfl)
theorem dX5_treatsOpen_83 : decode cX5_treatsOpen 83 = .ok (.istore_n 1, 1) := dk_60 (dk_at dksX5_treatsOpen_3 12 rfl rfl)
theorem dX5_treatsOpen_84 : decode cX5_treatsOpen 84 = .ok (.aload_n 0, 1) := dk_42 (dk_at dksX5_treatsOpen_3 13 rfl rfl)
theorem dX5_treatsOpen_85 : decode cX5_treatsOpen 85 = .ok (.getfield 207, 3) := dk_180 0 207 (dk_at dksX5_treatsOpen_3 14 rfl rfl)
theorem dX5_treatsOpen_88 : decode cX5_treatsOpen 88 = .ok (.ifCond .le 7, 3) := dk_158 0 7 (dk_at dksX5_treatsOpen_3 17 rfl rfl)
theorem dX5_treatsOpen_91 : decode cX5_treatsOpen 91 = .ok (.iconst 1, 1) := dk_4 (dk_at dksX5_treatsOpen_3 20 rfl rfl)
theorem dX5_treatsOpen_92 : decode cX5_treatsOpen 92 = .ok (.goto 4, 3) := dk_167 0 4 (dk_at dksX5_treatsOpen_3 21 rfl rfl)
theorem dX5_treatsOpen_95 : decode cX5_treatsOpen 95 = .ok (.iconst 0, 1) := dk_3 (dk_at dksX5_treatsOpen_4 0 rfl rfl)
theorem dX5_treatsOpen_96 : decode cX5_treatsOpen 96 = .ok (.istore_n 2, 1) := dk_61 (dk_at dksX5_treatsOpen_4 1 rfl rfl)
theorem dX5_treatsOpen_97 : decode cX5_treatsOpen 97 = .ok (.goto (-82), 3) := dk_167 255 174 (dk_at dksX5_treatsOpen_4 2 rfl rfl)
theorem dX5_treatsOpen_100 : decode cX5_treatsOpen 100 = .ok (.iload_n 1, 1) := dk_27 (dk_at dksX5_treatsOpen_4 5 rfl rfl)
theorem dX5_treatsOpen_101 : decode cX5_treatsOpen 101 = .ok (.ireturn, 1) := dk_172 (dk_at dksX5_treatsOpen_4 6 rfl rfl)
abbrev cX5_left : ByteArray := prog_10_method_53_code
def yX5_left : MethodName := ⟨RX5, "left", "(I)I"⟩
def dkwX5_left_1 : List UInt8 := [167, 0, 9, 42, 16, 254, 182, 0, 72, 172]
abbrev dktX5_left_1 : List UInt8 := dkwX5_left_1 ++ []
def dkwX5_left_0 : List UInt8 := [27, 133, 10, 20, 0, 220, 184, 0, 55, 153, 0, 18, 42, 180, 0, 7, 17, 0, 179, 27, 96, 4, 100, 46]
abbrev dktX5_left_0 : List UInt8 := dkwX5_left_0 ++ dktX5_left_1
theorem dksX5_left_0 : cX5_left.data.toList.drop 0 = dktX5_left_0 := by decide +kernel
theorem dksX5_left_1 : cX5_left.data.toList.drop 24 = dktX5_left_1 := dk_seg dksX5_left_0 24 rfl rfl
theorem dX5_left_0 : decode cX5_left 0 = .ok (.iload_n 1, 1) := dk_27 (dk_at dksX5_left_0 0 rfl rfl)
theorem dX5_left_1 : decode cX5_left 1 = .ok (.i2l, 1) := dk_133 (dk_at dksX5_left_0 1 rfl rfl)
theorem dX5_left_2 : decode cX5_left 2 = .ok (.lconst 1, 1) := dk_10 (dk_at dksX5_left_0 2 rfl rfl)
theorem dX5_left_3 : decode cX5_left 3 = .ok (.ldc2_w 220, 3) := dk_20 0 220 (dk_at dksX5_left_0 3 rfl rfl)
theorem dX5_left_6 : decode cX5_left 6 = .ok (.invokestatic 55, 3) := dk_184 0 55 (dk_at dksX5_left_0 6 rfl rfl)
theorem dX5_left_9 : decode cX5_left 9 = .ok (.ifCond .eq 18, 3) := dk_153 0 18 (dk_at dksX5_left_0 9 rfl rfl)
theorem dX5_left_12 : decode cX5_left 12 = .ok (.aload_n 0, 1) := dk_42 (dk_at dksX5_left_0 12 rfl rfl)
theorem dX5_left_13 : decode cX5_left 13 = .ok (.getfield 7, 3) := dk_180 0 7 (dk_at dksX5_left_0 13 rfl rfl)
theorem dX5_left_16 : decode cX5_left 16 = .ok (.sipush 179, 3) := dk_17 0 179 (dk_at dksX5_left_0 16 rfl rfl)
theorem dX5_left_19 : decode cX5_left 19 = .ok (.iload_n 1, 1) := dk_27 (dk_at dksX5_left_0 19 rfl rfl)
theorem dX5_left_20 : decode cX5_left 20 = .ok (.iadd, 1) := dk_96 (dk_at dksX5_left_0 20 rfl rfl)
theorem dX5_left_21 : decode cX5_left 21 = .ok (.iconst 1, 1) := dk_4 (dk_at dksX5_left_0 21 rfl rfl)
theorem dX5_left_22 : decode cX5_left 22 = .ok (.isub, 1) := dk_100 (dk_at dksX5_left_0 22 rfl rfl)
theorem dX5_left_23 : decode cX5_left 23 = .ok (.iaload, 1) := dk_46 (dk_at dksX5_left_0 23 rfl rfl)
theorem dX5_left_24 : decode cX5_left 24 = .ok (.goto 9, 3) := dk_167 0 9 (dk_at dksX5_left_1 0 rfl rfl)
theorem dX5_left_27 : decode cX5_left 27 = .ok (.aload_n 0, 1) := dk_42 (dk_at dksX5_left_1 3 rfl rfl)
theorem dX5_left_28 : decode cX5_left 28 = .ok (.bipush (-2), 2) := dk_16 254 (dk_at dksX5_left_1 4 rfl rfl)
theorem dX5_left_30 : decode cX5_left 30 = .ok (.invokevirtual 72, 3) := dk_182 0 72 (dk_at dksX5_left_1 6 rfl rfl)
theorem dX5_left_33 : decode cX5_left 33 = .ok (.ireturn, 1) := dk_172 (dk_at dksX5_left_1 9 rfl rfl)
abbrev cX5_sites : ByteArray := prog_10_method_55_code
def yX5_sites : MethodName := ⟨RX5, "sites", "()I"⟩
theorem dX5_sites_0 : decode cX5_sites 0 = .ok (.aload_n 0, 1) := by decide +kernel
theorem dX5_sites_1 : decode cX5_sites 1 = .ok (.invokevirtual 222, 3) := by decide +kernel
theorem dX5_sites_4 : decode cX5_sites 4 = .ok (.ireturn, 1) := by decide +kernel
abbrev cX5_siteMany : ByteArray := prog_10_method_54_code
def yX5_siteMany : MethodName := ⟨RX5, "siteMany", "()I"⟩
def dkwX5_siteMany_2 : List UInt8 := [172]
abbrev dktX5_siteMany_2 : List UInt8 := dkwX5_siteMany_2 ++ []
def dkwX5_siteMany_1 : List UInt8 := [28, 96, 46, 184, 0, 111, 6, 160, 0, 7, 4, 167, 0, 4, 3, 96, 60, 132, 2, 1, 167, 255, 216, 27]
abbrev dktX5_siteMany_1 : List UInt8 := dkwX5_siteMany_1 ++ dktX5_siteMany_2
def dkwX5_siteMany_0 : List UInt8 := [3, 60, 3, 61, 28, 42, 180, 0, 7, 17, 0, 148, 46, 162, 0, 34, 27, 42, 180, 0, 7, 17, 0, 149]
abbrev dktX5_siteMany_0 : List UInt8 := dkwX5_siteMany_0 ++ dktX5_siteMany_1
theorem dksX5_siteMany_0 : cX5_siteMany.data.toList.drop 0 = dktX5_siteMany_0 := by decide +kernel
theorem dksX5_siteMany_1 : cX5_siteMany.data.toList.drop 24 = dktX5_siteMany_1 := dk_seg dksX5_siteMany_0 24 rfl rfl
theorem dksX5_siteMany_2 : cX5_siteMany.data.toList.drop 48 = dktX5_siteMany_2 := dk_seg dksX5_siteMany_1 24 rfl rfl
theorem dX5_siteMany_0 : decode cX5_siteMany 0 = .ok (.iconst 0, 1) := dk_3 (dk_at dksX5_siteMany_0 0 rfl rfl)
theorem dX5_siteMany_1 : decode cX5_siteMany 1 = .ok (.istore_n 1, 1) := dk_60 (dk_at dksX5_siteMany_0 1 rfl rfl)
theorem dX5_siteMany_2 : decode cX5_siteMany 2 = .ok (.iconst 0, 1) := dk_3 (dk_at dksX5_siteMany_0 2 rfl rfl)
theorem dX5_siteMany_3 : decode cX5_siteMany 3 = .ok (.istore_n 2, 1) := dk_61 (dk_at dksX5_siteMany_0 3 rfl rfl)
theorem dX5_siteMany_4 : decode cX5_siteMany 4 = .ok (.iload_n 2, 1) := dk_28 (dk_at dksX5_siteMany_0 4 rfl rfl)
theorem dX5_siteMany_5 : decode cX5_siteMany 5 = .ok (.aload_n 0, 1) := dk_42 (dk_at dksX5_siteMany_0 5 rfl rfl)
theorem dX5_siteMany_6 : decode cX5_siteMany 6 = .ok (.getfield 7, 3) := dk_180 0 7 (dk_at dksX5_siteMany_0 6 rfl rfl)
theorem dX5_siteMany_9 : decode cX5_siteMany 9 = .ok (.sipush 148, 3) := dk_17 0 148 (dk_at dksX5_siteMany_0 9 rfl rfl)
theorem dX5_siteMany_12 : decode cX5_siteMany 12 = .ok (.iaload, 1) := dk_46 (dk_at dksX5_siteMany_0 12 rfl rfl)
theorem dX5_siteMany_13 : decode cX5_siteMany 13 = .ok (.if_icmp .ge 34, 3) := dk_162 0 34 (dk_at dksX5_siteMany_0 13 rfl rfl)
theorem dX5_siteMany_16 : decode cX5_siteMany 16 = .ok (.iload_n 1, 1) := dk_27 (dk_at dksX5_siteMany_0 16 rfl rfl)
theorem dX5_siteMany_17 : decode cX5_siteMany 17 = .ok (.aload_n 0, 1) := dk_42 (dk_at dksX5_siteMany_0 17 rfl rfl)
theorem dX5_siteMany_18 : decode cX5_siteMany 18 = .ok (.getfield 7, 3) := dk_180 0 7 (dk_at dksX5_siteMany_0 18 rfl rfl)
theorem dX5_siteMany_21 : decode cX5_siteMany 21 = .ok (.sipush 149, 3) := dk_17 0 149 (dk_at dksX5_siteMany_0 21 rfl rfl)
theorem dX5_siteMany_24 : decode cX5_siteMany 24 = .ok (.iload_n 2, 1) := dk_28 (dk_at dksX5_siteMany_1 0 rfl rfl)
theorem dX5_siteMany_25 : decode cX5_siteMany 25 = .ok (.iadd, 1) := dk_96 (dk_at dksX5_siteMany_1 1 rfl rfl)
theorem dX5_siteMany_26 : decode cX5_siteMany 26 = .ok (.iaload, 1) := dk_46 (dk_at dksX5_siteMany_1 2 rfl rfl)
theorem dX5_siteMany_27 : decode cX5_siteMany 27 = .ok (.invokestatic 111, 3) := dk_184 0 111 (dk_at dksX5_siteMany_1 3 rfl rfl)
theorem dX5_siteMany_30 : decode cX5_siteMany 30 = .ok (.iconst 3, 1) := dk_6 (dk_at dksX5_siteMany_1 6 rfl rfl)
theorem dX5_siteMany_31 : decode cX5_siteMany 31 = .ok (.if_icmp .ne 7, 3) := dk_160 0 7 (dk_at dksX5_siteMany_1 7 rfl rfl)
theorem dX5_siteMany_34 : decode cX5_siteMany 34 = .ok (.iconst 1, 1) := dk_4 (dk_at dksX5_siteMany_1 10 rfl rfl)
theorem dX5_siteMany_35 : decode cX5_siteMany 35 = .ok (.goto 4, 3) := dk_167 0 4 (dk_at dksX5_siteMany_1 11 rfl rfl)
theorem dX5_siteMany_38 : decode cX5_siteMany 38 = .ok (.iconst 0, 1) := dk_3 (dk_at dksX5_siteMany_1 14 rfl rfl)
theorem dX5_siteMany_39 : decode cX5_siteMany 39 = .ok (.iadd, 1) := dk_96 (dk_at dksX5_siteMany_1 15 rfl rfl)
theorem dX5_siteMany_40 : decode cX5_siteMany 40 = .ok (.istore_n 1, 1) := dk_60 (dk_at dksX5_siteMany_1 16 rfl rfl)
theorem dX5_siteMany_41 : decode cX5_siteMany 41 = .ok (.iinc 2 1, 3) := dk_132 2 1 (dk_at dksX5_siteMany_1 17 rfl rfl)
theorem dX5_siteMany_44 : decode cX5_siteMany 44 = .ok (.goto (-40), 3) := dk_167 255 216 (dk_at dksX5_siteMany_1 20 rfl rfl)
theorem dX5_siteMany_47 : decode cX5_siteMany 47 = .ok (.iload_n 1, 1) := dk_27 (dk_at dksX5_siteMany_1 23 rfl rfl)
theorem dX5_siteMany_48 : decode cX5_siteMany 48 = .ok (.ireturn, 1) := dk_172 (dk_at dksX5_siteMany_2 0 rfl rfl)
abbrev cX5_nodes : ByteArray := prog_10_method_56_code
def yX5_nodes : MethodName := ⟨RX5, "nodes", "()I"⟩
def dkwX5_nodes_0 : List UInt8 := [42, 180, 0, 7, 17, 0, 148, 46, 172]
abbrev dktX5_nodes_0 : List UInt8 := dkwX5_nodes_0 ++ []
theorem dksX5_nodes_0 : cX5_nodes.data.toList.drop 0 = dktX5_nodes_0 := by decide +kernel
theorem dX5_nodes_0 : decode cX5_nodes 0 = .ok (.aload_n 0, 1) := dk_42 (dk_at dksX5_nodes_0 0 rfl rfl)
theorem dX5_nodes_1 : decode cX5_nodes 1 = .ok (.getfield 7, 3) := dk_180 0 7 (dk_at dksX5_nodes_0 1 rfl rfl)
theorem dX5_nodes_4 : decode cX5_nodes 4 = .ok (.sipush 148, 3) := dk_17 0 148 (dk_at dksX5_nodes_0 4 rfl rfl)
theorem dX5_nodes_7 : decode cX5_nodes 7 = .ok (.iaload, 1) := dk_46 (dk_at dksX5_nodes_0 7 rfl rfl)
theorem dX5_nodes_8 : decode cX5_nodes 8 = .ok (.ireturn, 1) := dk_172 (dk_at dksX5_nodes_0 8 rfl rfl)
abbrev cX5_value : ByteArray := prog_10_method_57_code
def yX5_value : MethodName := ⟨RX5, "value", "(II)I"⟩
def dkwX5_value_8 : List UInt8 := [42, 180, 0, 43, 3, 46, 172]
abbrev dktX5_value_8 : List UInt8 := dkwX5_value_8 ++ []
def dkwX5_value_7 : List UInt8 := [167, 255, 216, 42, 180, 0, 43, 29, 21, 6, 17, 3, 232, 112, 79, 132, 3, 1, 132, 4, 255, 167, 255, 114]
abbrev dktX5_value_7 : List UInt8 := dkwX5_value_7 ++ dktX5_value_8
def dkwX5_value_6 : List UInt8 := [180, 0, 7, 21, 7, 4, 96, 21, 8, 96, 46, 42, 180, 0, 43, 29, 46, 104, 96, 54, 6, 132, 8, 1]
abbrev dktX5_value_6 : List UInt8 := dkwX5_value_6 ++ dktX5_value_7
def dkwX5_value_5 : List UInt8 := [21, 7, 46, 54, 6, 3, 54, 8, 21, 8, 21, 5, 184, 0, 167, 162, 0, 36, 132, 3, 255, 21, 6, 42]
abbrev dktX5_value_5 : List UInt8 := dkwX5_value_5 ++ dktX5_value_6
def dkwX5_value_4 : List UInt8 := [21, 5, 184, 0, 111, 5, 164, 0, 68, 42, 21, 5, 182, 0, 154, 5, 96, 54, 7, 42, 180, 0, 7]
abbrev dktX5_value_4 : List UInt8 := dkwX5_value_4 ++ dktX5_value_5
def dkwX5_value_3 : List UInt8 := [21, 5, 184, 0, 114, 167, 0, 17, 21, 5, 184, 0, 111, 4, 160, 0, 7, 27, 167, 0, 4, 28, 54, 6]
abbrev dktX5_value_3 : List UInt8 := dkwX5_value_3 ++ dktX5_value_4
def dkwX5_value_2 : List UInt8 := [155, 0, 143, 42, 180, 0, 7, 17, 0, 149, 21, 4, 96, 46, 54, 5, 21, 5, 184, 0, 111, 154, 0, 11]
abbrev dktX5_value_2 : List UInt8 := dkwX5_value_2 ++ dktX5_value_3
def dkwX5_value_1 : List UInt8 := [42, 16, 254, 182, 0, 72, 172, 3, 62, 42, 180, 0, 7, 17, 0, 148, 46, 4, 100, 54, 4, 21, 4]
abbrev dktX5_value_1 : List UInt8 := dkwX5_value_1 ++ dktX5_value_2
def dkwX5_value_0 : List UInt8 := [27, 133, 9, 20, 0, 225, 184, 0, 55, 153, 0, 15, 28, 133, 9, 20, 0, 225, 184, 0, 55, 154, 0, 10]
abbrev dktX5_value_0 : List UInt8 := dkwX5_value_0 ++ dktX5_value_1
theorem dksX5_value_0 : cX5_value.data.toList.drop 0 = dktX5_value_0 := by decide +kernel
theorem dksX5_value_1 : cX5_value.data.toList.drop 24 = dktX5_value_1 := dk_seg dksX5_value_0 24 rfl rfl
theorem dksX5_value_2 : cX5_value.data.toList.drop 47 = dktX5_value_2 := dk_seg dksX5_value_1 23 rfl rfl
theorem dksX5_value_3 : cX5_value.data.toList.drop 71 = dktX5_value_3 := dk_seg dksX5_value_2 24 rfl rfl
theorem dksX5_value_4 : cX5_value.data.toList.drop 95 = dktX5_value_4 := dk_seg dksX5_value_3 24 rfl rfl
theorem dksX5_value_5 : cX5_value.data.toList.drop 118 = dktX5_value_5 := dk_seg dksX5_value_4 23 rfl rfl
theorem dksX5_value_6 : cX5_value.data.toList.drop 142 = dktX5_value_6 := dk_seg dksX5_value_5 24 rfl rfl
theorem dksX5_value_7 : cX5_value.data.toList.drop 166 = dktX5_value_7 := dk_seg dksX5_value_6 24 rfl rfl
theorem dksX5_value_8 : cX5_value.data.toList.drop 190 = dktX5_value_8 := dk_seg dksX5_value_7 24 rfl rfl
theorem dX5_value_0 : decode cX5_value 0 = .ok (.iload_n 1, 1) := dk_27 (dk_at dksX5_value_0 0 rfl rfl)
theorem dX5_value_1 : decode cX5_value 1 = .ok (.i2l, 1) := dk_133 (dk_at dksX5_value_0 1 rfl rfl)
theorem dX5_value_2 : decode cX5_value 2 = .ok (.lconst 0, 1) := dk_9 (dk_at dksX5_value_0 2 rfl rfl)
theorem dX5_value_3 : decode cX5_value 3 = .ok (.ldc2_w 225, 3) := dk_20 0 225 (dk_at dksX5_value_0 3 rfl rfl)
theorem dX5_value_6 : decode cX5_value 6 = .ok (.invokestatic 55, 3) := dk_184 0 55 (dk_at dksX5_value_0 6 rfl rfl)
theorem dX5_value_9 : decode cX5_value 9 = .ok (.ifCond .eq 15, 3) := dk_153 0 15 (dk_at dksX5_value_0 9 rfl rfl)
theorem dX5_value_12 : decode cX5_value 12 = .ok (.iload_n 2, 1) := dk_28 (dk_at dksX5_value_0 12 rfl rfl)
theorem dX5_value_13 : decode cX5_value 13 = .ok (.i2l, 1) := dk_133 (dk_at dksX5_value_0 13 rfl rfl)
theorem dX5_value_14 : decode cX5_value 14 = .ok (.lconst 0, 1) := dk_9 (dk_at dksX5_value_0 14 rfl rfl)
theorem dX5_value_15 : decode cX5_value 15 = .ok (.ldc2_w 225, 3) := dk_20 0 225 (dk_at dksX5_value_0 15 rfl rfl)
theorem dX5_value_18 : decode cX5_value 18 = .ok (.invokestatic 55, 3) := dk_184 0 55 (dk_at dksX5_value_0 18 rfl rfl)
theorem dX5_value_21 : decode cX5_value 21 = .ok (.ifCond .ne 10, 3) := dk_154 0 10 (dk_at dksX5_value_0 21 rfl rfl)
theorem dX5_value_24 : decode cX5_value 24 = .ok (.aload_n 0, 1) := dk_42 (dk_at dksX5_value_1 0 rfl rfl)
theorem dX5_value_25 : decode cX5_value 25 = .ok (.bipush (-2), 2) := dk_16 254 (dk_at dksX5_value_1 1 rfl rfl)
theorem dX5_value_27 : decode cX5_value 27 = .ok (.invokevirtual 72, 3) := dk_182 0 72 (dk_at dksX5_value_1 3 rfl rfl)
theorem dX5_value_30 : decode cX5_value 30 = .ok (.ireturn, 1) := dk_172 (dk_at dksX5_value_1 6 rfl rfl)
theorem dX5_value_31 : decode cX5_value 31 = .ok (.iconst 0, 1) := dk_3 (dk_at dksX5_value_1 7 rfl rfl)
theorem dX5_value_32 : decode cX5_value 32 = .ok (.istore_n 3, 1) := dk_62 (dk_at dksX5_value_1 8 rfl rfl)
theorem dX5_value_33 : decode cX5_value 33 = .ok (.aload_n 0, 1) := dk_42 (dk_at dksX5_value_1 9 rfl rfl)
theorem dX5_value_34 : decode cX5_value 34 = .ok (.getfield 7, 3) := dk_180 0 7 (dk_at dksX5_value_1 10 rfl rfl)
theorem dX5_value_37 : decode cX5_value 37 = .ok (.sipush 148, 3) := dk_17 0 148 (dk_at dksX5_value_1 13 rfl rfl)
theorem dX5_value_40 : decode cX5_value 40 = .ok (.iaload, 1) := dk_46 (dk_at dksX5_value_1 16 rfl rfl)
theorem dX5_value_41 : decode cX5_value 41 = .ok (.iconst 1, 1) := dk_4 (dk_at dksX5_value_1 17 rfl rfl)
theorem dX5_value_42 : decode cX5_value 42 = .ok (.isub, 1) := dk_100 (dk_at dksX5_value_1 18 rfl rfl)
theorem dX5_value_43 : decode cX5_value 43 = .ok (.istore 4, 2) := dk_54 4 (dk_at dksX5_value_1 19 rfl rfl)
theorem dX5_value_45 : decode cX5_value 45 = .ok (.iload 4, 2) := dk_21 4 (dk_at dksX5_value_1 21 rfl rfl)
theorem dX5_value_47 : decode cX5_value 47 = .ok (.ifCond .lt 143, 3) := dk_155 0 143 (dk_at dksX5_value_2 0 rfl rfl)
theorem dX5_value_50 : decode cX5_value 50 = .ok (.aload_n 0, 1) := dk_42 (dk_at dksX5_value_2 3 rfl rfl)
theorem dX5_value_51 : decode cX5_value 51 = .ok (.getfield 7, 3) := dk_180 0 7 (dk_at dksX5_value_2 4 rfl rfl)
theorem dX5_value_54 : decode cX5_value 54 = .ok (.sipush 149, 3) := dk_17 0 149 (dk_at dksX5_value_2 7 rfl rfl)
theorem dX5_value_57 : decode cX5_value 57 = .ok (.iload 4, 2) := dk_21 4 (dk_at dksX5_value_2 10 rfl rfl)
theorem dX5_value_59 : decode cX5_value 59 = .ok (.iadd, 1) := dk_96 (dk_at dksX5_value_2 12 rfl rfl)
theorem dX5_value_60 : decode cX5_value 60 = .ok (.iaload, 1) := dk_46 (dk_at dksX5_value_2 13 rfl rfl)
theorem dX5_value_61 : decode cX5_value 61 = .ok (.istore 5, 2) := dk_54 5 (dk_at dksX5_value_2 14 rfl rfl)
theorem dX5_value_63 : decode cX5_value 63 = .ok (.iload 5, 2) := dk_21 5 (dk_at dksX5_value_2 16 rfl rfl)
theorem dX5_value_65 : decode cX5_value 65 = .ok (.invokestatic 111, 3) := dk_184 0 111 (dk_at dksX5_value_2 18 rfl rfl)
theorem dX5_value_68 : decode cX5_value 68 = .ok (.ifCond .ne 11, 3) := dk_154 0 11 (dk_at dksX5_value_2 21 rfl rfl)
theorem dX5_value_71 : decode cX5_value 71 = .ok (.iload 5, 2) := dk_21 5 (dk_at dksX5_value_3 0 rfl rfl)
theorem dX5_value_73 : decode cX5_value 73 = .ok (.invokestatic 114, 3) := dk_184 0 114 (dk_at dksX5_value_3 2 rfl rfl)
theorem dX5_value_76 : decode cX5_value 76 = .ok (.goto 17, 3) := dk_167 0 17 (dk_at dksX5_value_3 5 rfl rfl)
theorem dX5_value_79 : decode cX5_value 79 = .ok (.iload 5, 2) := dk_21 5 (dk_at dksX5_value_3 8 rfl rfl)
theorem dX5_value_81 : decode cX5_value 81 = .ok (.invokestatic 111, 3) := dk_184 0 111 (dk_at dksX5_value_3 10 rfl rfl)
theorem dX5_value_84 : decode cX5_value 84 = .ok (.iconst 1, 1) := dk_4 (dk_at dksX5_value_3 13 rfl rfl)
theorem dX5_value_85 : decode cX5_value 85 = .ok (.if_icmp .ne 7, 3) := dk_160 0 7 (dk_at dksX5_value_3 14 rfl rfl)
theorem dX5_value_88 : decode cX5_value 88 = .ok (.iload_n 1, 1) := dk_27 (dk_at dksX5_value_3 17 rfl rfl)
theorem dX5_value_89 : decode cX5_value 89 = .ok (.goto 4, 3) := dk_167 0 4 (dk_at dksX5_value_3 18 rfl rfl)
theorem dX5_value_92 : decode cX5_value 92 = .ok (.iload_n 2, 1) := dk_28 (dk_at dksX5_value_3 21 rfl rfl)
theorem dX5_value_93 : decode cX5_value 93 = .ok (.istore 6, 2) := dk_54 6 (dk_at dksX5_value_3 22 rfl rfl)
theorem dX5_value_95 : decode cX5_value 95 = .ok (.iload 5, 2) := dk_21 5 (dk_at dksX5_value_4 0 rfl rfl)
theorem dX5_value_97 : decode cX5_value 97 = .ok (.invokestatic 111, 3) := dk_184 0 111 (dk_at dksX5_value_4 2 rfl rfl)
theorem dX5_value_100 : decode cX5_value 100 = .ok (.iconst 2, 1) := dk_5 (dk_at dksX5_value_4 5 rfl rfl)
theorem dX5_value_101 : decode cX5_value 101 = .ok (.if_icmp .le 68, 3) := dk_164 0 68 (dk_at dksX5_value_4 6 rfl rfl)
theorem dX5_value_104 : decode cX5_value 104 = .ok (.aload_n 0, 1) := dk_42 (dk_at dksX5_value_4 9 rfl rfl)
theorem dX5_value_105 : decode cX5_value 105 = .ok (.iload 5, 2) := dk_21 5 (dk_at dksX5_value_4 10 rfl rfl)
theorem dX5_value_107 : decode cX5_value 107 = .ok (.invokevirtual 154, 3) := dk_182 0 154 (dk_at dksX5_value_4 12 rfl rfl)
theorem dX5_value_110 : decode cX5_value 110 = .ok (.iconst 2, 1) := dk_5 (dk_at dksX5_value_4 15 rfl rfl)
theorem dX5_value_111 : decode cX5_value 111 = .ok (.iadd, 1) := dk_96 (dk_at dksX5_value_4 16 rfl rfl)
theorem dX5_value_112 : decode cX5_value 112 = .ok (.istore 7, 2) := dk_54 7 (dk_at dksX5_value_4 17 rfl rfl)
theorem dX5_value_114 : decode cX5_value 114 = .ok (.aload_n 0, 1) := dk_42 (dk_at dksX5_value_4 19 rfl rfl)
theorem dX5_value_115 : decode cX5_value 115 = .ok (.getfield 7, 3) := dk_180 0 7 (dk_at dksX5_value_4 20 rfl rfl)
theorem dX5_value_118 : decode cX5_value 118 = .ok (.iload 7, 2) := dk_21 7 (dk_at dksX5_value_5 0 rfl rfl)
theorem dX5_value_120 : decode cX5_value 120 = .ok (.iaload, 1) := dk_46 (dk_at dksX5_value_5 2 rfl rfl)
theorem dX5_value_121 : decode cX5_value 121 = .ok (.istore 6, 2) := dk_54 6 (dk_at dksX5_value_5 3 rfl rfl)
theorem dX5_value_123 : decode cX5_value 123 = .ok (.iconst 0, 1) := dk_3 (dk_at dksX5_value_5 5 rfl rfl)
theorem dX5_value_124 : decode cX5_value 124 = .ok (.istore 8, 2) := dk_54 8 (dk_at dksX5_value_5 6 rfl rfl)
theorem dX5_value_126 : decode cX5_value 126 = .ok (.iload 8, 2) := dk_21 8 (dk_at dksX5_value_5 8 rfl rfl)
theorem dX5_value_128 : decode cX5_value 128 = .ok (.iload 5, 2) := dk_21 5 (dk_at dksX5_value_5 10 rfl rfl)
theorem dX5_value_130 : decode cX5_value 130 = .ok (.invokestatic 167, 3) := dk_184 0 167 (dk_at dksX5_value_5 12 rfl rfl)
theorem dX5_value_133 : decode cX5_value 133 = .ok (.if_icmp .ge 36, 3) := dk_162 0 36 (dk_at dksX5_value_5 15 rfl rfl)
theorem dX5_value_136 : decode cX5_value 136 = .ok (.iinc 3 (-1), 3) := dk_132 3 255 (dk_at dksX5_value_5 18 rfl rfl)
theorem dX5_value_139 : decode cX5_value 139 = .ok (.iload 6, 2) := dk_21 6 (dk_at dksX5_value_5 21 rfl rfl)
theorem dX5_value_141 : decode cX5_value 141 = .ok (.aload_n 0, 1) := dk_42 (dk_at dksX5_value_5 23 rfl rfl)
theorem dX5_value_142 : decode cX5_value 142 = .ok (.getfield 7, 3) := dk_180 0 7 (dk_at dksX5_value_6 0 rfl rfl)
theorem dX5_value_145 : decode cX5_value 145 = .ok (.iload 7, 2) := dk_21 7 (dk_at dksX5_value_6 3 rfl rfl)
theorem dX5_value_147 : decode cX5_value 147 = .ok (.iconst 1, 1) := dk_4 (dk_at dksX5_value_6 5 rfl rfl)
theorem dX5_value_148 : decode cX5_value 148 = .ok (.iadd, 1) := dk_96 (dk_at dksX5_value_6 6 rfl rfl)
theorem dX5_value_149 : decode cX5_value 149 = .ok (.iload 8, 2) := dk_21 8 (dk_at dksX5_value_6 7 rfl rfl)
theorem dX5_value_151 : decode cX5_value 151 = .ok (.iadd, 1) := dk_96 (dk_at dksX5_value_6 9 rfl rfl)
theorem dX5_value_152 : decode cX5_value 152 = .ok (.iaload, 1) := dk_46 (dk_at dksX5_value_6 10 rfl rfl)
theorem dX5_value_153 : decode cX5_value 153 = .ok (.aload_n 0, 1) := dk_42 (dk_at dksX5_value_6 11 rfl rfl)
theorem dX5_value_154 : decode cX5_value 154 = .ok (.getfield 43, 3) := dk_180 0 43 (dk_at dksX5_value_6 12 rfl rfl)
theorem dX5_value_157 : decode cX5_value 157 = .ok (.iload_n 3, 1) := dk_29 (dk_at dksX5_value_6 15 rfl rfl)
theorem dX5_value_158 : decode cX5_value 158 = .ok (.iaload, 1) := dk_46 (dk_at dksX5_value_6 16 rfl rfl)
theorem dX5_value_159 : decode cX5_value 159 = .ok (.imul, 1) := dk_104 (dk_at dksX5_value_6 17 rfl rfl)
theorem dX5_value_160 : decode cX5_value 160 = .ok (.iadd, 1) := dk_96 (dk_at dksX5_value_6 18 rfl rfl)
theorem dX5_value_161 : decode cX5_value 161 = .ok (.istore 6, 2) := dk_54 6 (dk_at dksX5_value_6 19 rfl rfl)
theorem dX5_value_163 : decode cX5_value 163 = .ok (.iinc 8 1, 3) := dk_132 8 1 (dk_at dksX5_value_6 21 rfl rfl)
theorem dX5_value_166 : decode cX5_value 166 = .ok (.goto (-40), 3) := dk_167 255 216 (dk_at dksX5_value_7 0 rfl rfl)
theorem dX5_value_169 : decode cX5_value 169 = .ok (.aload_n 0, 1) := dk_42 (dk_at dksX5_value_7 3 rfl rfl)
theorem dX5_value_170 : decode cX5_value 170 = .ok (.getfield 43, 3) := dk_180 0 43 (dk_at dksX5_value_7 4 rfl rfl)
theorem dX5_value_173 : decode cX5_value 173 = .ok (.iload_n 3, 1) := dk_29 (dk_at dksX5_value_7 7 rfl rfl)
theorem dX5_value_174 : decode cX5_value 174 = .ok (.iload 6, 2) := dk_21 6 (dk_at dksX5_value_7 8 rfl rfl)
theorem dX5_value_176 : decode cX5_value 176 = .ok (.sipush 1000, 3) := dk_17 3 232 (dk_at dksX5_value_7 10 rfl rfl)
theorem dX5_value_179 : decode cX5_value 179 = .ok (.irem, 1) := dk_112 (dk_at dksX5_value_7 13 rfl rfl)
theorem dX5_value_180 : decode cX5_value 180 = .ok (.iastore, 1) := dk_79 (dk_at dksX5_value_7 14 rfl rfl)
theorem dX5_value_181 : decode cX5_value 181 = .ok (.iinc 3 1, 3) := dk_132 3 1 (dk_at dksX5_value_7 15 rfl rfl)
theorem dX5_value_184 : decode cX5_value 184 = .ok (.iinc 4 (-1), 3) := dk_132 4 255 (dk_at dksX5_value_7 18 rfl rfl)
theorem dX5_value_187 : decode cX5_value 187 = .ok (.goto (-142), 3) := dk_167 255 114 (dk_at dksX5_value_7 21 rfl rfl)
theorem dX5_value_190 : decode cX5_value 190 = .ok (.aload_n 0, 1) := dk_42 (dk_at dksX5_value_8 0 rfl rfl)
theorem dX5_value_191 : decode cX5_value 191 = .ok (.getfield 43, 3) := dk_180 0 43 (dk_at dksX5_value_8 1 rfl rfl)
theorem dX5_value_194 : decode cX5_value 194 = .ok (.iconst 0, 1) := dk_3 (dk_at dksX5_value_8 4 rfl rfl)
theorem dX5_value_195 : decode cX5_value 195 = .ok (.iaload, 1) := dk_46 (dk_at dksX5_value_8 5 rfl rfl)
theorem dX5_value_196 : decode cX5_value 196 = .ok (.ireturn, 1) := dk_172 (dk_at dksX5_value_8 6 rfl rfl)
abbrev cX5_textByte : ByteArray := prog_10_method_62_code
def yX5_textByte : MethodName := ⟨RX5, "textByte", "(I)I"⟩
def dkwX5_textByte_2 : List UInt8 := [172]
abbrev dktX5_textByte_2 : List UInt8 := dkwX5_textByte_2 ++ []
def dkwX5_textByte_1 : List UInt8 := [180, 0, 227, 167, 0, 21, 27, 42, 180, 0, 227, 162, 0, 12, 42, 180, 0, 46, 27, 46, 167, 0, 4, 2]
abbrev dktX5_textByte_1 : List UInt8 := dkwX5_textByte_1 ++ dktX5_textByte_2
def dkwX5_textByte_0 : List UInt8 := [27, 2, 162, 0, 10, 42, 16, 254, 182, 0, 72, 172, 42, 182, 0, 239, 27, 2, 160, 0, 10, 42]
abbrev dktX5_textByte_0 : List UInt8 := dkwX5_textByte_0 ++ dktX5_textByte_1
theorem dksX5_textByte_0 : cX5_textByte.data.toList.drop 0 = dktX5_textByte_0 := by decide +kernel
theorem dksX5_textByte_1 : cX5_textByte.data.toList.drop 22 = dktX5_textByte_1 := dk_seg dksX5_textByte_0 22 rfl rfl
theorem dksX5_textByte_2 : cX5_textByte.data.toList.drop 46 = dktX5_textByte_2 := dk_seg dksX5_textByte_1 24 rfl rfl
theorem dX5_textByte_0 : decode cX5_textByte 0 = .ok (.iload_n 1, 1) := dk_27 (dk_at dksX5_textByte_0 0 rfl rfl)
theorem dX5_textByte_1 : decode cX5_textByte 1 = .ok (.iconst (-1), 1) := dk_2 (dk_at dksX5_textByte_0 1 rfl rfl)
theorem dX5_textByte_2 : decode cX5_textByte 2 = .ok (.if_icmp .ge 10, 3) := dk_162 0 10 (dk_at dksX5_textByte_0 2 rfl rfl)
theorem dX5_textByte_5 : decode cX5_textByte 5 = .ok (.aload_n 0, 1) := dk_42 (dk_at dksX5_textByte_0 5 rfl rfl)
theorem dX5_textByte_6 : decode cX5_textByte 6 = .ok (.bipush (-2), 2) := dk_16 254 (dk_at dksX5_textByte_0 6 rfl rfl)
theorem dX5_textByte_8 : decode cX5_textByte 8 = .ok (.invokevirtual 72, 3) := dk_182 0 72 (dk_at dksX5_textByte_0 8 rfl rfl)
theorem dX5_textByte_11 : decode cX5_textByte 11 = .ok (.ireturn, 1) := dk_172 (dk_at dksX5_textByte_0 11 rfl rfl)
theorem dX5_textByte_12 : decode cX5_textByte 12 = .ok (.aload_n 0, 1) := dk_42 (dk_at dksX5_textByte_0 12 rfl rfl)
theorem dX5_textByte_13 : decode cX5_textByte 13 = .ok (.invokevirtual 239, 3) := dk_182 0 239 (dk_at dksX5_textByte_0 13 rfl rfl)
theorem dX5_textByte_16 : decode cX5_textByte 16 = .ok (.iload_n 1, 1) := dk_27 (dk_at dksX5_textByte_0 16 rfl rfl)
theorem dX5_textByte_17 : decode cX5_textByte 17 = .ok (.iconst (-1), 1) := dk_2 (dk_at dksX5_textByte_0 17 rfl rfl)
theorem dX5_textByte_18 : decode cX5_textByte 18 = .ok (.if_icmp .ne 10, 3) := dk_160 0 10 (dk_at dksX5_textByte_0 18 rfl rfl)
theorem dX5_textByte_21 : decode cX5_textByte 21 = .ok (.aload_n 0, 1) := dk_42 (dk_at dksX5_textByte_0 21 rfl rfl)
theorem dX5_textByte_22 : decode cX5_textByte 22 = .ok (.getfield 227, 3) := dk_180 0 227 (dk_at dksX5_textByte_1 0 rfl rfl)
theorem dX5_textByte_25 : decode cX5_textByte 25 = .ok (.goto 21, 3) := dk_167 0 21 (dk_at dksX5_textByte_1 3 rfl rfl)
theorem dX5_textByte_28 : decode cX5_textByte 28 = .ok (.iload_n 1, 1) := dk_27 (dk_at dksX5_textByte_1 6 rfl rfl)
theorem dX5_textByte_29 : decode cX5_textByte 29 = .ok (.aload_n 0, 1) := dk_42 (dk_at dksX5_textByte_1 7 rfl rfl)
theorem dX5_textByte_30 : decode cX5_textByte 30 = .ok (.getfield 227, 3) := dk_180 0 227 (dk_at dksX5_textByte_1 8 rfl rfl)
theorem dX5_textByte_33 : decode cX5_textByte 33 = .ok (.if_icmp .ge 12, 3) := dk_162 0 12 (dk_at dksX5_textByte_1 11 rfl rfl)
theorem dX5_textByte_36 : decode cX5_textByte 36 = .ok (.aload_n 0, 1) := dk_42 (dk_at dksX5_textByte_1 14 rfl rfl)
theorem dX5_textByte_37 : decode cX5_textByte 37 = .ok (.getfield 46, 3) := dk_180 0 46 (dk_at dksX5_textByte_1 15 rfl rfl)
theorem dX5_textByte_40 : decode cX5_textByte 40 = .ok (.iload_n 1, 1) := dk_27 (dk_at dksX5_textByte_1 18 rfl rfl)
theorem dX5_textByte_41 : decode cX5_textByte 41 = .ok (.iaload, 1) := dk_46 (dk_at dksX5_textByte_1 19 rfl rfl)
theorem dX5_textByte_42 : decode cX5_textByte 42 = .ok (.goto 4, 3) := dk_167 0 4 (dk_at dksX5_textByte_1 20 rfl rfl)
theorem dX5_textByte_45 : decode cX5_textByte 45 = .ok (.iconst (-1), 1) := dk_2 (dk_at dksX5_textByte_1 23 rfl rfl)
theorem dX5_textByte_46 : decode cX5_textByte 46 = .ok (.ireturn, 1) := dk_172 (dk_at dksX5_textByte_2 0 rfl rfl)
abbrev cX5_tellsAll : ByteArray := prog_10_method_60_code
def yX5_tellsAll : MethodName := ⟨RX5, "tellsAll", "()V"⟩
def dkwX5_tellsAll_4 : List UInt8 := [167, 255, 174, 177]
abbrev dktX5_tellsAll_4 : List UInt8 := dkwX5_tellsAll_4 ++ []
def dkwX5_tellsAll_3 : List UInt8 := [167, 0, 21, 28, 184, 0, 111, 5, 164, 0, 9, 42, 16, 41, 182, 0, 230, 42, 182, 0, 236, 132, 1, 1]
abbrev dktX5_tellsAll_3 : List UInt8 := dkwX5_tellsAll_3 ++ dktX5_tellsAll_4
def dkwX5_tellsAll_2 : List UInt8 := [180, 0, 25, 42, 180, 0, 157, 28, 184, 0, 167, 79, 42, 89, 180, 0, 157, 4, 96, 181, 0, 157]
abbrev dktX5_tellsAll_2 : List UInt8 := dkwX5_tellsAll_2 ++ dktX5_tellsAll_3
def dkwX5_tellsAll_1 : List UInt8 := [42, 180, 0, 7, 17, 0, 149, 27, 96, 46, 61, 42, 28, 182, 0, 233, 28, 184, 0, 167, 158, 0, 29, 42]
abbrev dktX5_tellsAll_1 : List UInt8 := dkwX5_tellsAll_1 ++ dktX5_tellsAll_2
def dkwX5_tellsAll_0 : List UInt8 := [42, 3, 181, 0, 227, 42, 3, 181, 0, 157, 3, 60, 27, 42, 180, 0, 7, 17, 0, 148, 46, 162, 0, 76]
abbrev dktX5_tellsAll_0 : List UInt8 := dkwX5_tellsAll_0 ++ dktX5_tellsAll_1
theorem dksX5_tellsAll_0 : cX5_tellsAll.data.toList.drop 0 = dktX5_tellsAll_0 := by decide +kernel
theorem dksX5_tellsAll_1 : cX5_tellsAll.data.toList.drop 24 = dktX5_tellsAll_1 := dk_seg dksX5_tellsAll_0 24 rfl rfl
theorem dksX5_tellsAll_2 : cX5_tellsAll.data.toList.drop 48 = dktX5_tellsAll_2 := dk_seg dksX5_tellsAll_1 24 rfl rfl
theorem dksX5_tellsAll_3 : cX5_tellsAll.data.toList.drop 70 = dktX5_tellsAll_3 := dk_seg dksX5_tellsAll_2 22 rfl rfl
theorem dksX5_tellsAll_4 : cX5_tellsAll.data.toList.drop 94 = dktX5_tellsAll_4 := dk_seg dksX5_tellsAll_3 24 rfl rfl
theorem dX5_tellsAll_0 : decode cX5_tellsAll 0 = .ok (.aload_n 0, 1) := dk_42 (dk_at dksX5_tellsAll_0 0 rfl rfl)
theorem dX5_tellsAll_1 : decode cX5_tellsAll 1 = .ok (.iconst 0, 1) := dk_3 (dk_at dksX5_tellsAll_0 1 rfl rfl)
theorem dX5_tellsAll_2 : decode cX5_tellsAll 2 = .ok (.putfield 227, 3) := dk_181 0 227 (dk_at dksX5_tellsAll_0 2 rfl rfl)
theorem dX5_tellsAll_5 : decode cX5_tellsAll 5 = .ok (.aload_n 0, 1) := dk_42 (dk_at dksX5_tellsAll_0 5 rfl rfl)
theorem dX5_tellsAll_6 : decode cX5_tellsAll 6 = .ok (.iconst 0, 1) := dk_3 (dk_at dksX5_tellsAll_0 6 rfl rfl)
theorem dX5_tellsAll_7 : decode cX5_tellsAll 7 = .ok (.putfield 157, 3) := dk_181 0 157 (dk_at dksX5_tellsAll_0 7 rfl rfl)
theorem dX5_tellsAll_10 : decode cX5_tellsAll 10 = .ok (.iconst 0, 1) := dk_3 (dk_at dksX5_tellsAll_0 10 rfl rfl)
theorem dX5_tellsAll_11 : decode cX5_tellsAll 11 = .ok (.istore_n 1, 1) := dk_60 (dk_at dksX5_tellsAll_0 11 rfl rfl)
theorem dX5_tellsAll_12 : decode cX5_tellsAll 12 = .ok (.iload_n 1, 1) := dk_27 (dk_at dksX5_tellsAll_0 12 rfl rfl)
theorem dX5_tellsAll_13 : decode cX5_tellsAll 13 = .ok (.aload_n 0, 1) := dk_42 (dk_at dksX5_tellsAll_0 13 rfl rfl)
theorem dX5_tellsAll_14 : decode cX5_tellsAll 14 = .ok (.getfield 7, 3) := dk_180 0 7 (dk_at dksX5_tellsAll_0 14 rfl rfl)
theorem dX5_tellsAll_17 : decode cX5_tellsAll 17 = .ok (.sipush 148, 3) := dk_17 0 148 (dk_at dksX5_tellsAll_0 17 rfl rfl)
theorem dX5_tellsAll_20 : decode cX5_tellsAll 20 = .ok (.iaload, 1) := dk_46 (dk_at dksX5_tellsAll_0 20 rfl rfl)
theorem dX5_tellsAll_21 : decode cX5_tellsAll 21 = .ok (.if_icmp .ge 76, 3) := dk_162 0 76 (dk_at dksX5_tellsAll_0 21 rfl rfl)
theorem dX5_tellsAll_24 : decode cX5_tellsAll 24 = .ok (.aload_n 0, 1) := dk_42 (dk_at dksX5_tellsAll_1 0 rfl rfl)
theorem dX5_tellsAll_25 : decode cX5_tellsAll 25 = .ok (.getfield 7, 3) := dk_180 0 7 (dk_at dksX5_tellsAll_1 1 rfl rfl)
theorem dX5_tellsAll_28 : decode cX5_tellsAll 28 = .ok (.sipush 149, 3) := dk_17 0 149 (dk_at dksX5_tellsAll_1 4 rfl rfl)
theorem dX5_tellsAll_31 : decode cX5_tellsAll 31 = .ok (.iload_n 1, 1) := dk_27 (dk_at dksX5_tellsAll_1 7 rfl rfl)
theorem dX5_tellsAll_32 : decode cX5_tellsAll 32 = .ok (.iadd, 1) := dk_96 (dk_at dksX5_tellsAll_1 8 rfl rfl)
theorem dX5_tellsAll_33 : decode cX5_tellsAll 33 = .ok (.iaload, 1) := dk_46 (dk_at dksX5_tellsAll_1 9 rfl rfl)
theorem dX5_tellsAll_34 : decode cX5_tellsAll 34 = .ok (.istore_n 2, 1) := dk_61 (dk_at dksX5_tellsAll_1 10 rfl rfl)
theorem dX5_tellsAll_35 : decode cX5_tellsAll 35 = .ok (.aload_n 0, 1) := dk_42 (dk_at dksX5_tellsAll_1 11 rfl rfl)
theorem dX5_tellsAll_36 : decode cX5_tellsAll 36 = .ok (.iload_n 2, 1) := dk_28 (dk_at dksX5_tellsAll_1 12 rfl rfl)
theorem dX5_tellsAll_37 : decode cX5_tellsAll 37 = .ok (.invokevirtual 233, 3) := dk_182 0 233 (dk_at dksX5_tellsAll_1 13 rfl rfl)
theorem dX5_tellsAll_40 : decode cX5_tellsAll 40 = .ok (.iload_n 2, 1) := dk_28 (dk_at dksX5_tellsAll_1 16 rfl rfl)
theorem dX5_tellsAll_41 : decode cX5_tellsAll 41 = .ok (.invokestatic 167, 3) := dk_184 0 167 (dk_at dksX5_tellsAll_1 17 rfl rfl)
theorem dX5_tellsAll_44 : decode cX5_tellsAll 44 = .ok (.ifCond .le 29, 3) := dk_158 0 29 (dk_at dksX5_tellsAll_1 20 rfl rfl)
theorem dX5_tellsAll_47 : decode cX5_tellsAll 47 = .ok (.aload_n 0, 1) := dk_42 (dk_at dksX5_tellsAll_1 23 rfl rfl)
theorem dX5_tellsAll_48 : decode cX5_tellsAll 48 = .ok (.getfield 25, 3) := dk_180 0 25 (dk_at dksX5_tellsAll_2 0 rfl rfl)
theorem dX5_tellsAll_51 : decode cX5_tellsAll 51 = .ok (.aload_n 0, 1) := dk_42 (dk_at dksX5_tellsAll_2 3 rfl rfl)
theorem dX5_tellsAll_52 : decode cX5_tellsAll 52 = .ok (.getfield 157, 3) := dk_180 0 157 (dk_at dksX5_tellsAll_2 4 rfl rfl)
theorem dX5_tellsAll_55 : decode cX5_tellsAll 55 = .ok (.iload_n 2, 1) := dk_28 (dk_at dksX5_tellsAll_2 7 rfl rfl)
theorem dX5_tellsAll_56 : decode cX5_tellsAll 56 = .ok (.invokestatic 167, 3) := dk_184 0 167 (dk_at dksX5_tellsAll_2 8 rfl rfl)
theorem dX5_tellsAll_59 : decode cX5_tellsAll 59 = .ok (.iastore, 1) := dk_79 (dk_at dksX5_tellsAll_2 11 rfl rfl)
theorem dX5_tellsAll_60 : decode cX5_tellsAll 60 = .ok (.aload_n 0, 1) := dk_42 (dk_at dksX5_tellsAll_2 12 rfl rfl)
theorem dX5_tellsAll_61 : decode cX5_tellsAll 61 = .ok (.dup, 1) := dk_89 (dk_at dksX5_tellsAll_2 13 rfl rfl)
theorem dX5_tellsAll_62 : decode cX5_tellsAll 62 = .ok (.getfield 157, 3) := dk_180 0 157 (dk_at dksX5_tellsAll_2 14 rfl rfl)
theorem dX5_tellsAll_65 : decode cX5_tellsAll 65 = .ok (.iconst 1, 1) := dk_4 (dk_at dksX5_tellsAll_2 17 rfl rfl)
theorem dX5_tellsAll_66 : decode cX5_tellsAll 66 = .ok (.iadd, 1) := dk_96 (dk_at dksX5_tellsAll_2 18 rfl rfl)
theorem dX5_tellsAll_67 : decode cX5_tellsAll 67 = .ok (.putfield 157, 3) := dk_181 0 157 (dk_at dksX5_tellsAll_2 19 rfl rfl)
theorem dX5_tellsAll_70 : decode cX5_tellsAll 70 = .ok (.goto 21, 3) := dk_167 0 21 (dk_at dksX5_tellsAll_3 0 rfl rfl)
theorem dX5_tellsAll_73 : decode cX5_tellsAll 73 = .ok (.iload_n 2, 1) := dk_28 (dk_at dksX5_tellsAll_3 3 rfl rfl)
theorem dX5_tellsAll_74 : decode cX5_tellsAll 74 = .ok (.invokestatic 111, 3) := dk_184 0 111 (dk_at dksX5_tellsAll_3 4 rfl rfl)
theorem dX5_tellsAll_77 : decode cX5_tellsAll 77 = .ok (.iconst 2, 1) := dk_5 (dk_at dksX5_tellsAll_3 7 rfl rfl)
theorem dX5_tellsAll_78 : decode cX5_tellsAll 78 = .ok (.if_icmp .le 9, 3) := dk_164 0 9 (dk_at dksX5_tellsAll_3 8 rfl rfl)
theorem dX5_tellsAll_81 : decode cX5_tellsAll 81 = .ok (.aload_n 0, 1) := dk_42 (dk_at dksX5_tellsAll_3 11 rfl rfl)
theorem dX5_tellsAll_82 : decode cX5_tellsAll 82 = .ok (.bipush 41, 2) := dk_16 41 (dk_at dksX5_tellsAll_3 12 rfl rfl)
theorem dX5_tellsAll_84 : decode cX5_tellsAll 84 = .ok (.invokevirtual 230, 3) := dk_182 0 230 (dk_at dksX5_tellsAll_3 14 rfl rfl)
theorem dX5_tellsAll_87 : decode cX5_tellsAll 87 = .ok (.aload_n 0, 1) := dk_42 (dk_at dksX5_tellsAll_3 17 rfl rfl)
theorem dX5_tellsAll_88 : decode cX5_tellsAll 88 = .ok (.invokevirtual 236, 3) := dk_182 0 236 (dk_at dksX5_tellsAll_3 18 rfl rfl)
theorem dX5_tellsAll_91 : decode cX5_tellsAll 91 = .ok (.iinc 1 1, 3) := dk_132 1 1 (dk_at dksX5_tellsAll_3 21 rfl rfl)
theorem dX5_tellsAll_94 : decode cX5_tellsAll 94 = .ok (.goto (-82), 3) := dk_167 255 174 (dk_at dksX5_tellsAll_4 0 rfl rfl)
theorem dX5_tellsAll_97 : decode cX5_tellsAll 97 = .ok (.return_, 1) := dk_177 (dk_at dksX5_tellsAll_4 3 rfl rfl)
abbrev cX5_tellsNode : ByteArray := prog_10_method_59_code
def yX5_tellsNode : MethodName := ⟨RX5, "tellsNode", "(I)V"⟩
def dkwX5_tellsNode_5 : List UInt8 := [160, 0, 8, 16, 65, 167, 0, 5, 16, 112, 28, 96, 182, 0, 230, 42, 16, 40, 182, 0, 230, 177]
abbrev dktX5_tellsNode_5 : List UInt8 := dkwX5_tellsNode_5 ++ []
def dkwX5_tellsNode_4 : List UInt8 := [167, 0, 43, 42, 27, 184, 0, 111, 6, 160, 0, 8, 16, 97, 167, 0, 18, 27, 184, 0, 111, 7]
abbrev dktX5_tellsNode_4 : List UInt8 := dkwX5_tellsNode_4 ++ dktX5_tellsNode_5
def dkwX5_tellsNode_3 : List UInt8 := [96, 182, 0, 230, 167, 0, 61, 42, 16, 120, 182, 0, 230, 167, 0, 52, 42, 16, 121, 182, 0, 230]
abbrev dktX5_tellsNode_3 : List UInt8 := dkwX5_tellsNode_3 ++ dktX5_tellsNode_4
def dkwX5_tellsNode_2 : List UInt8 := [28, 16, 9, 164, 0, 14, 42, 16, 48, 28, 16, 10, 108, 96, 182, 0, 230, 42, 16, 48, 28, 16, 10, 112]
abbrev dktX5_tellsNode_2 : List UInt8 := dkwX5_tellsNode_2 ++ dktX5_tellsNode_3
def dkwX5_tellsNode_1 : List UInt8 := [170, 0, 0, 0, 0, 0, 76, 0, 0, 0, 0, 0, 0, 0, 2, 0, 0, 0, 27, 0, 0, 0, 58, 0, 0, 0, 67]
abbrev dktX5_tellsNode_1 : List UInt8 := dkwX5_tellsNode_1 ++ dktX5_tellsNode_2
def dkwX5_tellsNode_0 : List UInt8 := [27, 184, 0, 114, 61, 27, 184, 0, 111]
abbrev dktX5_tellsNode_0 : List UInt8 := dkwX5_tellsNode_0 ++ dktX5_tellsNode_1
theorem dksX5_tellsNode_0 : cX5_tellsNode.data.toList.drop 0 = dktX5_tellsNode_0 := by decide +kernel
theorem dksX5_tellsNode_1 : cX5_tellsNode.data.toList.drop 9 = dktX5_tellsNode_1 := dk_seg dksX5_tellsNode_0 9 rfl rfl
theorem dksX5_tellsNode_2 : cX5_tellsNode.data.toList.drop 36 = dktX5_tellsNode_2 := dk_seg dksX5_tellsNode_1 27 rfl rfl
theorem dksX5_tellsNode_3 : cX5_tellsNode.data.toList.drop 60 = dktX5_tellsNode_3 := dk_seg dksX5_tellsNode_2 24 rfl rfl
theorem dksX5_tellsNode_4 : cX5_tellsNode.data.toList.drop 82 = dktX5_tellsNode_4 := dk_seg dksX5_tellsNode_3 22 rfl rfl
theorem dksX5_tellsNode_5 : cX5_tellsNode.data.toList.drop 104 = dktX5_tellsNode_5 := dk_seg dksX5_tellsNode_4 22 rfl rfl
theorem dX5_tellsNode_0 : decode cX5_tellsNode 0 = .ok (.iload_n 1, 1) := dk_27 (dk_at dksX5_tellsNode_0 0 rfl rfl)
theorem dX5_tellsNode_1 : decode cX5_tellsNode 1 = .ok (.invokestatic 114, 3) := dk_184 0 114 (dk_at dksX5_tellsNode_0 1 rfl rfl)
theorem dX5_tellsNode_4 : decode cX5_tellsNode 4 = .ok (.istore_n 2, 1) := dk_61 (dk_at dksX5_tellsNode_0 4 rfl rfl)
theorem dX5_tellsNode_5 : decode cX5_tellsNode 5 = .ok (.iload_n 1, 1) := dk_27 (dk_at dksX5_tellsNode_0 5 rfl rfl)
theorem dX5_tellsNode_6 : decode cX5_tellsNode 6 = .ok (.invokestatic 111, 3) := dk_184 0 111 (dk_at dksX5_tellsNode_0 6 rfl rfl)
theorem dX5_tellsNode_9 : decode cX5_tellsNode 9 = .ok (.tableswitch 76 0 2 #[27, 58, 67], 27) := by decide +kernel
theorem dX5_tellsNode_36 : decode cX5_tellsNode 36 = .ok (.iload_n 2, 1) := dk_28 (dk_at dksX5_tellsNode_2 0 rfl rfl)
theorem dX5_tellsNode_37 : decode cX5_tellsNode 37 = .ok (.bipush 9, 2) := dk_16 9 (dk_at dksX5_tellsNode_2 1 rfl rfl)
theorem dX5_tellsNode_39 : decode cX5_tellsNode 39 = .ok (.if_icmp .le 14, 3) := dk_164 0 14 (dk_at dksX5_tellsNode_2 3 rfl rfl)
theorem dX5_tellsNode_42 : decode cX5_tellsNode 42 = .ok (.aload_n 0, 1) := dk_42 (dk_at dksX5_tellsNode_2 6 rfl rfl)
theorem dX5_tellsNode_43 : decode cX5_tellsNode 43 = .ok (.bipush 48, 2) := dk_16 48 (dk_at dksX5_tellsNode_2 7 rfl rfl)
theorem dX5_tellsNode_45 : decode cX5_tellsNode 45 = .ok (.iload_n 2, 1) := dk_28 (dk_at dksX5_tellsNode_2 9 rfl rfl)
theorem dX5_tellsNode_46 : decode cX5_tellsNode 46 = .ok (.bipush 10, 2) := dk_16 10 (dk_at dksX5_tellsNode_2 10 rfl rfl)
theorem dX5_tellsNode_48 : decode cX5_tellsNode 48 = .ok (.idiv, 1) := dk_108 (dk_at dksX5_tellsNode_2 12 rfl rfl)
theorem dX5_tellsNode_49 : decode cX5_tellsNode 49 = .ok (.iadd, 1) := dk_96 (dk_at dksX5_tellsNode_2 13 rfl rfl)
theorem dX5_tellsNode_50 : decode cX5_tellsNode 50 = .ok (.invokevirtual 230, 3) := dk_182 0 230 (dk_at dksX5_tellsNode_2 14 rfl rfl)
theorem dX5_tellsNode_53 : decode cX5_tellsNode 53 = .ok (.aload_n 0, 1) := dk_42 (dk_at dksX5_tellsNode_2 17 rfl rfl)
theorem dX5_tellsNode_54 : decode cX5_tellsNode 54 = .ok (.bipush 48, 2) := dk_16 48 (dk_at dksX5_tellsNode_2 18 rfl rfl)
theorem dX5_tellsNode_56 : decode cX5_tellsNode 56 = .ok (.iload_n 2, 1) := dk_28 (dk_at dksX5_tellsNode_2 20 rfl rfl)
theorem dX5_tellsNode_57 : decode cX5_tellsNode 57 = .ok (.bipush 10, 2) := dk_16 10 (dk_at dksX5_tellsNode_2 21 rfl rfl)
theorem dX5_tellsNode_59 : decode cX5_tellsNode 59 = .ok (.irem, 1) := dk_112 (dk_at dksX5_tellsNode_2 23 rfl rfl)
theorem dX5_tellsNode_60 : decode cX5_tellsNode 60 = .ok (.iadd, 1) := dk_96 (dk_at dksX5_tellsNode_3 0 rfl rfl)
theorem dX5_tellsNode_61 : decode cX5_tellsNode 61 = .ok (.invokevirtual 230, 3) := dk_182 0 230 (dk_at dksX5_tellsNode_3 1 rfl rfl)
theorem dX5_tellsNode_64 : decode cX5_tellsNode 64 = .ok (.goto 61, 3) := dk_167 0 61 (dk_at dksX5_tellsNode_3 4 rfl rfl)
theorem dX5_tellsNode_67 : decode cX5_tellsNode 67 = .ok (.aload_n 0, 1) := dk_42 (dk_at dksX5_tellsNode_3 7 rfl rfl)
theorem dX5_tellsNode_68 : decode cX5_tellsNode 68 = .ok (.bipush 120, 2) := dk_16 120 (dk_at dksX5_tellsNode_3 8 rfl rfl)
theorem dX5_tellsNode_70 : decode cX5_tellsNode 70 = .ok (.invokevirtual 230, 3) := dk_182 0 230 (dk_at dksX5_tellsNode_3 10 rfl rfl)
theorem dX5_tellsNode_73 : decode cX5_tellsNode 73 = .ok (.goto 52, 3) := dk_167 0 52 (dk_at dksX5_tellsNode_3 13 rfl rfl)
theorem dX5_tellsNode_76 : decode cX5_tellsNode 76 = .ok (.aload_n 0, 1) := dk_42 (dk_at dksX5_tellsNode_3 16 rfl rfl)
theorem dX5_tellsNode_77 : decode cX5_tellsNode 77 = .ok (.bipush 121, 2) := dk_16 121 (dk_at dksX5_tellsNode_3 17 rfl rfl)
theorem dX5_tellsNode_79 : decode cX5_tellsNode 79 = .ok (.invokevirtual 230, 3) := dk_182 0 230 (dk_at dksX5_tellsNode_3 19 rfl rfl)
theorem dX5_tellsNode_82 : decode cX5_tellsNode 82 = .ok (.goto 43, 3) := dk_167 0 43 (dk_at dksX5_tellsNode_4 0 rfl rfl)
theorem dX5_tellsNode_85 : decode cX5_tellsNode 85 = .ok (.aload_n 0, 1) := dk_42 (dk_at dksX5_tellsNode_4 3 rfl rfl)
theorem dX5_tellsNode_86 : decode cX5_tellsNode 86 = .ok (.iload_n 1, 1) := dk_27 (dk_at dksX5_tellsNode_4 4 rfl rfl)
theorem dX5_tellsNode_87 : decode cX5_tellsNode 87 = .ok (.invokestatic 111, 3) := dk_184 0 111 (dk_at dksX5_tellsNode_4 5 rfl rfl)
theorem dX5_tellsNode_90 : decode cX5_tellsNode 90 = .ok (.iconst 3, 1) := dk_6 (dk_at dksX5_tellsNode_4 8 rfl rfl)
theorem dX5_tellsNode_91 : decode cX5_tellsNode 91 = .ok (.if_icmp .ne 8, 3) := dk_160 0 8 (dk_at dksX5_tellsNode_4 9 rfl rfl)
theorem dX5_tellsNode_94 : decode cX5_tellsNode 94 = .ok (.bipush 97, 2) := dk_16 97 (dk_at dksX5_tellsNode_4 12 rfl rfl)
theorem dX5_tellsNode_96 : decode cX5_tellsNode 96 = .ok (.goto 18, 3) := dk_167 0 18 (dk_at dksX5_tellsNode_4 14 rfl rfl)
theorem dX5_tellsNode_99 : decode cX5_tellsNode 99 = .ok (.iload_n 1, 1) := dk_27 (dk_at dksX5_tellsNode_4 17 rfl rfl)
theorem dX5_tellsNode_100 : decode cX5_tellsNode 100 = .ok (.invokestatic 111, 3) := dk_184 0 111 (dk_at dksX5_tellsNode_4 18 rfl rfl)
theorem dX5_tellsNode_103 : decode cX5_tellsNode 103 = .ok (.iconst 4, 1) := dk_7 (dk_at dksX5_tellsNode_4 21 rfl rfl)
theorem dX5_tellsNode_104 : decode cX5_tellsNode 104 = .ok (.if_icmp .ne 8, 3) := dk_160 0 8 (dk_at dksX5_tellsNode_5 0 rfl rfl)
theorem dX5_tellsNode_107 : decode cX5_tellsNode 107 = .ok (.bipush 65, 2) := dk_16 65 (dk_at dksX5_tellsNode_5 3 rfl rfl)
theorem dX5_tellsNode_109 : decode cX5_tellsNode 109 = .ok (.goto 5, 3) := dk_167 0 5 (dk_at dksX5_tellsNode_5 5 rfl rfl)
theorem dX5_tellsNode_112 : decode cX5_tellsNode 112 = .ok (.bipush 112, 2) := dk_16 112 (dk_at dksX5_tellsNode_5 8 rfl rfl)
theorem dX5_tellsNode_114 : decode cX5_tellsNode 114 = .ok (.iload_n 2, 1) := dk_28 (dk_at dksX5_tellsNode_5 10 rfl rfl)
theorem dX5_tellsNode_115 : decode cX5_tellsNode 115 = .ok (.iadd, 1) := dk_96 (dk_at dksX5_tellsNode_5 11 rfl rfl)
theorem dX5_tellsNode_116 : decode cX5_tellsNode 116 = .ok (.invokevirtual 230, 3) := dk_182 0 230 (dk_at dksX5_tellsNode_5 12 rfl rfl)
theorem dX5_tellsNode_119 : decode cX5_tellsNode 119 = .ok (.aload_n 0, 1) := dk_42 (dk_at dksX5_tellsNode_5 15 rfl rfl)
theorem dX5_tellsNode_120 : decode cX5_tellsNode 120 = .ok (.bipush 40, 2) := dk_16 40 (dk_at dksX5_tellsNode_5 16 rfl rfl)
theorem dX5_tellsNode_122 : decode cX5_tellsNode 122 = .ok (.invokevirtual 230, 3) := dk_182 0 230 (dk_at dksX5_tellsNode_5 18 rfl rfl)
theorem dX5_tellsNode_125 : decode cX5_tellsNode 125 = .ok (.return_, 1) := dk_177 (dk_at dksX5_tellsNode_5 21 rfl rfl)
abbrev cX5_tells : ByteArray := prog_10_method_58_code
def yX5_tells : MethodName := ⟨RX5, "tells", "(I)V"⟩
def dkwX5_tells_0 : List UInt8 := [42, 180, 0, 46, 42, 180, 0, 227, 27, 79, 42, 89, 180, 0, 227, 4, 96, 181, 0, 227, 177]
abbrev dktX5_tells_0 : List UInt8 := dkwX5_tells_0 ++ []
theorem dksX5_tells_0 : cX5_tells.data.toList.drop 0 = dktX5_tells_0 := by decide +kernel
theorem dX5_tells_0 : decode cX5_tells 0 = .ok (.aload_n 0, 1) := dk_42 (dk_at dksX5_tells_0 0 rfl rfl)
theorem dX5_tells_1 : decode cX5_tells 1 = .ok (.getfield 46, 3) := dk_180 0 46 (dk_at dksX5_tells_0 1 rfl rfl)
theorem dX5_tells_4 : decode cX5_tells 4 = .ok (.aload_n 0, 1) := dk_42 (dk_at dksX5_tells_0 4 rfl rfl)
theorem dX5_tells_5 : decode cX5_tells 5 = .ok (.getfield 227, 3) := dk_180 0 227 (dk_at dksX5_tells_0 5 rfl rfl)
theorem dX5_tells_8 : decode cX5_tells 8 = .ok (.iload_n 1, 1) := dk_27 (dk_at dksX5_tells_0 8 rfl rfl)
theorem dX5_tells_9 : decode cX5_tells 9 = .ok (.iastore, 1) := dk_79 (dk_at dksX5_tells_0 9 rfl rfl)
theorem dX5_tells_10 : decode cX5_tells 10 = .ok (.aload_n 0, 1) := dk_42 (dk_at dksX5_tells_0 10 rfl rfl)
theorem dX5_tells_11 : decode cX5_tells 11 = .ok (.dup, 1) := dk_89 (dk_at dksX5_tells_0 11 rfl rfl)
theorem dX5_tells_12 : decode cX5_tells 12 = .ok (.getfield 227, 3) := dk_180 0 227 (dk_at dksX5_tells_0 12 rfl rfl)
theorem dX5_tells_15 : decode cX5_tells 15 = .ok (.iconst 1, 1) := dk_4 (dk_at dksX5_tells_0 15 rfl rfl)
theorem dX5_tells_16 : decode cX5_tells 16 = .ok (.iadd, 1) := dk_96 (dk_at dksX5_tells_0 16 rfl rfl)
theorem dX5_tells_17 : decode cX5_tells 17 = .ok (.putfield 227, 3) := dk_181 0 227 (dk_at dksX5_tells_0 17 rfl rfl)
theorem dX5_tells_20 : decode cX5_tells 20 = .ok (.return_, 1) := dk_177 (dk_at dksX5_tells_0 20 rfl rfl)
abbrev cX5_tellsEnds : ByteArray := prog_10_method_61_code
def yX5_tellsEnds : MethodName := ⟨RX5, "tellsEnds", "()V"⟩
def dkwX5_tellsEnds_4 : List UInt8 := [158, 0, 7, 4, 167, 0, 4, 3, 60, 167, 255, 167, 177]
abbrev dktX5_tellsEnds_4 : List UInt8 := dkwX5_tellsEnds_4 ++ []
def dkwX5_tellsEnds_3 : List UInt8 := [180, 0, 157, 27, 153, 0, 7, 4, 167, 0, 4, 3, 100, 181, 0, 157, 27, 153, 0, 14, 42, 180, 0, 157]
abbrev dktX5_tellsEnds_3 : List UInt8 := dkwX5_tellsEnds_3 ++ dktX5_tellsEnds_4
def dkwX5_tellsEnds_2 : List UInt8 := [4, 167, 0, 4, 3, 60, 42, 27, 153, 0, 8, 16, 41, 167, 0, 5, 16, 44, 182, 0, 230, 42, 89]
abbrev dktX5_tellsEnds_2 : List UInt8 := dkwX5_tellsEnds_2 ++ dktX5_tellsEnds_3
def dkwX5_tellsEnds_1 : List UInt8 := [180, 0, 157, 4, 100, 92, 46, 4, 100, 79, 42, 180, 0, 25, 42, 180, 0, 157, 4, 100, 46, 154, 0, 7]
abbrev dktX5_tellsEnds_1 : List UInt8 := dkwX5_tellsEnds_1 ++ dktX5_tellsEnds_2
def dkwX5_tellsEnds_0 : List UInt8 := [42, 180, 0, 157, 158, 0, 7, 4, 167, 0, 4, 3, 60, 27, 153, 0, 91, 42, 180, 0, 25, 42]
abbrev dktX5_tellsEnds_0 : List UInt8 := dkwX5_tellsEnds_0 ++ dktX5_tellsEnds_1
theorem dksX5_tellsEnds_0 : cX5_tellsEnds.data.toList.drop 0 = dktX5_tellsEnds_0 := by decide +kernel
theorem dksX5_tellsEnds_1 : cX5_tellsEnds.data.toList.drop 22 = dktX5_tellsEnds_1 := dk_seg dksX5_tellsEnds_0 22 rfl rfl
theorem dksX5_tellsEnds_2 : cX5_tellsEnds.data.toList.drop 46 = dktX5_tellsEnds_2 := dk_seg dksX5_tellsEnds_1 24 rfl rfl
theorem dksX5_tellsEnds_3 : cX5_tellsEnds.data.toList.drop 69 = dktX5_tellsEnds_3 := dk_seg dksX5_tellsEnds_2 23 rfl rfl
theorem dksX5_tellsEnds_4 : cX5_tellsEnds.data.toList.drop 93 = dktX5_tellsEnds_4 := dk_seg dksX5_tellsEnds_3 24 rfl rfl
theorem dX5_tellsEnds_0 : decode cX5_tellsEnds 0 = .ok (.aload_n 0, 1) := dk_42 (dk_at dksX5_tellsEnds_0 0 rfl rfl)
theorem dX5_tellsEnds_1 : decode cX5_tellsEnds 1 = .ok (.getfield 157, 3) := dk_180 0 157 (dk_at dksX5_tellsEnds_0 1 rfl rfl)
theorem dX5_tellsEnds_4 : decode cX5_tellsEnds 4 = .ok (.ifCond .le 7, 3) := dk_158 0 7 (dk_at dksX5_tellsEnds_0 4 rfl rfl)
theorem dX5_tellsEnds_7 : decode cX5_tellsEnds 7 = .ok (.iconst 1, 1) := dk_4 (dk_at dksX5_tellsEnds_0 7 rfl rfl)
theorem dX5_tellsEnds_8 : decode cX5_tellsEnds 8 = .ok (.goto 4, 3) := dk_167 0 4 (dk_at dksX5_tellsEnds_0 8 rfl rfl)
theorem dX5_tellsEnds_11 : decode cX5_tellsEnds 11 = .ok (.iconst 0, 1) := dk_3 (dk_at dksX5_tellsEnds_0 11 rfl rfl)
theorem dX5_tellsEnds_12 : decode cX5_tellsEnds 12 = .ok (.istore_n 1, 1) := dk_60 (dk_at dksX5_tellsEnds_0 12 rfl rfl)
theorem dX5_tellsEnds_13 : decode cX5_tellsEnds 13 = .ok (.iload_n 1, 1) := dk_27 (dk_at dksX5_tellsEnds_0 13 rfl rfl)
theorem dX5_tellsEnds_14 : decode cX5_tellsEnds 14 = .ok (.ifCond .eq 91, 3) := dk_153 0 91 (dk_at dksX5_tellsEnds_0 14 rfl rfl)
theorem dX5_tellsEnds_17 : decode cX5_tellsEnds 17 = .ok (.aload_n 0, 1) := dk_42 (dk_at dksX5_tellsEnds_0 17 rfl rfl)
theorem dX5_tellsEnds_18 : decode cX5_tellsEnds 18 = .ok (.getfield 25, 3) := dk_180 0 25 (dk_at dksX5_tellsEnds_0 18 rfl rfl)
theorem dX5_tellsEnds_21 : decode cX5_tellsEnds 21 = .ok (.aload_n 0, 1) := dk_42 (dk_at dksX5_tellsEnds_0 21 rfl rfl)
theorem dX5_tellsEnds_22 : decode cX5_tellsEnds 22 = .ok (.getfield 157, 3) := dk_180 0 157 (dk_at dksX5_tellsEnds_1 0 rfl rfl)
theorem dX5_tellsEnds_25 : decode cX5_tellsEnds 25 = .ok (.iconst 1, 1) := dk_4 (dk_at dksX5_tellsEnds_1 3 rfl rfl)
theorem dX5_tellsEnds_26 : decode cX5_tellsEnds 26 = .ok (.isub, 1) := dk_100 (dk_at dksX5_tellsEnds_1 4 rfl rfl)
theorem dX5_tellsEnds_27 : decode cX5_tellsEnds 27 = .ok (.dup2, 1) := dk_92 (dk_at dksX5_tellsEnds_1 5 rfl rfl)
theorem dX5_tellsEnds_28 : decode cX5_tellsEnds 28 = .ok (.iaload, 1) := dk_46 (dk_at dksX5_tellsEnds_1 6 rfl rfl)
theorem dX5_tellsEnds_29 : decode cX5_tellsEnds 29 = .ok (.iconst 1, 1) := dk_4 (dk_at dksX5_tellsEnds_1 7 rfl rfl)
theorem dX5_tellsEnds_30 : decode cX5_tellsEnds 30 = .ok (.isub, 1) := dk_100 (dk_at dksX5_tellsEnds_1 8 rfl rfl)
theorem dX5_tellsEnds_31 : decode cX5_tellsEnds 31 = .ok (.iastore, 1) := dk_79 (dk_at dksX5_tellsEnds_1 9 rfl rfl)
theorem dX5_tellsEnds_32 : decode cX5_tellsEnds 32 = .ok (.aload_n 0, 1) := dk_42 (dk_at dksX5_tellsEnds_1 10 rfl rfl)
theorem dX5_tellsEnds_33 : decode cX5_tellsEnds 33 = .ok (.getfield 25, 3) := dk_180 0 25 (dk_at dksX5_tellsEnds_1 11 rfl rfl)
theorem dX5_tellsEnds_36 : decode cX5_tellsEnds 36 = .ok (.aload_n 0, 1) := dk_42 (dk_at dksX5_tellsEnds_1 14 rfl rfl)
theorem dX5_tellsEnds_37 : decode cX5_tellsEnds 37 = .ok (.getfield 157, 3) := dk_180 0 157 (dk_at dksX5_tellsEnds_1 15 rfl rfl)
theorem dX5_tellsEnds_40 : decode cX5_tellsEnds 40 = .ok (.iconst 1, 1) := dk_4 (dk_at dksX5_tellsEnds_1 18 rfl rfl)
theorem dX5_tellsEnds_41 : decode cX5_tellsEnds 41 = .ok (.isub, 1) := dk_100 (dk_at dksX5_tellsEnds_1 19 rfl rfl)
theorem dX5_tellsEnds_42 : decode cX5_tellsEnds 42 = .ok (.iaload, 1) := dk_46 (dk_at dksX5_tellsEnds_1 20 rfl rfl)
theorem dX5_tellsEnds_43 : decode cX5_tellsEnds 43 = .ok (.ifCond .ne 7, 3) := dk_154 0 7 (dk_at dksX5_tellsEnds_1 21 rfl rfl)
theorem dX5_tellsEnds_46 : decode cX5_tellsEnds 46 = .ok (.iconst 1, 1) := dk_4 (dk_at dksX5_tellsEnds_2 0 rfl rfl)
theorem dX5_tellsEnds_47 : decode cX5_tellsEnds 47 = .ok (.goto 4, 3) := dk_167 0 4 (dk_at dksX5_tellsEnds_2 1 rfl rfl)
theorem dX5_tellsEnds_50 : decode cX5_tellsEnds 50 = .ok (.iconst 0, 1) := dk_3 (dk_at dksX5_tellsEnds_2 4 rfl rfl)
theorem dX5_tellsEnds_51 : decode cX5_tellsEnds 51 = .ok (.istore_n 1, 1) := dk_60 (dk_at dksX5_tellsEnds_2 5 rfl rfl)
theorem dX5_tellsEnds_52 : decode cX5_tellsEnds 52 = .ok (.aload_n 0, 1) := dk_42 (dk_at dksX5_tellsEnds_2 6 rfl rfl)
theorem dX5_tellsEnds_53 : decode cX5_tellsEnds 53 = .ok (.iload_n 1, 1) := dk_27 (dk_at dksX5_tellsEnds_2 7 rfl rfl)
theorem dX5_tellsEnds_54 : decode cX5_tellsEnds 54 = .ok (.ifCond .eq 8, 3) := dk_153 0 8 (dk_at dksX5_tellsEnds_2 8 rfl rfl)
theorem dX5_tellsEnds_57 : decode cX5_tellsEnds 57 = .ok (.bipush 41, 2) := dk_16 41 (dk_at dksX5_tellsEnds_2 11 rfl rfl)
theorem dX5_tellsEnds_59 : decode cX5_tellsEnds 59 = .ok (.goto 5, 3) := dk_167 0 5 (dk_at dksX5_tellsEnds_2 13 rfl rfl)
theorem dX5_tellsEnds_62 : decode cX5_tellsEnds 62 = .ok (.bipush 44, 2) := dk_16 44 (dk_at dksX5_tellsEnds_2 16 rfl rfl)
theorem dX5_tellsEnds_64 : decode cX5_tellsEnds 64 = .ok (.invokevirtual 230, 3) := dk_182 0 230 (dk_at dksX5_tellsEnds_2 18 rfl rfl)
theorem dX5_tellsEnds_67 : decode cX5_tellsEnds 67 = .ok (.aload_n 0, 1) := dk_42 (dk_at dksX5_tellsEnds_2 21 rfl rfl)
theorem dX5_tellsEnds_68 : decode cX5_tellsEnds 68 = .ok (.dup, 1) := dk_89 (dk_at dksX5_tellsEnds_2 22 rfl rfl)
theorem dX5_tellsEnds_69 : decode cX5_tellsEnds 69 = .ok (.getfield 157, 3) := dk_180 0 157 (dk_at dksX5_tellsEnds_3 0 rfl rfl)
theorem dX5_tellsEnds_72 : decode cX5_tellsEnds 72 = .ok (.iload_n 1, 1) := dk_27 (dk_at dksX5_tellsEnds_3 3 rfl rfl)
theorem dX5_tellsEnds_73 : decode cX5_tellsEnds 73 = .ok (.ifCond .eq 7, 3) := dk_153 0 7 (dk_at dksX5_tellsEnds_3 4 rfl rfl)
theorem dX5_tellsEnds_76 : decode cX5_tellsEnds 76 = .ok (.iconst 1, 1) := dk_4 (dk_at dksX5_tellsEnds_3 7 rfl rfl)
theorem dX5_tellsEnds_77 : decode cX5_tellsEnds 77 = .ok (.goto 4, 3) := dk_167 0 4 (dk_at dksX5_tellsEnds_3 8 rfl rfl)
theorem dX5_tellsEnds_80 : decode cX5_tellsEnds 80 = .ok (.iconst 0, 1) := dk_3 (dk_at dksX5_tellsEnds_3 11 rfl rfl)
theorem dX5_tellsEnds_81 : decode cX5_tellsEnds 81 = .ok (.isub, 1) := dk_100 (dk_at dksX5_tellsEnds_3 12 rfl rfl)
theorem dX5_tellsEnds_82 : decode cX5_tellsEnds 82 = .ok (.putfield 157, 3) := dk_181 0 157 (dk_at dksX5_tellsEnds_3 13 rfl rfl)
theorem dX5_tellsEnds_85 : decode cX5_tellsEnds 85 = .ok (.iload_n 1, 1) := dk_27 (dk_at dksX5_tellsEnds_3 16 rfl rfl)
theorem dX5_tellsEnds_86 : decode cX5_tellsEnds 86 = .ok (.ifCond .eq 14, 3) := dk_153 0 14 (dk_at dksX5_tellsEnds_3 17 rfl rfl)
theorem dX5_tellsEnds_89 : decode cX5_tellsEnds 89 = .ok (.aload_n 0, 1) := dk_42 (dk_at dksX5_tellsEnds_3 20 rfl rfl)
theorem dX5_tellsEnds_90 : decode cX5_tellsEnds 90 = .ok (.getfield 157, 3) := dk_180 0 157 (dk_at dksX5_tellsEnds_3 21 rfl rfl)
theorem dX5_tellsEnds_93 : decode cX5_tellsEnds 93 = .ok (.ifCond .le 7, 3) := dk_158 0 7 (dk_at dksX5_tellsEnds_4 0 rfl rfl)
theorem dX5_tellsEnds_96 : decode cX5_tellsEnds 96 = .ok (.iconst 1, 1) := dk_4 (dk_at dksX5_tellsEnds_4 3 rfl rfl)
theorem dX5_tellsEnds_97 : decode cX5_tellsEnds 97 = .ok (.goto 4, 3) := dk_167 0 4 (dk_at dksX5_tellsEnds_4 4 rfl rfl)
theorem dX5_tellsEnds_100 : decode cX5_tellsEnds 100 = .ok (.iconst 0, 1) := dk_3 (dk_at dksX5_tellsEnds_4 7 rfl rfl)
theorem dX5_tellsEnds_101 : decode cX5_tellsEnds 101 = .ok (.istore_n 1, 1) := dk_60 (dk_at dksX5_tellsEnds_4 8 rfl rfl)
theorem dX5_tellsEnds_102 : decode cX5_tellsEnds 102 = .ok (.goto (-89), 3) := dk_167 255 167 (dk_at dksX5_tellsEnds_4 9 rfl rfl)
theorem dX5_tellsEnds_105 : decode cX5_tellsEnds 105 = .ok (.return_, 1) := dk_177 (dk_at dksX5_tellsEnds_4 12 rfl rfl)
abbrev cX5_undo : ByteArray := prog_10_method_63_code
def yX5_undo : MethodName := ⟨RX5, "undo", "()I"⟩
def dkwX5_undo_2 : List UInt8 := [180, 0, 49, 104, 27, 96, 46, 79, 132, 1, 1, 167, 255, 225, 42, 180, 0, 49, 172]
abbrev dktX5_undo_2 : List UInt8 := dkwX5_undo_2 ++ []
def dkwX5_undo_1 : List UInt8 := [3, 60, 27, 17, 0, 186, 162, 0, 30, 42, 180, 0, 7, 27, 42, 180, 0, 13, 17, 0, 186, 42]
abbrev dktX5_undo_1 : List UInt8 := dkwX5_undo_1 ++ dktX5_undo_2
def dkwX5_undo_0 : List UInt8 := [42, 180, 0, 49, 154, 0, 10, 42, 16, 251, 182, 0, 72, 172, 42, 89, 180, 0, 49, 4, 100, 181, 0, 49]
abbrev dktX5_undo_0 : List UInt8 := dkwX5_undo_0 ++ dktX5_undo_1
theorem dksX5_undo_0 : cX5_undo.data.toList.drop 0 = dktX5_undo_0 := by decide +kernel
theorem dksX5_undo_1 : cX5_undo.data.toList.drop 24 = dktX5_undo_1 := dk_seg dksX5_undo_0 24 rfl rfl
theorem dksX5_undo_2 : cX5_undo.data.toList.drop 46 = dktX5_undo_2 := dk_seg dksX5_undo_1 22 rfl rfl
theorem dX5_undo_0 : decode cX5_undo 0 = .ok (.aload_n 0, 1) := dk_42 (dk_at dksX5_undo_0 0 rfl rfl)
theorem dX5_undo_1 : decode cX5_undo 1 = .ok (.getfield 49, 3) := dk_180 0 49 (dk_at dksX5_undo_0 1 rfl rfl)
theorem dX5_undo_4 : decode cX5_undo 4 = .ok (.ifCond .ne 10, 3) := dk_154 0 10 (dk_at dksX5_undo_0 4 rfl rfl)
theorem dX5_undo_7 : decode cX5_undo 7 = .ok (.aload_n 0, 1) := dk_42 (dk_at dksX5_undo_0 7 rfl rfl)
theorem dX5_undo_8 : decode cX5_undo 8 = .ok (.bipush (-5), 2) := dk_16 251 (dk_at dksX5_undo_0 8 rfl rfl)
theorem dX5_undo_10 : decode cX5_undo 10 = .ok (.invokevirtual 72, 3) := dk_182 0 72 (dk_at dksX5_undo_0 10 rfl rfl)
theorem dX5_undo_13 : decode cX5_undo 13 = .ok (.ireturn, 1) := dk_172 (dk_at dksX5_undo_0 13 rfl rfl)
theorem dX5_undo_14 : decode cX5_undo 14 = .ok (.aload_n 0, 1) := dk_42 (dk_at dksX5_undo_0 14 rfl rfl)
theorem dX5_undo_15 : decode cX5_undo 15 = .ok (.dup, 1) := dk_89 (dk_at dksX5_undo_0 15 rfl rfl)
theorem dX5_undo_16 : decode cX5_undo 16 = .ok (.getfield 49, 3) := dk_180 0 49 (dk_at dksX5_undo_0 16 rfl rfl)
theorem dX5_undo_19 : decode cX5_undo 19 = .ok (.iconst 1, 1) := dk_4 (dk_at dksX5_undo_0 19 rfl rfl)
theorem dX5_undo_20 : decode cX5_undo 20 = .ok (.isub, 1) := dk_100 (dk_at dksX5_undo_0 20 rfl rfl)
theorem dX5_undo_21 : decode cX5_undo 21 = .ok (.putfield 49, 3) := dk_181 0 49 (dk_at dksX5_undo_0 21 rfl rfl)
theorem dX5_undo_24 : decode cX5_undo 24 = .ok (.iconst 0, 1) := dk_3 (dk_at dksX5_undo_1 0 rfl rfl)
theorem dX5_undo_25 : decode cX5_undo 25 = .ok (.istore_n 1, 1) := dk_60 (dk_at dksX5_undo_1 1 rfl rfl)
theorem dX5_undo_26 : decode cX5_undo 26 = .ok (.iload_n 1, 1) := dk_27 (dk_at dksX5_undo_1 2 rfl rfl)
theorem dX5_undo_27 : decode cX5_undo 27 = .ok (.sipush 186, 3) := dk_17 0 186 (dk_at dksX5_undo_1 3 rfl rfl)
theorem dX5_undo_30 : decode cX5_undo 30 = .ok (.if_icmp .ge 30, 3) := dk_162 0 30 (dk_at dksX5_undo_1 6 rfl rfl)
theorem dX5_undo_33 : decode cX5_undo 33 = .ok (.aload_n 0, 1) := dk_42 (dk_at dksX5_undo_1 9 rfl rfl)
theorem dX5_undo_34 : decode cX5_undo 34 = .ok (.getfield 7, 3) := dk_180 0 7 (dk_at dksX5_undo_1 10 rfl rfl)
theorem dX5_undo_37 : decode cX5_undo 37 = .ok (.iload_n 1, 1) := dk_27 (dk_at dksX5_undo_1 13 rfl rfl)
theorem dX5_undo_38 : decode cX5_undo 38 = .ok (.aload_n 0, 1) := dk_42 (dk_at dksX5_undo_1 14 rfl rfl)
theorem dX5_undo_39 : decode cX5_undo 39 = .ok (.getfield 13, 3) := dk_180 0 13 (dk_at dksX5_undo_1 15 rfl rfl)
theorem dX5_undo_42 : decode cX5_undo 42 = .ok (.sipush 186, 3) := dk_17 0 186 (dk_at dksX5_undo_1 18 rfl rfl)
theorem dX5_undo_45 : decode cX5_undo 45 = .ok (.aload_n 0, 1) := dk_42 (dk_at dksX5_undo_1 21 rfl rfl)
theorem dX5_undo_46 : decode cX5_undo 46 = .ok (.getfield 49, 3) := dk_180 0 49 (dk_at dksX5_undo_2 0 rfl rfl)
theorem dX5_undo_49 : decode cX5_undo 49 = .ok (.imul, 1) := dk_104 (dk_at dksX5_undo_2 3 rfl rfl)
theorem dX5_undo_50 : decode cX5_undo 50 = .ok (.iload_n 1, 1) := dk_27 (dk_at dksX5_undo_2 4 rfl rfl)
theorem dX5_undo_51 : decode cX5_undo 51 = .ok (.iadd, 1) := dk_96 (dk_at dksX5_undo_2 5 rfl rfl)
theorem dX5_undo_52 : decode cX5_undo 52 = .ok (.iaload, 1) := dk_46 (dk_at dksX5_undo_2 6 rfl rfl)
theorem dX5_undo_53 : decode cX5_undo 53 = .ok (.iastore, 1) := dk_79 (dk_at dksX5_undo_2 7 rfl rfl)
theorem dX5_undo_54 : decode cX5_undo 54 = .ok (.iinc 1 1, 3) := dk_132 1 1 (dk_at dksX5_undo_2 8 rfl rfl)
theorem dX5_undo_57 : decode cX5_undo 57 = .ok (.goto (-31), 3) := dk_167 255 225 (dk_at dksX5_undo_2 11 rfl rfl)
theorem dX5_undo_60 : decode cX5_undo 60 = .ok (.aload_n 0, 1) := dk_42 (dk_at dksX5_undo_2 14 rfl rfl)
theorem dX5_undo_61 : decode cX5_undo 61 = .ok (.getfield 49, 3) := dk_180 0 49 (dk_at dksX5_undo_2 15 rfl rfl)
theorem dX5_undo_64 : decode cX5_undo 64 = .ok (.ireturn, 1) := dk_172 (dk_at dksX5_undo_2 18 rfl rfl)
abbrev cX5_errorCount : ByteArray := prog_10_method_64_code
def yX5_errorCount : MethodName := ⟨RX5, "errorCount", "(I)I"⟩
def dkwX5_errorCount_1 : List UInt8 := [167, 0, 9, 42, 16, 254, 182, 0, 72, 172]
abbrev dktX5_errorCount_1 : List UInt8 := dkwX5_errorCount_1 ++ []
def dkwX5_errorCount_0 : List UInt8 := [27, 133, 20, 0, 242, 20, 0, 244, 184, 0, 55, 153, 0, 15, 42, 180, 0, 16, 16, 254, 27, 100, 46]
abbrev dktX5_errorCount_0 : List UInt8 := dkwX5_errorCount_0 ++ dktX5_errorCount_1
theorem dksX5_errorCount_0 : cX5_errorCount.data.toList.drop 0 = dktX5_errorCount_0 := by decide +kernel
theorem dksX5_errorCount_1 : cX5_errorCount.data.toList.drop 23 = dktX5_errorCount_1 := dk_seg dksX5_errorCount_0 23 rfl rfl
theorem dX5_errorCount_0 : decode cX5_errorCount 0 = .ok (.iload_n 1, 1) := dk_27 (dk_at dksX5_errorCount_0 0 rfl rfl)
theorem dX5_errorCount_1 : decode cX5_errorCount 1 = .ok (.i2l, 1) := dk_133 (dk_at dksX5_errorCount_0 1 rfl rfl)
theorem dX5_errorCount_2 : decode cX5_errorCount 2 = .ok (.ldc2_w 242, 3) := dk_20 0 242 (dk_at dksX5_errorCount_0 2 rfl rfl)
theorem dX5_errorCount_5 : decode cX5_errorCount 5 = .ok (.ldc2_w 244, 3) := dk_20 0 244 (dk_at dksX5_errorCount_0 5 rfl rfl)
theorem dX5_errorCount_8 : decode cX5_errorCount 8 = .ok (.invokestatic 55, 3) := dk_184 0 55 (dk_at dksX5_errorCount_0 8 rfl rfl)
theorem dX5_errorCount_11 : decode cX5_errorCount 11 = .ok (.ifCond .eq 15, 3) := dk_153 0 15 (dk_at dksX5_errorCount_0 11 rfl rfl)
theorem dX5_errorCount_14 : decode cX5_errorCount 14 = .ok (.aload_n 0, 1) := dk_42 (dk_at dksX5_errorCount_0 14 rfl rfl)
theorem dX5_errorCount_15 : decode cX5_errorCount 15 = .ok (.getfield 16, 3) := dk_180 0 16 (dk_at dksX5_errorCount_0 15 rfl rfl)
theorem dX5_errorCount_18 : decode cX5_errorCount 18 = .ok (.bipush (-2), 2) := dk_16 254 (dk_at dksX5_errorCount_0 18 rfl rfl)
theorem dX5_errorCount_20 : decode cX5_errorCount 20 = .ok (.iload_n 1, 1) := dk_27 (dk_at dksX5_errorCount_0 20 rfl rfl)
theorem dX5_errorCount_21 : decode cX5_errorCount 21 = .ok (.isub, 1) := dk_100 (dk_at dksX5_errorCount_0 21 rfl rfl)
theorem dX5_errorCount_22 : decode cX5_errorCount 22 = .ok (.iaload, 1) := dk_46 (dk_at dksX5_errorCount_0 22 rfl rfl)
theorem dX5_errorCount_23 : decode cX5_errorCount 23 = .ok (.goto 9, 3) := dk_167 0 9 (dk_at dksX5_errorCount_1 0 rfl rfl)
theorem dX5_errorCount_26 : decode cX5_errorCount 26 = .ok (.aload_n 0, 1) := dk_42 (dk_at dksX5_errorCount_1 3 rfl rfl)
theorem dX5_errorCount_27 : decode cX5_errorCount 27 = .ok (.bipush (-2), 2) := dk_16 254 (dk_at dksX5_errorCount_1 4 rfl rfl)
theorem dX5_errorCount_29 : decode cX5_errorCount 29 = .ok (.invokevirtual 72, 3) := dk_182 0 72 (dk_at dksX5_errorCount_1 6 rfl rfl)
theorem dX5_errorCount_32 : decode cX5_errorCount 32 = .ok (.ireturn, 1) := dk_172 (dk_at dksX5_errorCount_1 9 rfl rfl)
abbrev cX5_digest : ByteArray := prog_10_method_65_code
def yX5_digest : MethodName := ⟨RX5, "digest", "()J"⟩
def dkwX5_digest_9 : List UInt8 := [132, 3, 1, 167, 255, 229, 20, 0, 248, 31, 105, 42, 180, 0, 49, 133, 97, 173]
abbrev dktX5_digest_9 : List UInt8 := dkwX5_digest_9 ++ []
def dkwX5_digest_8 : List UInt8 := [29, 16, 7, 162, 0, 27, 20, 0, 248, 31, 105, 42, 180, 0, 7, 17, 0, 179, 29, 96, 46, 133, 97, 64]
abbrev dktX5_digest_8 : List UInt8 := dkwX5_digest_8 ++ dktX5_digest_9
def dkwX5_digest_7 : List UInt8 := [46, 133, 97, 64, 132, 3, 1, 167, 255, 231, 20, 0, 248, 31, 105, 42, 182, 0, 222, 133, 97, 64, 3, 62]
abbrev dktX5_digest_7 : List UInt8 := dkwX5_digest_7 ++ dktX5_digest_8
def dkwX5_digest_6 : List UInt8 := [42, 182, 0, 239, 3, 62, 29, 42, 180, 0, 227, 162, 0, 23, 20, 0, 248, 31, 105, 42, 180, 0, 46, 29]
abbrev dktX5_digest_6 : List UInt8 := dkwX5_digest_6 ++ dktX5_digest_7
def dkwX5_digest_5 : List UInt8 := [97, 64, 132, 3, 1, 167, 255, 206, 20, 0, 248, 31, 105, 42, 180, 0, 7, 17, 0, 147, 46, 133, 97, 64]
abbrev dktX5_digest_5 : List UInt8 := dkwX5_digest_5 ++ dktX5_digest_6
def dkwX5_digest_4 : List UInt8 := [167, 0, 10, 4, 42, 29, 182, 0, 99, 96, 133, 97, 64, 20, 0, 248, 31, 105, 42, 29, 182, 0, 108, 133]
abbrev dktX5_digest_4 : List UInt8 := dkwX5_digest_4 ++ dktX5_digest_5
def dkwX5_digest_3 : List UInt8 := [62, 29, 16, 6, 162, 0, 50, 20, 0, 248, 31, 105, 42, 29, 182, 0, 86, 2, 160, 0, 7, 3]
abbrev dktX5_digest_3 : List UInt8 := dkwX5_digest_3 ++ dktX5_digest_4
def dkwX5_digest_2 : List UInt8 := [162, 0, 23, 20, 0, 248, 31, 105, 42, 180, 0, 7, 29, 46, 133, 97, 64, 132, 3, 1, 167, 255, 233, 3]
abbrev dktX5_digest_2 : List UInt8 := dkwX5_digest_2 ++ dktX5_digest_3
def dkwX5_digest_1 : List UInt8 := [64, 132, 3, 1, 167, 255, 234, 20, 0, 248, 31, 105, 42, 180, 0, 119, 133, 97, 64, 3, 62, 29, 16, 84]
abbrev dktX5_digest_1 : List UInt8 := dkwX5_digest_1 ++ dktX5_digest_2
def dkwX5_digest_0 : List UInt8 := [20, 0, 246, 64, 3, 62, 29, 7, 162, 0, 23, 20, 0, 248, 31, 105, 42, 180, 0, 16, 29, 46, 133, 97]
abbrev dktX5_digest_0 : List UInt8 := dkwX5_digest_0 ++ dktX5_digest_1
theorem dksX5_digest_0 : cX5_digest.data.toList.drop 0 = dktX5_digest_0 := by decide +kernel
theorem dksX5_digest_1 : cX5_digest.data.toList.drop 24 = dktX5_digest_1 := dk_seg dksX5_digest_0 24 rfl rfl
theorem dksX5_digest_2 : cX5_digest.data.toList.drop 48 = dktX5_digest_2 := dk_seg dksX5_digest_1 24 rfl rfl
theorem dksX5_digest_3 : cX5_digest.data.toList.drop 72 = dktX5_digest_3 := dk_seg dksX5_digest_2 24 rfl rfl
theorem dksX5_digest_4 : cX5_digest.data.toList.drop 94 = dktX5_digest_4 := dk_seg dksX5_digest_3 22 rfl rfl
theorem dksX5_digest_5 : cX5_digest.data.toList.drop 118 = dktX5_digest_5 := dk_seg dksX5_digest_4 24 rfl rfl
theorem dksX5_digest_6 : cX5_digest.data.toList.drop 142 = dktX5_digest_6 := dk_seg dksX5_digest_5 24 rfl rfl
theorem dksX5_digest_7 : cX5_digest.data.toList.drop 166 = dktX5_digest_7 := dk_seg dksX5_digest_6 24 rfl rfl
theorem dksX5_digest_8 : cX5_digest.data.toList.drop 190 = dktX5_digest_8 := dk_seg dksX5_digest_7 24 rfl rfl
theorem dksX5_digest_9 : cX5_digest.data.toList.drop 214 = dktX5_digest_9 := dk_seg dksX5_digest_8 24 rfl rfl
theorem dX5_digest_0 : decode cX5_digest 0 = .ok (.ldc2_w 246, 3) := dk_20 0 246 (dk_at dksX5_digest_0 0 rfl rfl)
theorem dX5_digest_3 : decode cX5_digest 3 = .ok (.lstore_n 1, 1) := dk_64 (dk_at dksX5_digest_0 3 rfl rfl)
theorem dX5_digest_4 : decode cX5_digest 4 = .ok (.iconst 0, 1) := dk_3 (dk_at dksX5_digest_0 4 rfl rfl)
theorem dX5_digest_5 : decode cX5_digest 5 = .ok (.istore_n 3, 1) := dk_62 (dk_at dksX5_digest_0 5 rfl rfl)
theorem dX5_digest_6 : decode cX5_digest 6 = .ok (.iload_n 3, 1) := dk_29 (dk_at dksX5_digest_0 6 rfl rfl)
theorem dX5_digest_7 : decode cX5_digest 7 = .ok (.iconst 4, 1) := dk_7 (dk_at dksX5_digest_0 7 rfl rfl)
theorem dX5_digest_8 : decode cX5_digest 8 = .ok (.if_icmp .ge 23, 3) := dk_162 0 23 (dk_at dksX5_digest_0 8 rfl rfl)
theorem dX5_digest_11 : decode cX5_digest 11 = .ok (.ldc2_w 248, 3) := dk_20 0 248 (dk_at dksX5_digest_0 11 rfl rfl)
theorem dX5_digest_14 : decode cX5_digest 14 = .ok (.lload_n 1, 1) := dk_31 (dk_at dksX5_digest_0 14 rfl rfl)
theorem dX5_digest_15 : decode cX5_digest 15 = .ok (.lmul, 1) := dk_105 (dk_at dksX5_digest_0 15 rfl rfl)
theorem dX5_digest_16 : decode cX5_digest 16 = .ok (.aload_n 0, 1) := dk_42 (dk_at dksX5_digest_0 16 rfl rfl)
theorem dX5_digest_17 : decode cX5_digest 17 = .ok (.getfield 16, 3) := dk_180 0 16 (dk_at dksX5_digest_0 17 rfl rfl)
theorem dX5_digest_20 : decode cX5_digest 20 = .ok (.iload_n 3, 1) := dk_29 (dk_at dksX5_digest_0 20 rfl rfl)
theorem dX5_digest_21 : decode cX5_digest 21 = .ok (.iaload, 1) := dk_46 (dk_at dksX5_digest_0 21 rfl rfl)
theorem dX5_digest_22 : decode cX5_digest 22 = .ok (.i2l, 1) := dk_133 (dk_at dksX5_digest_0 22 rfl rfl)
theorem dX5_digest_23 : decode cX5_digest 23 = .ok (.ladd, 1) := dk_97 (dk_at dksX5_digest_0 23 rfl rfl)
theorem dX5_digest_24 : decode cX5_digest 24 = .ok (.lstore_n 1, 1) := dk_64 (dk_at dksX5_digest_1 0 rfl rfl)
theorem dX5_digest_25 : decode cX5_digest 25 = .ok (.iinc 3 1, 3) := dk_132 3 1 (dk_at dksX5_digest_1 1 rfl rfl)
theorem dX5_digest_28 : decode cX5_digest 28 = .ok (.goto (-22), 3) := dk_167 255 234 (dk_at dksX5_digest_1 4 rfl rfl)
theorem dX5_digest_31 : decode cX5_digest 31 = .ok (.ldc2_w 248, 3) := dk_20 0 248 (dk_at dksX5_digest_1 7 rfl rfl)
theorem dX5_digest_34 : decode cX5_digest 34 = .ok (.lload_n 1, 1) := dk_31 (dk_at dksX5_digest_1 10 rfl rfl)
theorem dX5_digest_35 : decode cX5_digest 35 = .ok (.lmul, 1) := dk_105 (dk_at dksX5_digest_1 11 rfl rfl)
theorem dX5_digest_36 : decode cX5_digest 36 = .ok (.aload_n 0, 1) := dk_42 (dk_at dksX5_digest_1 12 rfl rfl)
theorem dX5_digest_37 : decode cX5_digest 37 = .ok (.getfield 119, 3) := dk_180 0 119 (dk_at dksX5_digest_1 13 rfl rfl)
theorem dX5_digest_40 : decode cX5_digest 40 = .ok (.i2l, 1) := dk_133 (dk_at dksX5_digest_1 16 rfl rfl)
theorem dX5_digest_41 : decode cX5_digest 41 = .ok (.ladd, 1) := dk_97 (dk_at dksX5_digest_1 17 rfl rfl)
theorem dX5_digest_42 : decode cX5_digest 42 = .ok (.lstore_n 1, 1) := dk_64 (dk_at dksX5_digest_1 18 rfl rfl)
theorem dX5_digest_43 : decode cX5_digest 43 = .ok (.iconst 0, 1) := dk_3 (dk_at dksX5_digest_1 19 rfl rfl)
theorem dX5_digest_44 : decode cX5_digest 44 = .ok (.istore_n 3, 1) := dk_62 (dk_at dksX5_digest_1 20 rfl rfl)
theorem dX5_digest_45 : decode cX5_digest 45 = .ok (.iload_n 3, 1) := dk_29 (dk_at dksX5_digest_1 21 rfl rfl)
theorem dX5_digest_46 : decode cX5_digest 46 = .ok (.bipush 84, 2) := dk_16 84 (dk_at dksX5_digest_1 22 rfl rfl)
theorem dX5_digest_48 : decode cX5_digest 48 = .ok (.if_icmp .ge 23, 3) := dk_162 0 23 (dk_at dksX5_digest_2 0 rfl rfl)
theorem dX5_digest_51 : decode cX5_digest 51 = .ok (.ldc2_w 248, 3) := dk_20 0 248 (dk_at dksX5_digest_2 3 rfl rfl)
theorem dX5_digest_54 : decode cX5_digest 54 = .ok (.lload_n 1, 1) := dk_31 (dk_at dksX5_digest_2 6 rfl rfl)
theorem dX5_digest_55 : decode cX5_digest 55 = .ok (.lmul, 1) := dk_105 (dk_at dksX5_digest_2 7 rfl rfl)
theorem dX5_digest_56 : decode cX5_digest 56 = .ok (.aload_n 0, 1) := dk_42 (dk_at dksX5_digest_2 8 rfl rfl)
theorem dX5_digest_57 : decode cX5_digest 57 = .ok (.getfield 7, 3) := dk_180 0 7 (dk_at dksX5_digest_2 9 rfl rfl)
theorem dX5_digest_60 : decode cX5_digest 60 = .ok (.iload_n 3, 1) := dk_29 (dk_at dksX5_digest_2 12 rfl rfl)
theorem dX5_digest_61 : decode cX5_digest 61 = .ok (.iaload, 1) := dk_46 (dk_at dksX5_digest_2 13 rfl rfl)
theorem dX5_digest_62 : decode cX5_digest 62 = .ok (.i2l, 1) := dk_133 (dk_at dksX5_digest_2 14 rfl rfl)
theorem dX5_digest_63 : decode cX5_digest 63 = .ok (.ladd, 1) := dk_97 (dk_at dksX5_digest_2 15 rfl rfl)
theorem dX5_digest_64 : decode cX5_digest 64 = .ok (.lstore_n 1, 1) := dk_64 (dk_at dksX5_digest_2 16 rfl rfl)
theorem dX5_digest_65 : decode cX5_digest 65 = .ok (.iinc 3 1, 3) := dk_132 3 1 (dk_at dksX5_digest_2 17 rfl rfl)
theorem dX5_digest_68 : decode cX5_digest 68 = .ok (.goto (-23), 3) := dk_167 255 233 (dk_at dksX5_digest_2 20 rfl rfl)
theorem dX5_digest_71 : decode cX5_digest 71 = .ok (.iconst 0, 1) := dk_3 (dk_at dksX5_digest_2 23 rfl rfl)
theorem dX5_digest_72 : decode cX5_digest 72 = .ok (.istore_n 3, 1) := dk_62 (dk_at dksX5_digest_3 0 rfl rfl)
theorem dX5_digest_73 : decode cX5_digest 73 = .ok (.iload_n 3, 1) := dk_29 (dk_at dksX5_digest_3 1 rfl rfl)
theorem dX5_digest_74 : decode cX5_digest 74 = .ok (.bipush 6, 2) := dk_16 6 (dk_at dksX5_digest_3 2 rfl rfl)
theorem dX5_digest_76 : decode cX5_digest 76 = .ok (.if_icmp .ge 50, 3) := dk_162 0 50 (dk_at dksX5_digest_3 4 rfl rfl)
theorem dX5_digest_79 : decode cX5_digest 79 = .ok (.ldc2_w 248, 3) := dk_20 0 248 (dk_at dksX5_digest_3 7 rfl rfl)
theorem dX5_digest_82 : decode cX5_digest 82 = .ok (.lload_n 1, 1) := dk_31 (dk_at dksX5_digest_3 10 rfl rfl)
theorem dX5_digest_83 : decode cX5_digest 83 = .ok (.lmul, 1) := dk_105 (dk_at dksX5_digest_3 11 rfl rfl)
theorem dX5_digest_84 : decode cX5_digest 84 = .ok (.aload_n 0, 1) := dk_42 (dk_at dksX5_digest_3 12 rfl rfl)
theorem dX5_digest_85 : decode cX5_digest 85 = .ok (.iload_n 3, 1) := dk_29 (dk_at dksX5_digest_3 13 rfl rfl)
theorem dX5_digest_86 : decode cX5_digest 86 = .ok (.invokevirtual 86, 3) := dk_182 0 86 (dk_at dksX5_digest_3 14 rfl rfl)
theorem dX5_digest_89 : decode cX5_digest 89 = .ok (.iconst (-1), 1) := dk_2 (dk_at dksX5_digest_3 17 rfl rfl)
theorem dX5_digest_90 : decode cX5_digest 90 = .ok (.if_icmp .ne 7, 3) := dk_160 0 7 (dk_at dksX5_digest_3 18 rfl rfl)
theorem dX5_digest_93 : decode cX5_digest 93 = .ok (.iconst 0, 1) := dk_3 (dk_at dksX5_digest_3 21 rfl rfl)
theorem dX5_digest_94 : decode cX5_digest 94 = .ok (.goto 10, 3) := dk_167 0 10 (dk_at dksX5_digest_4 0 rfl rfl)
theorem dX5_digest_97 : decode cX5_digest 97 = .ok (.iconst 1, 1) := dk_4 (dk_at dksX5_digest_4 3 rfl rfl)
theorem dX5_digest_98 : decode cX5_digest 98 = .ok (.aload_n 0, 1) := dk_42 (dk_at dksX5_digest_4 4 rfl rfl)
theorem dX5_digest_99 : decode cX5_digest 99 = .ok (.iload_n 3, 1) := dk_29 (dk_at dksX5_digest_4 5 rfl rfl)
theorem dX5_digest_100 : decode cX5_digest 100 = .ok (.invokevirtual 99, 3) := dk_182 0 99 (dk_at dksX5_digest_4 6 rfl rfl)
theorem dX5_digest_103 : decode cX5_digest 103 = .ok (.iadd, 1) := dk_96 (dk_at dksX5_digest_4 9 rfl rfl)
theorem dX5_digest_104 : decode cX5_digest 104 = .ok (.i2l, 1) := dk_133 (dk_at dksX5_digest_4 10 rfl rfl)
theorem dX5_digest_105 : decode cX5_digest 105 = .ok (.ladd, 1) := dk_97 (dk_at dksX5_digest_4 11 rfl rfl)
theorem dX5_digest_106 : decode cX5_digest 106 = .ok (.lstore_n 1, 1) := dk_64 (dk_at dksX5_digest_4 12 rfl rfl)
theorem dX5_digest_107 : decode cX5_digest 107 = .ok (.ldc2_w 248, 3) := dk_20 0 248 (dk_at dksX5_digest_4 13 rfl rfl)
theorem dX5_digest_110 : decode cX5_digest 110 = .ok (.lload_n 1, 1) := dk_31 (dk_at dksX5_digest_4 16 rfl rfl)
theorem dX5_digest_111 : decode cX5_digest 111 = .ok (.lmul, 1) := dk_105 (dk_at dksX5_digest_4 17 rfl rfl)
theorem dX5_digest_112 : decode cX5_digest 112 = .ok (.aload_n 0, 1) := dk_42 (dk_at dksX5_digest_4 18 rfl rfl)
theorem dX5_digest_113 : decode cX5_digest 113 = .ok (.iload_n 3, 1) := dk_29 (dk_at dksX5_digest_4 19 rfl rfl)
theorem dX5_digest_114 : decode cX5_digest 114 = .ok (.invokevirtual 108, 3) := dk_182 0 108 (dk_at dksX5_digest_4 20 rfl rfl)
theorem dX5_digest_117 : decode cX5_digest 117 = .ok (.i2l, 1) := dk_133 (dk_at dksX5_digest_4 23 rfl rfl)
theorem dX5_digest_118 : decode cX5_digest 118 = .ok (.ladd, 1) := dk_97 (dk_at dksX5_digest_5 0 rfl rfl)
theorem dX5_digest_119 : decode cX5_digest 119 = .ok (.lstore_n 1, 1) := dk_64 (dk_at dksX5_digest_5 1 rfl rfl)
theorem dX5_digest_120 : decode cX5_digest 120 = .ok (.iinc 3 1, 3) := dk_132 3 1 (dk_at dksX5_digest_5 2 rfl rfl)
theorem dX5_digest_123 : decode cX5_digest 123 = .ok (.goto (-50), 3) := dk_167 255 206 (dk_at dksX5_digest_5 5 rfl rfl)
theorem dX5_digest_126 : decode cX5_digest 126 = .ok (.ldc2_w 248, 3) := dk_20 0 248 (dk_at dksX5_digest_5 8 rfl rfl)
theorem dX5_digest_129 : decode cX5_digest 129 = .ok (.lload_n 1, 1) := dk_31 (dk_at dksX5_digest_5 11 rfl rfl)
theorem dX5_digest_130 : decode cX5_digest 130 = .ok (.lmul, 1) := dk_105 (dk_at dksX5_digest_5 12 rfl rfl)
theorem dX5_digest_131 : decode cX5_digest 131 = .ok (.aload_n 0, 1) := dk_42 (dk_at dksX5_digest_5 13 rfl rfl)
theorem dX5_digest_132 : decode cX5_digest 132 = .ok (.getfield 7, 3) := dk_180 0 7 (dk_at dksX5_digest_5 14 rfl rfl)
theorem dX5_digest_135 : decode cX5_digest 135 = .ok (.sipush 147, 3) := dk_17 0 147 (dk_at dksX5_digest_5 17 rfl rfl)
theorem dX5_digest_138 : decode cX5_digest 138 = .ok (.iaload, 1) := dk_46 (dk_at dksX5_digest_5 20 rfl rfl)
theorem dX5_digest_139 : decode cX5_digest 139 = .ok (.i2l, 1) := dk_133 (dk_at dksX5_digest_5 21 rfl rfl)
theorem dX5_digest_140 : decode cX5_digest 140 = .ok (.ladd, 1) := dk_97 (dk_at dksX5_digest_5 22 rfl rfl)
theorem dX5_digest_141 : decode cX5_digest 141 = .ok (.lstore_n 1, 1) := dk_64 (dk_at dksX5_digest_5 23 rfl rfl)
theorem dX5_digest_142 : decode cX5_digest 142 = .ok (.aload_n 0, 1) := dk_42 (dk_at dksX5_digest_6 0 rfl rfl)
theorem dX5_digest_143 : decode cX5_digest 143 = .ok (.invokevirtual 239, 3) := dk_182 0 239 (dk_at dksX5_digest_6 1 rfl rfl)
theorem dX5_digest_146 : decode cX5_digest 146 = .ok (.iconst 0, 1) := dk_3 (dk_at dksX5_digest_6 4 rfl rfl)
theorem dX5_digest_147 : decode cX5_digest 147 = .ok (.istore_n 3, 1) := dk_62 (dk_at dksX5_digest_6 5 rfl rfl)
theorem dX5_digest_148 : decode cX5_digest 148 = .ok (.iload_n 3, 1) := dk_29 (dk_at dksX5_digest_6 6 rfl rfl)
theorem dX5_digest_149 : decode cX5_digest 149 = .ok (.aload_n 0, 1) := dk_42 (dk_at dksX5_digest_6 7 rfl rfl)
theorem dX5_digest_150 : decode cX5_digest 150 = .ok (.getfield 227, 3) := dk_180 0 227 (dk_at dksX5_digest_6 8 rfl rfl)
theorem dX5_digest_153 : decode cX5_digest 153 = .ok (.if_icmp .ge 23, 3) := dk_162 0 23 (dk_at dksX5_digest_6 11 rfl rfl)
theorem dX5_digest_156 : decode cX5_digest 156 = .ok (.ldc2_w 248, 3) := dk_20 0 248 (dk_at dksX5_digest_6 14 rfl rfl)
theorem dX5_digest_159 : decode cX5_digest 159 = .ok (.lload_n 1, 1) := dk_31 (dk_at dksX5_digest_6 17 rfl rfl)
theorem dX5_digest_160 : decode cX5_digest 160 = .ok (.lmul, 1) := dk_105 (dk_at dksX5_digest_6 18 rfl rfl)
theorem dX5_digest_161 : decode cX5_digest 161 = .ok (.aload_n 0, 1) := dk_42 (dk_at dksX5_digest_6 19 rfl rfl)
theorem dX5_digest_162 : decode cX5_digest 162 = .ok (.getfield 46, 3) := dk_180 0 46 (dk_at dksX5_digest_6 20 rfl rfl)
theorem dX5_digest_165 : decode cX5_digest 165 = .ok (.iload_n 3, 1) := dk_29 (dk_at dksX5_digest_6 23 rfl rfl)
theorem dX5_digest_166 : decode cX5_digest 166 = .ok (.iaload, 1) := dk_46 (dk_at dksX5_digest_7 0 rfl rfl)
theorem dX5_digest_167 : decode cX5_digest 167 = .ok (.i2l, 1) := dk_133 (dk_at dksX5_digest_7 1 rfl rfl)
theorem dX5_digest_168 : decode cX5_digest 168 = .ok (.ladd, 1) := dk_97 (dk_at dksX5_digest_7 2 rfl rfl)
theorem dX5_digest_169 : decode cX5_digest 169 = .ok (.lstore_n 1, 1) := dk_64 (dk_at dksX5_digest_7 3 rfl rfl)
theorem dX5_digest_170 : decode cX5_digest 170 = .ok (.iinc 3 1, 3) := dk_132 3 1 (dk_at dksX5_digest_7 4 rfl rfl)
theorem dX5_digest_173 : decode cX5_digest 173 = .ok (.goto (-25), 3) := dk_167 255 231 (dk_at dksX5_digest_7 7 rfl rfl)
theorem dX5_digest_176 : decode cX5_digest 176 = .ok (.ldc2_w 248, 3) := dk_20 0 248 (dk_at dksX5_digest_7 10 rfl rfl)
theorem dX5_digest_179 : decode cX5_digest 179 = .ok (.lload_n 1, 1) := dk_31 (dk_at dksX5_digest_7 13 rfl rfl)
theorem dX5_digest_180 : decode cX5_digest 180 = .ok (.lmul, 1) := dk_105 (dk_at dksX5_digest_7 14 rfl rfl)
theorem dX5_digest_181 : decode cX5_digest 181 = .ok (.aload_n 0, 1) := dk_42 (dk_at dksX5_digest_7 15 rfl rfl)
theorem dX5_digest_182 : decode cX5_digest 182 = .ok (.invokevirtual 222, 3) := dk_182 0 222 (dk_at dksX5_digest_7 16 rfl rfl)
theorem dX5_digest_185 : decode cX5_digest 185 = .ok (.i2l, 1) := dk_133 (dk_at dksX5_digest_7 19 rfl rfl)
theorem dX5_digest_186 : decode cX5_digest 186 = .ok (.ladd, 1) := dk_97 (dk_at dksX5_digest_7 20 rfl rfl)
theorem dX5_digest_187 : decode cX5_digest 187 = .ok (.lstore_n 1, 1) := dk_64 (dk_at dksX5_digest_7 21 rfl rfl)
theorem dX5_digest_188 : decode cX5_digest 188 = .ok (.iconst 0, 1) := dk_3 (dk_at dksX5_digest_7 22 rfl rfl)
theorem dX5_digest_189 : decode cX5_digest 189 = .ok (.istore_n 3, 1) := dk_62 (dk_at dksX5_digest_7 23 rfl rfl)
theorem dX5_digest_190 : decode cX5_digest 190 = .ok (.iload_n 3, 1) := dk_29 (dk_at dksX5_digest_8 0 rfl rfl)
theorem dX5_digest_191 : decode cX5_digest 191 = .ok (.bipush 7, 2) := dk_16 7 (dk_at dksX5_digest_8 1 rfl rfl)
theorem dX5_digest_193 : decode cX5_digest 193 = .ok (.if_icmp .ge 27, 3) := dk_162 0 27 (dk_at dksX5_digest_8 3 rfl rfl)
theorem dX5_digest_196 : decode cX5_digest 196 = .ok (.ldc2_w 248, 3) := dk_20 0 248 (dk_at dksX5_digest_8 6 rfl rfl)
theorem dX5_digest_199 : decode cX5_digest 199 = .ok (.lload_n 1, 1) := dk_31 (dk_at dksX5_digest_8 9 rfl rfl)
theorem dX5_digest_200 : decode cX5_digest 200 = .ok (.lmul, 1) := dk_105 (dk_at dksX5_digest_8 10 rfl rfl)
theorem dX5_digest_201 : decode cX5_digest 201 = .ok (.aload_n 0, 1) := dk_42 (dk_at dksX5_digest_8 11 rfl rfl)
theorem dX5_digest_202 : decode cX5_digest 202 = .ok (.getfield 7, 3) := dk_180 0 7 (dk_at dksX5_digest_8 12 rfl rfl)
theorem dX5_digest_205 : decode cX5_digest 205 = .ok (.sipush 179, 3) := dk_17 0 179 (dk_at dksX5_digest_8 15 rfl rfl)
theorem dX5_digest_208 : decode cX5_digest 208 = .ok (.iload_n 3, 1) := dk_29 (dk_at dksX5_digest_8 18 rfl rfl)
theorem dX5_digest_209 : decode cX5_digest 209 = .ok (.iadd, 1) := dk_96 (dk_at dksX5_digest_8 19 rfl rfl)
theorem dX5_digest_210 : decode cX5_digest 210 = .ok (.iaload, 1) := dk_46 (dk_at dksX5_digest_8 20 rfl rfl)
theorem dX5_digest_211 : decode cX5_digest 211 = .ok (.i2l, 1) := dk_133 (dk_at dksX5_digest_8 21 rfl rfl)
theorem dX5_digest_212 : decode cX5_digest 212 = .ok (.ladd, 1) := dk_97 (dk_at dksX5_digest_8 22 rfl rfl)
theorem dX5_digest_213 : decode cX5_digest 213 = .ok (.lstore_n 1, 1) := dk_64 (dk_at dksX5_digest_8 23 rfl rfl)
theorem dX5_digest_214 : decode cX5_digest 214 = .ok (.iinc 3 1, 3) := dk_132 3 1 (dk_at dksX5_digest_9 0 rfl rfl)
theorem dX5_digest_217 : decode cX5_digest 217 = .ok (.goto (-27), 3) := dk_167 255 229 (dk_at dksX5_digest_9 3 rfl rfl)
theorem dX5_digest_220 : decode cX5_digest 220 = .ok (.ldc2_w 248, 3) := dk_20 0 248 (dk_at dksX5_digest_9 6 rfl rfl)
theorem dX5_digest_223 : decode cX5_digest 223 = .ok (.lload_n 1, 1) := dk_31 (dk_at dksX5_digest_9 9 rfl rfl)
theorem dX5_digest_224 : decode cX5_digest 224 = .ok (.lmul, 1) := dk_105 (dk_at dksX5_digest_9 10 rfl rfl)
theorem dX5_digest_225 : decode cX5_digest 225 = .ok (.aload_n 0, 1) := dk_42 (dk_at dksX5_digest_9 11 rfl rfl)
theorem dX5_digest_226 : decode cX5_digest 226 = .ok (.getfield 49, 3) := dk_180 0 49 (dk_at dksX5_digest_9 12 rfl rfl)
theorem dX5_digest_229 : decode cX5_digest 229 = .ok (.i2l, 1) := dk_133 (dk_at dksX5_digest_9 15 rfl rfl)
theorem dX5_digest_230 : decode cX5_digest 230 = .ok (.ladd, 1) := dk_97 (dk_at dksX5_digest_9 16 rfl rfl)
theorem dX5_digest_231 : decode cX5_digest 231 = .ok (.lreturn, 1) := dk_173 (dk_at dksX5_digest_9 17 rfl rfl)
theorem q62 : (Jvm.Cond.initialized "CallMigratorModel") ∈ lw_all := lw_g (lw_at lw_m1 7 rfl) rfl
theorem q868 : (Jvm.Cond.instantiable "CallMigratorModel" (23 : Nat)) ∈ lw_all := lw_g (lw_at lw_m4 93 rfl) rfl
theorem q870 : (Jvm.Cond.instanceMethod ({ cls := "CallMigratorModel", name := "<init>", desc := "()V" } : Jvm.MethodName)) ∈ lw_all := lw_g (lw_at lw_m4 95 rfl) rfl
theorem q871 : (Jvm.Cond.code ({ cls := "CallMigratorModel", name := "<init>", desc := "()V" } : Jvm.MethodName) prog_10_method_1_code (2 : Nat) (Option.none : Option Jvm.ClassFile.FieldType)) ∈ lw_all := lw_g (lw_at lw_m4 96 rfl) rfl
theorem q872 : (Jvm.Cond.methodLink "CallMigratorModel" (1 : Nat) ({ cls := "java/lang/Object", name := "<init>", desc := "()V" } : Jvm.MethodName)) ∈ lw_all := lw_g (lw_at lw_m4 97 rfl) rfl
theorem q873 : (Jvm.Cond.fieldLink "CallMigratorModel" (7 : Nat) "CallMigratorModel" "all" "[I") ∈ lw_all := lw_g (lw_at lw_m4 98 rfl) rfl
theorem q874 : (Jvm.Cond.fieldLink "CallMigratorModel" (13 : Nat) "CallMigratorModel" "saved" "[I") ∈ lw_all := lw_g (lw_at lw_m4 99 rfl) rfl
theorem q875 : (Jvm.Cond.fieldLink "CallMigratorModel" (49 : Nat) "CallMigratorModel" "savedMany" "I") ∈ lw_all := lw_g (lw_at lw_m4 100 rfl) rfl
theorem q876 : (Jvm.Cond.fieldLink "CallMigratorModel" (16 : Nat) "CallMigratorModel" "errors" "[I") ∈ lw_all := lw_g (lw_at lw_m4 101 rfl) rfl
theorem q877 : (Jvm.Cond.fieldLink "CallMigratorModel" (19 : Nat) "CallMigratorModel" "text" "[I") ∈ lw_all := lw_g (lw_at lw_m4 102 rfl) rfl
theorem q878 : (Jvm.Cond.fieldLink "CallMigratorModel" (119 : Nat) "CallMigratorModel" "textLong" "I") ∈ lw_all := lw_g (lw_at lw_m4 103 rfl) rfl
theorem q879 : (Jvm.Cond.fieldLink "CallMigratorModel" (22 : Nat) "CallMigratorModel" "read" "[I") ∈ lw_all := lw_g (lw_at lw_m4 104 rfl) rfl
theorem q880 : (Jvm.Cond.fieldLink "CallMigratorModel" (151 : Nat) "CallMigratorModel" "readMany" "I") ∈ lw_all := lw_g (lw_at lw_m4 105 rfl) rfl
theorem q881 : (Jvm.Cond.fieldLink "CallMigratorModel" (25 : Nat) "CallMigratorModel" "waits" "[I") ∈ lw_all := lw_g (lw_at lw_m4 106 rfl) rfl
theorem q882 : (Jvm.Cond.fieldLink "CallMigratorModel" (157 : Nat) "CallMigratorModel" "open" "I") ∈ lw_all := lw_g (lw_at lw_m4 107 rfl) rfl
theorem q883 : (Jvm.Cond.fieldLink "CallMigratorModel" (139 : Nat) "CallMigratorModel" "place" "I") ∈ lw_all := lw_g (lw_at lw_m4 108 rfl) rfl
theorem q884 : (Jvm.Cond.fieldLink "CallMigratorModel" (28 : Nat) "CallMigratorModel" "built" "[I") ∈ lw_all := lw_g (lw_at lw_m4 109 rfl) rfl
theorem q885 : (Jvm.Cond.fieldLink "CallMigratorModel" (173 : Nat) "CallMigratorModel" "builtMany" "I") ∈ lw_all := lw_g (lw_at lw_m4 110 rfl) rfl
theorem q886 : (Jvm.Cond.fieldLink "CallMigratorModel" (31 : Nat) "CallMigratorModel" "parts" "[I") ∈ lw_all := lw_g (lw_at lw_m4 111 rfl) rfl
theorem q887 : (Jvm.Cond.fieldLink "CallMigratorModel" (170 : Nat) "CallMigratorModel" "partMany" "I") ∈ lw_all := lw_g (lw_at lw_m4 112 rfl) rfl
theorem q888 : (Jvm.Cond.fieldLink "CallMigratorModel" (34 : Nat) "CallMigratorModel" "taken" "[I") ∈ lw_all := lw_g (lw_at lw_m4 113 rfl) rfl
theorem q889 : (Jvm.Cond.fieldLink "CallMigratorModel" (37 : Nat) "CallMigratorModel" "calls" "[I") ∈ lw_all := lw_g (lw_at lw_m4 114 rfl) rfl
theorem q890 : (Jvm.Cond.fieldLink "CallMigratorModel" (40 : Nat) "CallMigratorModel" "lacks" "[I") ∈ lw_all := lw_g (lw_at lw_m4 115 rfl) rfl
theorem q891 : (Jvm.Cond.fieldLink "CallMigratorModel" (207 : Nat) "CallMigratorModel" "callMany" "I") ∈ lw_all := lw_g (lw_at lw_m4 116 rfl) rfl
theorem q892 : (Jvm.Cond.fieldLink "CallMigratorModel" (185 : Nat) "CallMigratorModel" "total" "I") ∈ lw_all := lw_g (lw_at lw_m4 117 rfl) rfl
theorem q893 : (Jvm.Cond.fieldLink "CallMigratorModel" (43 : Nat) "CallMigratorModel" "values" "[I") ∈ lw_all := lw_g (lw_at lw_m4 118 rfl) rfl
theorem q894 : (Jvm.Cond.fieldLink "CallMigratorModel" (46 : Nat) "CallMigratorModel" "told" "[I") ∈ lw_all := lw_g (lw_at lw_m4 119 rfl) rfl
theorem q895 : (Jvm.Cond.fieldLink "CallMigratorModel" (227 : Nat) "CallMigratorModel" "toldLong" "I") ∈ lw_all := lw_g (lw_at lw_m4 120 rfl) rfl
theorem q896 : (Jvm.Cond.laysFinal "CallMigratorModel" "CallMigratorModel" "all" "[I") ∈ lw_all := lw_g (lw_at lw_m4 121 rfl) rfl
theorem q897 : (Jvm.Cond.soleField "CallMigratorModel" "all") ∈ lw_all := lw_g (lw_at lw_m4 122 rfl) rfl
theorem q898 : (Jvm.Cond.laysFinal "CallMigratorModel" "CallMigratorModel" "saved" "[I") ∈ lw_all := lw_g (lw_at lw_m4 123 rfl) rfl
theorem q899 : (Jvm.Cond.soleField "CallMigratorModel" "saved") ∈ lw_all := lw_g (lw_at lw_m4 124 rfl) rfl
theorem q900 : (Jvm.Cond.lays "CallMigratorModel" "CallMigratorModel" "savedMany" "I") ∈ lw_all := lw_g (lw_at lw_m4 125 rfl) rfl
theorem q901 : (Jvm.Cond.soleField "CallMigratorModel" "savedMany") ∈ lw_all := lw_g (lw_at lw_m4 126 rfl) rfl
theorem q902 : (Jvm.Cond.laysFinal "CallMigratorModel" "CallMigratorModel" "errors" "[I") ∈ lw_all := lw_g (lw_at lw_m4 127 rfl) rfl
theorem q903 : (Jvm.Cond.soleField "CallMigratorModel" "errors") ∈ lw_all := lw_g (lw_at lw_m4 128 rfl) rfl
theorem q904 : (Jvm.Cond.laysFinal "CallMigratorModel" "CallMigratorModel" "text" "[I") ∈ lw_all := lw_g (lw_at lw_m4 129 rfl) rfl
theorem q905 : (Jvm.Cond.soleField "CallMigratorModel" "text") ∈ lw_all := lw_g (lw_at lw_m4 130 rfl) rfl
theorem q906 : (Jvm.Cond.lays "CallMigratorModel" "CallMigratorModel" "textLong" "I") ∈ lw_all := lw_g (lw_at lw_m4 131 rfl) rfl
theorem q907 : (Jvm.Cond.soleField "CallMigratorModel" "textLong") ∈ lw_all := lw_g (lw_at lw_m4 132 rfl) rfl
theorem q908 : (Jvm.Cond.laysFinal "CallMigratorModel" "CallMigratorModel" "read" "[I") ∈ lw_all := lw_g (lw_at lw_m4 133 rfl) rfl
theorem q909 : (Jvm.Cond.soleField "CallMigratorModel" "read") ∈ lw_all := lw_g (lw_at lw_m4 134 rfl) rfl
theorem q910 : (Jvm.Cond.lays "CallMigratorModel" "CallMigratorModel" "readMany" "I") ∈ lw_all := lw_g (lw_at lw_m4 135 rfl) rfl
theorem q911 : (Jvm.Cond.soleField "CallMigratorModel" "readMany") ∈ lw_all := lw_g (lw_at lw_m4 136 rfl) rfl
theorem q912 : (Jvm.Cond.laysFinal "CallMigratorModel" "CallMigratorModel" "waits" "[I") ∈ lw_all := lw_g (lw_at lw_m4 137 rfl) rfl
theorem q913 : (Jvm.Cond.soleField "CallMigratorModel" "waits") ∈ lw_all := lw_g (lw_at lw_m4 138 rfl) rfl
theorem q914 : (Jvm.Cond.lays "CallMigratorModel" "CallMigratorModel" "open" "I") ∈ lw_all := lw_g (lw_at lw_m4 139 rfl) rfl
theorem q915 : (Jvm.Cond.soleField "CallMigratorModel" "open") ∈ lw_all := lw_g (lw_at lw_m4 140 rfl) rfl
theorem q916 : (Jvm.Cond.lays "CallMigratorModel" "CallMigratorModel" "place" "I") ∈ lw_all := lw_g (lw_at lw_m4 141 rfl) rfl
theorem q917 : (Jvm.Cond.soleField "CallMigratorModel" "place") ∈ lw_all := lw_g (lw_at lw_m4 142 rfl) rfl
theorem q918 : (Jvm.Cond.laysFinal "CallMigratorModel" "CallMigratorModel" "built" "[I") ∈ lw_all := lw_g (lw_at lw_m4 143 rfl) rfl
theorem q919 : (Jvm.Cond.soleField "CallMigratorModel" "built") ∈ lw_all := lw_g (lw_at lw_m4 144 rfl) rfl
theorem q920 : (Jvm.Cond.lays "CallMigratorModel" "CallMigratorModel" "builtMany" "I") ∈ lw_all := lw_g (lw_at lw_m4 145 rfl) rfl
theorem q921 : (Jvm.Cond.soleField "CallMigratorModel" "builtMany") ∈ lw_all := lw_g (lw_at lw_m4 146 rfl) rfl
theorem q922 : (Jvm.Cond.laysFinal "CallMigratorModel" "CallMigratorModel" "parts" "[I") ∈ lw_all := lw_g (lw_at lw_m4 147 rfl) rfl
theorem q923 : (Jvm.Cond.soleField "CallMigratorModel" "parts") ∈ lw_all := lw_g (lw_at lw_m4 148 rfl) rfl
theorem q924 : (Jvm.Cond.lays "CallMigratorModel" "CallMigratorModel" "partMany" "I") ∈ lw_all := lw_g (lw_at lw_m4 149 rfl) rfl
theorem q925 : (Jvm.Cond.soleField "CallMigratorModel" "partMany") ∈ lw_all := lw_g (lw_at lw_m4 150 rfl) rfl
theorem q926 : (Jvm.Cond.laysFinal "CallMigratorModel" "CallMigratorModel" "taken" "[I") ∈ lw_all := lw_g (lw_at lw_m4 151 rfl) rfl
theorem q927 : (Jvm.Cond.soleField "CallMigratorModel" "taken") ∈ lw_all := lw_g (lw_at lw_m4 152 rfl) rfl
theorem q928 : (Jvm.Cond.laysFinal "CallMigratorModel" "CallMigratorModel" "calls" "[I") ∈ lw_all := lw_g (lw_at lw_m4 153 rfl) rfl
theorem q929 : (Jvm.Cond.soleField "CallMigratorModel" "calls") ∈ lw_all := lw_g (lw_at lw_m4 154 rfl) rfl
theorem q930 : (Jvm.Cond.laysFinal "CallMigratorModel" "CallMigratorModel" "lacks" "[I") ∈ lw_all := lw_g (lw_at lw_m4 155 rfl) rfl
theorem q931 : (Jvm.Cond.soleField "CallMigratorModel" "lacks") ∈ lw_all := lw_g (lw_at lw_m4 156 rfl) rfl
theorem q932 : (Jvm.Cond.lays "CallMigratorModel" "CallMigratorModel" "callMany" "I") ∈ lw_all := lw_g (lw_at lw_m4 157 rfl) rfl
theorem q933 : (Jvm.Cond.soleField "CallMigratorModel" "callMany") ∈ lw_all := lw_g (lw_at lw_m4 158 rfl) rfl
theorem q934 : (Jvm.Cond.lays "CallMigratorModel" "CallMigratorModel" "total" "I") ∈ lw_all := lw_g (lw_at lw_m4 159 rfl) rfl
theorem q935 : (Jvm.Cond.soleField "CallMigratorModel" "total") ∈ lw_all := lw_g (lw_at lw_m4 160 rfl) rfl
theorem q936 : (Jvm.Cond.laysFinal "CallMigratorModel" "CallMigratorModel" "values" "[I") ∈ lw_all := lw_g (lw_at lw_m4 161 rfl) rfl
theorem q937 : (Jvm.Cond.soleField "CallMigratorModel" "values") ∈ lw_all := lw_g (lw_at lw_m4 162 rfl) rfl
theorem q938 : (Jvm.Cond.laysFinal "CallMigratorModel" "CallMigratorModel" "told" "[I") ∈ lw_all := lw_g (lw_at lw_m4 163 rfl) rfl
theorem q939 : (Jvm.Cond.soleField "CallMigratorModel" "told") ∈ lw_all := lw_g (lw_at lw_m4 164 rfl) rfl
theorem q940 : (Jvm.Cond.lays "CallMigratorModel" "CallMigratorModel" "toldLong" "I") ∈ lw_all := lw_g (lw_at lw_m4 165 rfl) rfl
theorem q941 : (Jvm.Cond.soleField "CallMigratorModel" "toldLong") ∈ lw_all := lw_g (lw_at lw_m4 166 rfl) rfl
theorem q942 : (Jvm.Cond.superclass "CallMigratorModel" "java/lang/Object") ∈ lw_all := lw_g (lw_at lw_m4 167 rfl) rfl
theorem q944 : (Jvm.Cond.instanceMethod ({ cls := "CallMigratorModel", name := "setOld", desc := "(III)I" } : Jvm.MethodName)) ∈ lw_all := lw_g (lw_at lw_m4 169 rfl) rfl
theorem q945 : (Jvm.Cond.selects "CallMigratorModel" ({ cls := "CallMigratorModel", name := "setOld", desc := "(III)I" } : Jvm.MethodName) ({ cls := "CallMigratorModel", name := "setOld", desc := "(III)I" } : Jvm.MethodName)) ∈ lw_all := lw_g (lw_at lw_m4 170 rfl) rfl
theorem q946 : (Jvm.Cond.code ({ cls := "CallMigratorModel", name := "setOld", desc := "(III)I" } : Jvm.MethodName) prog_10_method_8_code (5 : Nat) (Option.some Jvm.ClassFile.FieldType.int)) ∈ lw_all := lw_g (lw_at lw_m4 171 rfl) rfl
theorem q947 : (Jvm.Cond.methodLink "CallMigratorModel" (62 : Nat) ({ cls := "CallMigratorModel", name := "isFunction", desc := "(I)Z" } : Jvm.MethodName)) ∈ lw_all := lw_g (lw_at lw_m4 172 rfl) rfl
theorem q948 : (Jvm.Cond.static ({ cls := "CallMigratorModel", name := "isFunction", desc := "(I)Z" } : Jvm.MethodName)) ∈ lw_all := lw_g (lw_at lw_m4 173 rfl) rfl
theorem q949 : (Jvm.Cond.code ({ cls := "CallMigratorModel", name := "isFunction", desc := "(I)Z" } : Jvm.MethodName) prog_10_method_6_code (1 : Nat) (Option.some Jvm.ClassFile.FieldType.boolean)) ∈ lw_all := lw_g (lw_at lw_m4 174 rfl) rfl
theorem q950 : (Jvm.Cond.constantLong "CallMigratorModel" (53 : Nat) (5 : Int64)) ∈ lw_all := lw_g (lw_at lw_m4 175 rfl) rfl
theorem q951 : (Jvm.Cond.methodLink "CallMigratorModel" (55 : Nat) ({ cls := "CallMigratorModel", name := "in", desc := "(JJJ)Z" } : Jvm.MethodName)) ∈ lw_all := lw_g (lw_at lw_m4 176 rfl) rfl
theorem q952 : (Jvm.Cond.static ({ cls := "CallMigratorModel", name := "in", desc := "(JJJ)Z" } : Jvm.MethodName)) ∈ lw_all := lw_g (lw_at lw_m4 177 rfl) rfl
theorem q953 : (Jvm.Cond.code ({ cls := "CallMigratorModel", name := "in", desc := "(JJJ)Z" } : Jvm.MethodName) prog_10_method_3_code (6 : Nat) (Option.some Jvm.ClassFile.FieldType.boolean)) ∈ lw_all := lw_g (lw_at lw_m4 178 rfl) rfl
theorem q954 : (Jvm.Cond.constantLong "CallMigratorModel" (66 : Nat) (3 : Int64)) ∈ lw_all := lw_g (lw_at lw_m4 179 rfl) rfl
theorem q955 : (Jvm.Cond.methodLink "CallMigratorModel" (68 : Nat) ({ cls := "CallMigratorModel", name := "sets", desc := "(III)I" } : Jvm.MethodName)) ∈ lw_all := lw_g (lw_at lw_m4 180 rfl) rfl
theorem q956 : (Jvm.Cond.privateMethod ({ cls := "CallMigratorModel", name := "sets", desc := "(III)I" } : Jvm.MethodName)) ∈ lw_tbl := lw_at lw_m4 181 rfl
theorem q957 : (Jvm.Cond.instanceMethod ({ cls := "CallMigratorModel", name := "sets", desc := "(III)I" } : Jvm.MethodName)) ∈ lw_all := lw_g (lw_at lw_m4 182 rfl) rfl
theorem q958 : (Jvm.Cond.code ({ cls := "CallMigratorModel", name := "sets", desc := "(III)I" } : Jvm.MethodName) prog_10_method_7_code (5 : Nat) (Option.some Jvm.ClassFile.FieldType.int)) ∈ lw_all := lw_g (lw_at lw_m4 183 rfl) rfl
theorem q959 : (Jvm.Cond.methodLink "CallMigratorModel" (59 : Nat) ({ cls := "CallMigratorModel", name := "save", desc := "()V" } : Jvm.MethodName)) ∈ lw_all := lw_g (lw_at lw_m4 184 rfl) rfl
theorem q960 : (Jvm.Cond.privateMethod ({ cls := "CallMigratorModel", name := "save", desc := "()V" } : Jvm.MethodName)) ∈ lw_tbl := lw_at lw_m4 185 rfl
theorem q961 : (Jvm.Cond.instanceMethod ({ cls := "CallMigratorModel", name := "save", desc := "()V" } : Jvm.MethodName)) ∈ lw_all := lw_g (lw_at lw_m4 186 rfl) rfl
theorem q962 : (Jvm.Cond.code ({ cls := "CallMigratorModel", name := "save", desc := "()V" } : Jvm.MethodName) prog_10_method_5_code (2 : Nat) (Option.none : Option Jvm.ClassFile.FieldType)) ∈ lw_all := lw_g (lw_at lw_m4 187 rfl) rfl
theorem q963 : (Jvm.Cond.methodLink "CallMigratorModel" (72 : Nat) ({ cls := "CallMigratorModel", name := "error", desc := "(I)I" } : Jvm.MethodName)) ∈ lw_all := lw_g (lw_at lw_m4 188 rfl) rfl
theorem q964 : (Jvm.Cond.privateMethod ({ cls := "CallMigratorModel", name := "error", desc := "(I)I" } : Jvm.MethodName)) ∈ lw_tbl := lw_at lw_m4 189 rfl
theorem q965 : (Jvm.Cond.instanceMethod ({ cls := "CallMigratorModel", name := "error", desc := "(I)I" } : Jvm.MethodName)) ∈ lw_all := lw_g (lw_at lw_m4 190 rfl) rfl
theorem q966 : (Jvm.Cond.code ({ cls := "CallMigratorModel", name := "error", desc := "(I)I" } : Jvm.MethodName) prog_10_method_4_code (2 : Nat) (Option.some Jvm.ClassFile.FieldType.int)) ∈ lw_all := lw_g (lw_at lw_m4 191 rfl) rfl
theorem q968 : (Jvm.Cond.instanceMethod ({ cls := "CallMigratorModel", name := "setNew", desc := "(III)I" } : Jvm.MethodName)) ∈ lw_all := lw_g (lw_at lw_m4 193 rfl) rfl
theorem q969 : (Jvm.Cond.selects "CallMigratorModel" ({ cls := "CallMigratorModel", name := "setNew", desc := "(III)I" } : Jvm.MethodName) ({ cls := "CallMigratorModel", name := "setNew", desc := "(III)I" } : Jvm.MethodName)) ∈ lw_all := lw_g (lw_at lw_m4 194 rfl) rfl
theorem q970 : (Jvm.Cond.code ({ cls := "CallMigratorModel", name := "setNew", desc := "(III)I" } : Jvm.MethodName) prog_10_method_9_code (5 : Nat) (Option.some Jvm.ClassFile.FieldType.int)) ∈ lw_all := lw_g (lw_at lw_m4 195 rfl) rfl
theorem q971 : (Jvm.Cond.constantLong "CallMigratorModel" (76 : Nat) (4 : Int64)) ∈ lw_all := lw_g (lw_at lw_m4 196 rfl) rfl
theorem q973 : (Jvm.Cond.instanceMethod ({ cls := "CallMigratorModel", name := "setOldTerm", desc := "(III)I" } : Jvm.MethodName)) ∈ lw_all := lw_g (lw_at lw_m4 198 rfl) rfl
theorem q974 : (Jvm.Cond.selects "CallMigratorModel" ({ cls := "CallMigratorModel", name := "setOldTerm", desc := "(III)I" } : Jvm.MethodName) ({ cls := "CallMigratorModel", name := "setOldTerm", desc := "(III)I" } : Jvm.MethodName)) ∈ lw_all := lw_g (lw_at lw_m4 199 rfl) rfl
theorem q975 : (Jvm.Cond.code ({ cls := "CallMigratorModel", name := "setOldTerm", desc := "(III)I" } : Jvm.MethodName) prog_10_method_11_code (4 : Nat) (Option.some Jvm.ClassFile.FieldType.int)) ∈ lw_all := lw_g (lw_at lw_m4 200 rfl) rfl
theorem q976 : (Jvm.Cond.methodLink "CallMigratorModel" (82 : Nat) ({ cls := "CallMigratorModel", name := "setsTerm", desc := "(IIII)I" } : Jvm.MethodName)) ∈ lw_all := lw_g (lw_at lw_m4 201 rfl) rfl
theorem q977 : (Jvm.Cond.privateMethod ({ cls := "CallMigratorModel", name := "setsTerm", desc := "(IIII)I" } : Jvm.MethodName)) ∈ lw_tbl := lw_at lw_m4 202 rfl
theorem q978 : (Jvm.Cond.instanceMethod ({ cls := "CallMigratorModel", name := "setsTerm", desc := "(IIII)I" } : Jvm.MethodName)) ∈ lw_all := lw_g (lw_at lw_m4 203 rfl) rfl
theorem q979 : (Jvm.Cond.code ({ cls := "CallMigratorModel", name := "setsTerm", desc := "(IIII)I" } : Jvm.MethodName) prog_10_method_10_code (7 : Nat) (Option.some Jvm.ClassFile.FieldType.int)) ∈ lw_all := lw_g (lw_at lw_m4 204 rfl) rfl
theorem q980 : (Jvm.Cond.constantLong "CallMigratorModel" (78 : Nat) (-1 : Int64)) ∈ lw_all := lw_g (lw_at lw_m4 205 rfl) rfl
theorem q981 : (Jvm.Cond.constantLong "CallMigratorModel" (80 : Nat) (99 : Int64)) ∈ lw_all := lw_g (lw_at lw_m4 206 rfl) rfl
theorem q983 : (Jvm.Cond.instanceMethod ({ cls := "CallMigratorModel", name := "setNewTerm", desc := "(III)I" } : Jvm.MethodName)) ∈ lw_all := lw_g (lw_at lw_m4 208 rfl) rfl
theorem q984 : (Jvm.Cond.selects "CallMigratorModel" ({ cls := "CallMigratorModel", name := "setNewTerm", desc := "(III)I" } : Jvm.MethodName) ({ cls := "CallMigratorModel", name := "setNewTerm", desc := "(III)I" } : Jvm.MethodName)) ∈ lw_all := lw_g (lw_at lw_m4 209 rfl) rfl
theorem q985 : (Jvm.Cond.code ({ cls := "CallMigratorModel", name := "setNewTerm", desc := "(III)I" } : Jvm.MethodName) prog_10_method_12_code (4 : Nat) (Option.some Jvm.ClassFile.FieldType.int)) ∈ lw_all := lw_g (lw_at lw_m4 210 rfl) rfl
theorem q987 : (Jvm.Cond.instanceMethod ({ cls := "CallMigratorModel", name := "map", desc := "(II)I" } : Jvm.MethodName)) ∈ lw_all := lw_g (lw_at lw_m4 212 rfl) rfl
theorem q988 : (Jvm.Cond.selects "CallMigratorModel" ({ cls := "CallMigratorModel", name := "map", desc := "(II)I" } : Jvm.MethodName) ({ cls := "CallMigratorModel", name := "map", desc := "(II)I" } : Jvm.MethodName)) ∈ lw_all := lw_g (lw_at lw_m4 213 rfl) rfl
theorem q989 : (Jvm.Cond.code ({ cls := "CallMigratorModel", name := "map", desc := "(II)I" } : Jvm.MethodName) prog_10_method_18_code (4 : Nat) (Option.some Jvm.ClassFile.FieldType.int)) ∈ lw_all := lw_g (lw_at lw_m4 214 rfl) rfl
theorem q990 : (Jvm.Cond.methodLink "CallMigratorModel" (99 : Nat) ({ cls := "CallMigratorModel", name := "faithful", desc := "(I)I" } : Jvm.MethodName)) ∈ lw_all := lw_g (lw_at lw_m4 215 rfl) rfl
theorem q991 : (Jvm.Cond.privateMethod ({ cls := "CallMigratorModel", name := "faithful", desc := "(I)I" } : Jvm.MethodName)) ∈ lw_tbl := lw_at lw_m4 216 rfl
theorem q992 : (Jvm.Cond.instanceMethod ({ cls := "CallMigratorModel", name := "faithful", desc := "(I)I" } : Jvm.MethodName)) ∈ lw_all := lw_g (lw_at lw_m4 217 rfl) rfl
theorem q993 : (Jvm.Cond.code ({ cls := "CallMigratorModel", name := "faithful", desc := "(I)I" } : Jvm.MethodName) prog_10_method_17_code (2 : Nat) (Option.some Jvm.ClassFile.FieldType.int)) ∈ lw_all := lw_g (lw_at lw_m4 218 rfl) rfl
theorem q994 : (Jvm.Cond.methodLink "CallMigratorModel" (96 : Nat) ({ cls := "CallMigratorModel", name := "isTrue", desc := "(I)Z" } : Jvm.MethodName)) ∈ lw_all := lw_g (lw_at lw_m4 219 rfl) rfl
theorem q995 : (Jvm.Cond.privateMethod ({ cls := "CallMigratorModel", name := "isTrue", desc := "(I)Z" } : Jvm.MethodName)) ∈ lw_tbl := lw_at lw_m4 220 rfl
theorem q996 : (Jvm.Cond.instanceMethod ({ cls := "CallMigratorModel", name := "isTrue", desc := "(I)Z" } : Jvm.MethodName)) ∈ lw_all := lw_g (lw_at lw_m4 221 rfl) rfl
theorem q997 : (Jvm.Cond.code ({ cls := "CallMigratorModel", name := "isTrue", desc := "(I)Z" } : Jvm.MethodName) prog_10_method_16_code (9 : Nat) (Option.some Jvm.ClassFile.FieldType.boolean)) ∈ lw_all := lw_g (lw_at lw_m4 222 rfl) rfl
theorem q998 : (Jvm.Cond.methodLink "CallMigratorModel" (86 : Nat) ({ cls := "CallMigratorModel", name := "newOf", desc := "(I)I" } : Jvm.MethodName)) ∈ lw_all := lw_g (lw_at lw_m4 223 rfl) rfl
theorem q999 : (Jvm.Cond.privateMethod ({ cls := "CallMigratorModel", name := "newOf", desc := "(I)I" } : Jvm.MethodName)) ∈ lw_tbl := lw_at lw_m4 224 rfl
theorem q1000 : (Jvm.Cond.instanceMethod ({ cls := "CallMigratorModel", name := "newOf", desc := "(I)I" } : Jvm.MethodName)) ∈ lw_all := lw_g (lw_at lw_m4 225 rfl) rfl
theorem q1001 : (Jvm.Cond.code ({ cls := "CallMigratorModel", name := "newOf", desc := "(I)I" } : Jvm.MethodName) prog_10_method_13_code (2 : Nat) (Option.some Jvm.ClassFile.FieldType.int)) ∈ lw_all := lw_g (lw_at lw_m4 226 rfl) rfl
theorem q1002 : (Jvm.Cond.methodLink "CallMigratorModel" (89 : Nat) ({ cls := "CallMigratorModel", name := "used", desc := "(I)I" } : Jvm.MethodName)) ∈ lw_all := lw_g (lw_at lw_m4 227 rfl) rfl
theorem q1003 : (Jvm.Cond.privateMethod ({ cls := "CallMigratorModel", name := "used", desc := "(I)I" } : Jvm.MethodName)) ∈ lw_tbl := lw_at lw_m4 228 rfl
theorem q1004 : (Jvm.Cond.instanceMethod ({ cls := "CallMigratorModel", name := "used", desc := "(I)I" } : Jvm.MethodName)) ∈ lw_all := lw_g (lw_at lw_m4 229 rfl) rfl
theorem q1005 : (Jvm.Cond.code ({ cls := "CallMigratorModel", name := "used", desc := "(I)I" } : Jvm.MethodName) prog_10_method_15_code (2 : Nat) (Option.some Jvm.ClassFile.FieldType.int)) ∈ lw_all := lw_g (lw_at lw_m4 230 rfl) rfl
theorem q1006 : (Jvm.Cond.methodLink "CallMigratorModel" (92 : Nat) ({ cls := "CallMigratorModel", name := "entry", desc := "(II)I" } : Jvm.MethodName)) ∈ lw_all := lw_g (lw_at lw_m4 231 rfl) rfl
theorem q1007 : (Jvm.Cond.privateMethod ({ cls := "CallMigratorModel", name := "entry", desc := "(II)I" } : Jvm.MethodName)) ∈ lw_tbl := lw_at lw_m4 232 rfl
theorem q1008 : (Jvm.Cond.instanceMethod ({ cls := "CallMigratorModel", name := "entry", desc := "(II)I" } : Jvm.MethodName)) ∈ lw_all := lw_g (lw_at lw_m4 233 rfl) rfl
theorem q1009 : (Jvm.Cond.code ({ cls := "CallMigratorModel", name := "entry", desc := "(II)I" } : Jvm.MethodName) prog_10_method_14_code (3 : Nat) (Option.some Jvm.ClassFile.FieldType.int)) ∈ lw_all := lw_g (lw_at lw_m4 234 rfl) rfl
theorem q1011 : (Jvm.Cond.instanceMethod ({ cls := "CallMigratorModel", name := "unmap", desc := "(I)I" } : Jvm.MethodName)) ∈ lw_all := lw_g (lw_at lw_m4 236 rfl) rfl
theorem q1012 : (Jvm.Cond.selects "CallMigratorModel" ({ cls := "CallMigratorModel", name := "unmap", desc := "(I)I" } : Jvm.MethodName) ({ cls := "CallMigratorModel", name := "unmap", desc := "(I)I" } : Jvm.MethodName)) ∈ lw_all := lw_g (lw_at lw_m4 237 rfl) rfl
theorem q1013 : (Jvm.Cond.code ({ cls := "CallMigratorModel", name := "unmap", desc := "(I)I" } : Jvm.MethodName) prog_10_method_19_code (3 : Nat) (Option.some Jvm.ClassFile.FieldType.int)) ∈ lw_all := lw_g (lw_at lw_m4 238 rfl) rfl
theorem q1015 : (Jvm.Cond.instanceMethod ({ cls := "CallMigratorModel", name := "setSource", desc := "(III)I" } : Jvm.MethodName)) ∈ lw_all := lw_g (lw_at lw_m5 0 rfl) rfl
theorem q1016 : (Jvm.Cond.selects "CallMigratorModel" ({ cls := "CallMigratorModel", name := "setSource", desc := "(III)I" } : Jvm.MethodName) ({ cls := "CallMigratorModel", name := "setSource", desc := "(III)I" } : Jvm.MethodName)) ∈ lw_all := lw_g (lw_at lw_m5 1 rfl) rfl
theorem q1017 : (Jvm.Cond.code ({ cls := "CallMigratorModel", name := "setSource", desc := "(III)I" } : Jvm.MethodName) prog_10_method_21_code (4 : Nat) (Option.some Jvm.ClassFile.FieldType.int)) ∈ lw_all := lw_g (lw_at lw_m5 2 rfl) rfl
theorem q1018 : (Jvm.Cond.constantLong "CallMigratorModel" (102 : Nat) (2 : Int64)) ∈ lw_all := lw_g (lw_at lw_m5 3 rfl) rfl
theorem q1019 : (Jvm.Cond.methodLink "CallMigratorModel" (104 : Nat) ({ cls := "CallMigratorModel", name := "setsEntry", desc := "(IIIZ)I" } : Jvm.MethodName)) ∈ lw_all := lw_g (lw_at lw_m5 4 rfl) rfl
theorem q1020 : (Jvm.Cond.privateMethod ({ cls := "CallMigratorModel", name := "setsEntry", desc := "(IIIZ)I" } : Jvm.MethodName)) ∈ lw_tbl := lw_at lw_m5 5 rfl
theorem q1021 : (Jvm.Cond.instanceMethod ({ cls := "CallMigratorModel", name := "setsEntry", desc := "(IIIZ)I" } : Jvm.MethodName)) ∈ lw_all := lw_g (lw_at lw_m5 6 rfl) rfl
theorem q1022 : (Jvm.Cond.code ({ cls := "CallMigratorModel", name := "setsEntry", desc := "(IIIZ)I" } : Jvm.MethodName) prog_10_method_20_code (5 : Nat) (Option.some Jvm.ClassFile.FieldType.int)) ∈ lw_all := lw_g (lw_at lw_m5 7 rfl) rfl
theorem q1024 : (Jvm.Cond.instanceMethod ({ cls := "CallMigratorModel", name := "setConstant", desc := "(III)I" } : Jvm.MethodName)) ∈ lw_all := lw_g (lw_at lw_m5 9 rfl) rfl
theorem q1025 : (Jvm.Cond.selects "CallMigratorModel" ({ cls := "CallMigratorModel", name := "setConstant", desc := "(III)I" } : Jvm.MethodName) ({ cls := "CallMigratorModel", name := "setConstant", desc := "(III)I" } : Jvm.MethodName)) ∈ lw_all := lw_g (lw_at lw_m5 10 rfl) rfl
theorem q1026 : (Jvm.Cond.code ({ cls := "CallMigratorModel", name := "setConstant", desc := "(III)I" } : Jvm.MethodName) prog_10_method_22_code (5 : Nat) (Option.some Jvm.ClassFile.FieldType.int)) ∈ lw_all := lw_g (lw_at lw_m5 11 rfl) rfl
theorem q1028 : (Jvm.Cond.instanceMethod ({ cls := "CallMigratorModel", name := "isFaithful", desc := "(I)I" } : Jvm.MethodName)) ∈ lw_all := lw_g (lw_at lw_m5 13 rfl) rfl
theorem q1029 : (Jvm.Cond.selects "CallMigratorModel" ({ cls := "CallMigratorModel", name := "isFaithful", desc := "(I)I" } : Jvm.MethodName) ({ cls := "CallMigratorModel", name := "isFaithful", desc := "(I)I" } : Jvm.MethodName)) ∈ lw_all := lw_g (lw_at lw_m5 14 rfl) rfl
theorem q1030 : (Jvm.Cond.code ({ cls := "CallMigratorModel", name := "isFaithful", desc := "(I)I" } : Jvm.MethodName) prog_10_method_23_code (2 : Nat) (Option.some Jvm.ClassFile.FieldType.int)) ∈ lw_all := lw_g (lw_at lw_m5 15 rfl) rfl
theorem q1032 : (Jvm.Cond.instanceMethod ({ cls := "CallMigratorModel", name := "allowAdapters", desc := "(I)I" } : Jvm.MethodName)) ∈ lw_all := lw_g (lw_at lw_m5 17 rfl) rfl
theorem q1033 : (Jvm.Cond.selects "CallMigratorModel" ({ cls := "CallMigratorModel", name := "allowAdapters", desc := "(I)I" } : Jvm.MethodName) ({ cls := "CallMigratorModel", name := "allowAdapters", desc := "(I)I" } : Jvm.MethodName)) ∈ lw_all := lw_g (lw_at lw_m5 18 rfl) rfl
theorem q1034 : (Jvm.Cond.code ({ cls := "CallMigratorModel", name := "allowAdapters", desc := "(I)I" } : Jvm.MethodName) prog_10_method_24_code (3 : Nat) (Option.some Jvm.ClassFile.FieldType.int)) ∈ lw_all := lw_g (lw_at lw_m5 19 rfl) rfl
theorem q1036 : (Jvm.Cond.instanceMethod ({ cls := "CallMigratorModel", name := "adapterOf", desc := "(I)I" } : Jvm.MethodName)) ∈ lw_all := lw_g (lw_at lw_m5 21 rfl) rfl
theorem q1037 : (Jvm.Cond.selects "CallMigratorModel" ({ cls := "CallMigratorModel", name := "adapterOf", desc := "(I)I" } : Jvm.MethodName) ({ cls := "CallMigratorModel", name := "adapterOf", desc := "(I)I" } : Jvm.MethodName)) ∈ lw_all := lw_g (lw_at lw_m5 22 rfl) rfl
theorem q1038 : (Jvm.Cond.code ({ cls := "CallMigratorModel", name := "adapterOf", desc := "(I)I" } : Jvm.MethodName) prog_10_method_26_code (3 : Nat) (Option.some Jvm.ClassFile.FieldType.int)) ∈ lw_all := lw_g (lw_at lw_m5 23 rfl) rfl
theorem q1039 : (Jvm.Cond.methodLink "CallMigratorModel" (108 : Nat) ({ cls := "CallMigratorModel", name := "adapter", desc := "(I)I" } : Jvm.MethodName)) ∈ lw_all := lw_g (lw_at lw_m5 24 rfl) rfl
theorem q1040 : (Jvm.Cond.privateMethod ({ cls := "CallMigratorModel", name := "adapter", desc := "(I)I" } : Jvm.MethodName)) ∈ lw_tbl := lw_at lw_m5 25 rfl
theorem q1041 : (Jvm.Cond.instanceMethod ({ cls := "CallMigratorModel", name := "adapter", desc := "(I)I" } : Jvm.MethodName)) ∈ lw_all := lw_g (lw_at lw_m5 26 rfl) rfl
theorem q1042 : (Jvm.Cond.code ({ cls := "CallMigratorModel", name := "adapter", desc := "(I)I" } : Jvm.MethodName) prog_10_method_25_code (4 : Nat) (Option.some Jvm.ClassFile.FieldType.int)) ∈ lw_all := lw_g (lw_at lw_m5 27 rfl) rfl
theorem q1044 : (Jvm.Cond.instanceMethod ({ cls := "CallMigratorModel", name := "append", desc := "(I)I" } : Jvm.MethodName)) ∈ lw_all := lw_g (lw_at lw_m5 29 rfl) rfl
theorem q1045 : (Jvm.Cond.selects "CallMigratorModel" ({ cls := "CallMigratorModel", name := "append", desc := "(I)I" } : Jvm.MethodName) ({ cls := "CallMigratorModel", name := "append", desc := "(I)I" } : Jvm.MethodName)) ∈ lw_all := lw_g (lw_at lw_m5 30 rfl) rfl
theorem q1046 : (Jvm.Cond.code ({ cls := "CallMigratorModel", name := "append", desc := "(I)I" } : Jvm.MethodName) prog_10_method_32_code (2 : Nat) (Option.some Jvm.ClassFile.FieldType.int)) ∈ lw_all := lw_g (lw_at lw_m5 31 rfl) rfl
theorem q1047 : (Jvm.Cond.constantLong "CallMigratorModel" (117 : Nat) (127 : Int64)) ∈ lw_all := lw_g (lw_at lw_m5 32 rfl) rfl
theorem q1049 : (Jvm.Cond.instanceMethod ({ cls := "CallMigratorModel", name := "clearText", desc := "()I" } : Jvm.MethodName)) ∈ lw_all := lw_g (lw_at lw_m5 34 rfl) rfl
theorem q1050 : (Jvm.Cond.selects "CallMigratorModel" ({ cls := "CallMigratorModel", name := "clearText", desc := "()I" } : Jvm.MethodName) ({ cls := "CallMigratorModel", name := "clearText", desc := "()I" } : Jvm.MethodName)) ∈ lw_all := lw_g (lw_at lw_m5 35 rfl) rfl
theorem q1051 : (Jvm.Cond.code ({ cls := "CallMigratorModel", name := "clearText", desc := "()I" } : Jvm.MethodName) prog_10_method_33_code (2 : Nat) (Option.some Jvm.ClassFile.FieldType.int)) ∈ lw_all := lw_g (lw_at lw_m5 36 rfl) rfl
theorem q1053 : (Jvm.Cond.instanceMethod ({ cls := "CallMigratorModel", name := "parse", desc := "()I" } : Jvm.MethodName)) ∈ lw_all := lw_g (lw_at lw_m5 38 rfl) rfl
theorem q1054 : (Jvm.Cond.selects "CallMigratorModel" ({ cls := "CallMigratorModel", name := "parse", desc := "()I" } : Jvm.MethodName) ({ cls := "CallMigratorModel", name := "parse", desc := "()I" } : Jvm.MethodName)) ∈ lw_all := lw_g (lw_at lw_m5 39 rfl) rfl
theorem q1055 : (Jvm.Cond.code ({ cls := "CallMigratorModel", name := "parse", desc := "()I" } : Jvm.MethodName) prog_10_method_39_code (2 : Nat) (Option.some Jvm.ClassFile.FieldType.int)) ∈ lw_all := lw_g (lw_at lw_m5 40 rfl) rfl
theorem q1056 : (Jvm.Cond.methodLink "CallMigratorModel" (164 : Nat) ({ cls := "CallMigratorModel", name := "readsNode", desc := "()Z" } : Jvm.MethodName)) ∈ lw_all := lw_g (lw_at lw_m5 41 rfl) rfl
theorem q1057 : (Jvm.Cond.privateMethod ({ cls := "CallMigratorModel", name := "readsNode", desc := "()Z" } : Jvm.MethodName)) ∈ lw_tbl := lw_at lw_m5 42 rfl
theorem q1058 : (Jvm.Cond.instanceMethod ({ cls := "CallMigratorModel", name := "readsNode", desc := "()Z" } : Jvm.MethodName)) ∈ lw_all := lw_g (lw_at lw_m5 43 rfl) rfl
theorem q1059 : (Jvm.Cond.code ({ cls := "CallMigratorModel", name := "readsNode", desc := "()Z" } : Jvm.MethodName) prog_10_method_37_code (4 : Nat) (Option.some Jvm.ClassFile.FieldType.boolean)) ∈ lw_all := lw_g (lw_at lw_m5 44 rfl) rfl
theorem q1060 : (Jvm.Cond.methodLink "CallMigratorModel" (142 : Nat) ({ cls := "CallMigratorModel", name := "here", desc := "(I)I" } : Jvm.MethodName)) ∈ lw_all := lw_g (lw_at lw_m5 45 rfl) rfl
theorem q1061 : (Jvm.Cond.privateMethod ({ cls := "CallMigratorModel", name := "here", desc := "(I)I" } : Jvm.MethodName)) ∈ lw_tbl := lw_at lw_m5 46 rfl
theorem q1062 : (Jvm.Cond.instanceMethod ({ cls := "CallMigratorModel", name := "here", desc := "(I)I" } : Jvm.MethodName)) ∈ lw_all := lw_g (lw_at lw_m5 47 rfl) rfl
theorem q1063 : (Jvm.Cond.code ({ cls := "CallMigratorModel", name := "here", desc := "(I)I" } : Jvm.MethodName) prog_10_method_34_code (2 : Nat) (Option.some Jvm.ClassFile.FieldType.int)) ∈ lw_all := lw_g (lw_at lw_m5 48 rfl) rfl
theorem q1064 : (Jvm.Cond.methodLink "CallMigratorModel" (145 : Nat) ({ cls := "CallMigratorModel", name := "isDigit", desc := "(I)Z" } : Jvm.MethodName)) ∈ lw_all := lw_g (lw_at lw_m5 49 rfl) rfl
theorem q1065 : (Jvm.Cond.static ({ cls := "CallMigratorModel", name := "isDigit", desc := "(I)Z" } : Jvm.MethodName)) ∈ lw_all := lw_g (lw_at lw_m5 50 rfl) rfl
theorem q1066 : (Jvm.Cond.code ({ cls := "CallMigratorModel", name := "isDigit", desc := "(I)Z" } : Jvm.MethodName) prog_10_method_35_code (1 : Nat) (Option.some Jvm.ClassFile.FieldType.boolean)) ∈ lw_all := lw_g (lw_at lw_m5 51 rfl) rfl
theorem q1067 : (Jvm.Cond.constantLong "CallMigratorModel" (122 : Nat) (48 : Int64)) ∈ lw_all := lw_g (lw_at lw_m5 52 rfl) rfl
theorem q1068 : (Jvm.Cond.constantLong "CallMigratorModel" (124 : Nat) (57 : Int64)) ∈ lw_all := lw_g (lw_at lw_m5 53 rfl) rfl
theorem q1069 : (Jvm.Cond.methodLink "CallMigratorModel" (126 : Nat) ({ cls := "CallMigratorModel", name := "node", desc := "(III)I" } : Jvm.MethodName)) ∈ lw_all := lw_g (lw_at lw_m5 54 rfl) rfl
theorem q1070 : (Jvm.Cond.static ({ cls := "CallMigratorModel", name := "node", desc := "(III)I" } : Jvm.MethodName)) ∈ lw_all := lw_g (lw_at lw_m5 55 rfl) rfl
theorem q1071 : (Jvm.Cond.code ({ cls := "CallMigratorModel", name := "node", desc := "(III)I" } : Jvm.MethodName) prog_10_method_30_code (3 : Nat) (Option.some Jvm.ClassFile.FieldType.int)) ∈ lw_all := lw_g (lw_at lw_m5 56 rfl) rfl
theorem q1072 : (Jvm.Cond.methodLink "CallMigratorModel" (148 : Nat) ({ cls := "CallMigratorModel", name := "nodeOf", desc := "(I)I" } : Jvm.MethodName)) ∈ lw_all := lw_g (lw_at lw_m5 57 rfl) rfl
theorem q1073 : (Jvm.Cond.privateMethod ({ cls := "CallMigratorModel", name := "nodeOf", desc := "(I)I" } : Jvm.MethodName)) ∈ lw_tbl := lw_at lw_m5 58 rfl
theorem q1074 : (Jvm.Cond.instanceMethod ({ cls := "CallMigratorModel", name := "nodeOf", desc := "(I)I" } : Jvm.MethodName)) ∈ lw_all := lw_g (lw_at lw_m5 59 rfl) rfl
theorem q1075 : (Jvm.Cond.code ({ cls := "CallMigratorModel", name := "nodeOf", desc := "(I)I" } : Jvm.MethodName) prog_10_method_36_code (2 : Nat) (Option.some Jvm.ClassFile.FieldType.int)) ∈ lw_all := lw_g (lw_at lw_m5 60 rfl) rfl
theorem q1076 : (Jvm.Cond.constantLong "CallMigratorModel" (129 : Nat) (97 : Int64)) ∈ lw_all := lw_g (lw_at lw_m5 61 rfl) rfl
theorem q1077 : (Jvm.Cond.constantLong "CallMigratorModel" (131 : Nat) (102 : Int64)) ∈ lw_all := lw_g (lw_at lw_m5 62 rfl) rfl
theorem q1078 : (Jvm.Cond.constantLong "CallMigratorModel" (133 : Nat) (65 : Int64)) ∈ lw_all := lw_g (lw_at lw_m5 63 rfl) rfl
theorem q1079 : (Jvm.Cond.constantLong "CallMigratorModel" (135 : Nat) (70 : Int64)) ∈ lw_all := lw_g (lw_at lw_m5 64 rfl) rfl
theorem q1080 : (Jvm.Cond.constantLong "CallMigratorModel" (137 : Nat) (112 : Int64)) ∈ lw_all := lw_g (lw_at lw_m5 65 rfl) rfl
theorem q1081 : (Jvm.Cond.methodLink "CallMigratorModel" (111 : Nat) ({ cls := "CallMigratorModel", name := "kind", desc := "(I)I" } : Jvm.MethodName)) ∈ lw_all := lw_g (lw_at lw_m5 66 rfl) rfl
theorem q1082 : (Jvm.Cond.static ({ cls := "CallMigratorModel", name := "kind", desc := "(I)I" } : Jvm.MethodName)) ∈ lw_all := lw_g (lw_at lw_m5 67 rfl) rfl
theorem q1083 : (Jvm.Cond.code ({ cls := "CallMigratorModel", name := "kind", desc := "(I)I" } : Jvm.MethodName) prog_10_method_27_code (1 : Nat) (Option.some Jvm.ClassFile.FieldType.int)) ∈ lw_all := lw_g (lw_at lw_m5 68 rfl) rfl
theorem q1084 : (Jvm.Cond.methodLink "CallMigratorModel" (154 : Nat) ({ cls := "CallMigratorModel", name := "function", desc := "(I)I" } : Jvm.MethodName)) ∈ lw_all := lw_g (lw_at lw_m5 69 rfl) rfl
theorem q1085 : (Jvm.Cond.privateMethod ({ cls := "CallMigratorModel", name := "function", desc := "(I)I" } : Jvm.MethodName)) ∈ lw_tbl := lw_at lw_m5 70 rfl
theorem q1086 : (Jvm.Cond.instanceMethod ({ cls := "CallMigratorModel", name := "function", desc := "(I)I" } : Jvm.MethodName)) ∈ lw_all := lw_g (lw_at lw_m5 71 rfl) rfl
theorem q1087 : (Jvm.Cond.code ({ cls := "CallMigratorModel", name := "function", desc := "(I)I" } : Jvm.MethodName) prog_10_method_31_code (2 : Nat) (Option.some Jvm.ClassFile.FieldType.int)) ∈ lw_all := lw_g (lw_at lw_m5 72 rfl) rfl
theorem q1088 : (Jvm.Cond.methodLink "CallMigratorModel" (114 : Nat) ({ cls := "CallMigratorModel", name := "which", desc := "(I)I" } : Jvm.MethodName)) ∈ lw_all := lw_g (lw_at lw_m5 73 rfl) rfl
theorem q1089 : (Jvm.Cond.static ({ cls := "CallMigratorModel", name := "which", desc := "(I)I" } : Jvm.MethodName)) ∈ lw_all := lw_g (lw_at lw_m5 74 rfl) rfl
theorem q1090 : (Jvm.Cond.code ({ cls := "CallMigratorModel", name := "which", desc := "(I)I" } : Jvm.MethodName) prog_10_method_28_code (1 : Nat) (Option.some Jvm.ClassFile.FieldType.int)) ∈ lw_all := lw_g (lw_at lw_m5 75 rfl) rfl
theorem q1091 : (Jvm.Cond.methodLink "CallMigratorModel" (160 : Nat) ({ cls := "CallMigratorModel", name := "closes", desc := "()Z" } : Jvm.MethodName)) ∈ lw_all := lw_g (lw_at lw_m5 76 rfl) rfl
theorem q1092 : (Jvm.Cond.privateMethod ({ cls := "CallMigratorModel", name := "closes", desc := "()Z" } : Jvm.MethodName)) ∈ lw_tbl := lw_at lw_m5 77 rfl
theorem q1093 : (Jvm.Cond.instanceMethod ({ cls := "CallMigratorModel", name := "closes", desc := "()Z" } : Jvm.MethodName)) ∈ lw_all := lw_g (lw_at lw_m5 78 rfl) rfl
theorem q1094 : (Jvm.Cond.code ({ cls := "CallMigratorModel", name := "closes", desc := "()Z" } : Jvm.MethodName) prog_10_method_38_code (1 : Nat) (Option.some Jvm.ClassFile.FieldType.boolean)) ∈ lw_all := lw_g (lw_at lw_m5 79 rfl) rfl
theorem q1096 : (Jvm.Cond.instanceMethod ({ cls := "CallMigratorModel", name := "migrate", desc := "()I" } : Jvm.MethodName)) ∈ lw_all := lw_g (lw_at lw_m5 81 rfl) rfl
theorem q1097 : (Jvm.Cond.selects "CallMigratorModel" ({ cls := "CallMigratorModel", name := "migrate", desc := "()I" } : Jvm.MethodName) ({ cls := "CallMigratorModel", name := "migrate", desc := "()I" } : Jvm.MethodName)) ∈ lw_all := lw_g (lw_at lw_m5 82 rfl) rfl
theorem q1098 : (Jvm.Cond.code ({ cls := "CallMigratorModel", name := "migrate", desc := "()I" } : Jvm.MethodName) prog_10_method_50_code (4 : Nat) (Option.some Jvm.ClassFile.FieldType.int)) ∈ lw_all := lw_g (lw_at lw_m5 83 rfl) rfl
theorem q1099 : (Jvm.Cond.methodLink "CallMigratorModel" (167 : Nat) ({ cls := "CallMigratorModel", name := "arguments", desc := "(I)I" } : Jvm.MethodName)) ∈ lw_all := lw_g (lw_at lw_m5 84 rfl) rfl
theorem q1100 : (Jvm.Cond.static ({ cls := "CallMigratorModel", name := "arguments", desc := "(I)I" } : Jvm.MethodName)) ∈ lw_all := lw_g (lw_at lw_m5 85 rfl) rfl
theorem q1101 : (Jvm.Cond.code ({ cls := "CallMigratorModel", name := "arguments", desc := "(I)I" } : Jvm.MethodName) prog_10_method_29_code (1 : Nat) (Option.some Jvm.ClassFile.FieldType.int)) ∈ lw_all := lw_g (lw_at lw_m5 86 rfl) rfl
theorem q1102 : (Jvm.Cond.methodLink "CallMigratorModel" (210 : Nat) ({ cls := "CallMigratorModel", name := "treatsLeaf", desc := "(I)I" } : Jvm.MethodName)) ∈ lw_all := lw_g (lw_at lw_m5 87 rfl) rfl
theorem q1103 : (Jvm.Cond.privateMethod ({ cls := "CallMigratorModel", name := "treatsLeaf", desc := "(I)I" } : Jvm.MethodName)) ∈ lw_tbl := lw_at lw_m5 88 rfl
theorem q1104 : (Jvm.Cond.instanceMethod ({ cls := "CallMigratorModel", name := "treatsLeaf", desc := "(I)I" } : Jvm.MethodName)) ∈ lw_all := lw_g (lw_at lw_m5 89 rfl) rfl
theorem q1105 : (Jvm.Cond.code ({ cls := "CallMigratorModel", name := "treatsLeaf", desc := "(I)I" } : Jvm.MethodName) prog_10_method_51_code (2 : Nat) (Option.some Jvm.ClassFile.FieldType.int)) ∈ lw_all := lw_g (lw_at lw_m5 90 rfl) rfl
theorem q1106 : (Jvm.Cond.methodLink "CallMigratorModel" (217 : Nat) ({ cls := "CallMigratorModel", name := "treats", desc := "(I)I" } : Jvm.MethodName)) ∈ lw_all := lw_g (lw_at lw_m5 91 rfl) rfl
theorem q1107 : (Jvm.Cond.privateMethod ({ cls := "CallMigratorModel", name := "treats", desc := "(I)I" } : Jvm.MethodName)) ∈ lw_tbl := lw_at lw_m5 92 rfl
theorem q1108 : (Jvm.Cond.instanceMethod ({ cls := "CallMigratorModel", name := "treats", desc := "(I)I" } : Jvm.MethodName)) ∈ lw_all := lw_g (lw_at lw_m5 93 rfl) rfl
theorem q1109 : (Jvm.Cond.code ({ cls := "CallMigratorModel", name := "treats", desc := "(I)I" } : Jvm.MethodName) prog_10_method_49_code (6 : Nat) (Option.some Jvm.ClassFile.FieldType.int)) ∈ lw_all := lw_g (lw_at lw_m5 94 rfl) rfl
theorem q1110 : (Jvm.Cond.methodLink "CallMigratorModel" (194 : Nat) ({ cls := "CallMigratorModel", name := "putsCall", desc := "(I)V" } : Jvm.MethodName)) ∈ lw_all := lw_g (lw_at lw_m5 95 rfl) rfl
theorem q1111 : (Jvm.Cond.privateMethod ({ cls := "CallMigratorModel", name := "putsCall", desc := "(I)V" } : Jvm.MethodName)) ∈ lw_tbl := lw_at lw_m5 96 rfl
theorem q1112 : (Jvm.Cond.instanceMethod ({ cls := "CallMigratorModel", name := "putsCall", desc := "(I)V" } : Jvm.MethodName)) ∈ lw_all := lw_g (lw_at lw_m5 97 rfl) rfl
theorem q1113 : (Jvm.Cond.code ({ cls := "CallMigratorModel", name := "putsCall", desc := "(I)V" } : Jvm.MethodName) prog_10_method_41_code (5 : Nat) (Option.none : Option Jvm.ClassFile.FieldType)) ∈ lw_all := lw_g (lw_at lw_m5 98 rfl) rfl
theorem q1114 : (Jvm.Cond.methodLink "CallMigratorModel" (198 : Nat) ({ cls := "CallMigratorModel", name := "adapterFor", desc := "(I)I" } : Jvm.MethodName)) ∈ lw_all := lw_g (lw_at lw_m5 99 rfl) rfl
theorem q1115 : (Jvm.Cond.privateMethod ({ cls := "CallMigratorModel", name := "adapterFor", desc := "(I)I" } : Jvm.MethodName)) ∈ lw_tbl := lw_at lw_m5 100 rfl
theorem q1116 : (Jvm.Cond.instanceMethod ({ cls := "CallMigratorModel", name := "adapterFor", desc := "(I)I" } : Jvm.MethodName)) ∈ lw_all := lw_g (lw_at lw_m5 101 rfl) rfl
theorem q1117 : (Jvm.Cond.code ({ cls := "CallMigratorModel", name := "adapterFor", desc := "(I)I" } : Jvm.MethodName) prog_10_method_48_code (5 : Nat) (Option.some Jvm.ClassFile.FieldType.int)) ∈ lw_all := lw_g (lw_at lw_m5 102 rfl) rfl
theorem q1118 : (Jvm.Cond.methodLink "CallMigratorModel" (201 : Nat) ({ cls := "CallMigratorModel", name := "reason", desc := "(I)I" } : Jvm.MethodName)) ∈ lw_all := lw_g (lw_at lw_m5 103 rfl) rfl
theorem q1119 : (Jvm.Cond.privateMethod ({ cls := "CallMigratorModel", name := "reason", desc := "(I)I" } : Jvm.MethodName)) ∈ lw_tbl := lw_at lw_m5 104 rfl
theorem q1120 : (Jvm.Cond.instanceMethod ({ cls := "CallMigratorModel", name := "reason", desc := "(I)I" } : Jvm.MethodName)) ∈ lw_all := lw_g (lw_at lw_m5 105 rfl) rfl
theorem q1121 : (Jvm.Cond.code ({ cls := "CallMigratorModel", name := "reason", desc := "(I)I" } : Jvm.MethodName) prog_10_method_44_code (9 : Nat) (Option.some Jvm.ClassFile.FieldType.int)) ∈ lw_all := lw_g (lw_at lw_m5 106 rfl) rfl
theorem q1122 : (Jvm.Cond.methodLink "CallMigratorModel" (176 : Nat) ({ cls := "CallMigratorModel", name := "first", desc := "(I)I" } : Jvm.MethodName)) ∈ lw_all := lw_g (lw_at lw_m5 107 rfl) rfl
theorem q1123 : (Jvm.Cond.privateMethod ({ cls := "CallMigratorModel", name := "first", desc := "(I)I" } : Jvm.MethodName)) ∈ lw_tbl := lw_at lw_m5 108 rfl
theorem q1124 : (Jvm.Cond.instanceMethod ({ cls := "CallMigratorModel", name := "first", desc := "(I)I" } : Jvm.MethodName)) ∈ lw_all := lw_g (lw_at lw_m5 109 rfl) rfl
theorem q1125 : (Jvm.Cond.code ({ cls := "CallMigratorModel", name := "first", desc := "(I)I" } : Jvm.MethodName) prog_10_method_42_code (2 : Nat) (Option.some Jvm.ClassFile.FieldType.int)) ∈ lw_all := lw_g (lw_at lw_m5 110 rfl) rfl
theorem q1126 : (Jvm.Cond.methodLink "CallMigratorModel" (179 : Nat) ({ cls := "CallMigratorModel", name := "hasEffect", desc := "(I)Z" } : Jvm.MethodName)) ∈ lw_all := lw_g (lw_at lw_m5 111 rfl) rfl
theorem q1127 : (Jvm.Cond.privateMethod ({ cls := "CallMigratorModel", name := "hasEffect", desc := "(I)Z" } : Jvm.MethodName)) ∈ lw_tbl := lw_at lw_m5 112 rfl
theorem q1128 : (Jvm.Cond.instanceMethod ({ cls := "CallMigratorModel", name := "hasEffect", desc := "(I)Z" } : Jvm.MethodName)) ∈ lw_all := lw_g (lw_at lw_m5 113 rfl) rfl
theorem q1129 : (Jvm.Cond.code ({ cls := "CallMigratorModel", name := "hasEffect", desc := "(I)Z" } : Jvm.MethodName) prog_10_method_40_code (4 : Nat) (Option.some Jvm.ClassFile.FieldType.boolean)) ∈ lw_all := lw_g (lw_at lw_m5 114 rfl) rfl
theorem q1130 : (Jvm.Cond.methodLink "CallMigratorModel" (182 : Nat) ({ cls := "CallMigratorModel", name := "uses", desc := "(II)I" } : Jvm.MethodName)) ∈ lw_all := lw_g (lw_at lw_m5 115 rfl) rfl
theorem q1131 : (Jvm.Cond.privateMethod ({ cls := "CallMigratorModel", name := "uses", desc := "(II)I" } : Jvm.MethodName)) ∈ lw_tbl := lw_at lw_m5 116 rfl
theorem q1132 : (Jvm.Cond.instanceMethod ({ cls := "CallMigratorModel", name := "uses", desc := "(II)I" } : Jvm.MethodName)) ∈ lw_all := lw_g (lw_at lw_m5 117 rfl) rfl
theorem q1133 : (Jvm.Cond.code ({ cls := "CallMigratorModel", name := "uses", desc := "(II)I" } : Jvm.MethodName) prog_10_method_43_code (5 : Nat) (Option.some Jvm.ClassFile.FieldType.int)) ∈ lw_all := lw_g (lw_at lw_m5 118 rfl) rfl
theorem q1134 : (Jvm.Cond.methodLink "CallMigratorModel" (188 : Nat) ({ cls := "CallMigratorModel", name := "size", desc := "(II)I" } : Jvm.MethodName)) ∈ lw_all := lw_g (lw_at lw_m5 119 rfl) rfl
theorem q1135 : (Jvm.Cond.privateMethod ({ cls := "CallMigratorModel", name := "size", desc := "(II)I" } : Jvm.MethodName)) ∈ lw_tbl := lw_at lw_m5 120 rfl
theorem q1136 : (Jvm.Cond.instanceMethod ({ cls := "CallMigratorModel", name := "size", desc := "(II)I" } : Jvm.MethodName)) ∈ lw_all := lw_g (lw_at lw_m5 121 rfl) rfl
theorem q1137 : (Jvm.Cond.code ({ cls := "CallMigratorModel", name := "size", desc := "(II)I" } : Jvm.MethodName) prog_10_method_45_code (3 : Nat) (Option.some Jvm.ClassFile.FieldType.int)) ∈ lw_all := lw_g (lw_at lw_m5 122 rfl) rfl
theorem q1138 : (Jvm.Cond.methodLink "CallMigratorModel" (191 : Nat) ({ cls := "CallMigratorModel", name := "sizeThen", desc := "(II)I" } : Jvm.MethodName)) ∈ lw_all := lw_g (lw_at lw_m5 123 rfl) rfl
theorem q1139 : (Jvm.Cond.privateMethod ({ cls := "CallMigratorModel", name := "sizeThen", desc := "(II)I" } : Jvm.MethodName)) ∈ lw_tbl := lw_at lw_m5 124 rfl
theorem q1140 : (Jvm.Cond.instanceMethod ({ cls := "CallMigratorModel", name := "sizeThen", desc := "(II)I" } : Jvm.MethodName)) ∈ lw_all := lw_g (lw_at lw_m5 125 rfl) rfl
theorem q1141 : (Jvm.Cond.code ({ cls := "CallMigratorModel", name := "sizeThen", desc := "(II)I" } : Jvm.MethodName) prog_10_method_46_code (6 : Nat) (Option.some Jvm.ClassFile.FieldType.int)) ∈ lw_all := lw_g (lw_at lw_m5 126 rfl) rfl
theorem q1142 : (Jvm.Cond.methodLink "CallMigratorModel" (204 : Nat) ({ cls := "CallMigratorModel", name := "becomesNew", desc := "(I)V" } : Jvm.MethodName)) ∈ lw_all := lw_g (lw_at lw_m5 127 rfl) rfl
theorem q1143 : (Jvm.Cond.privateMethod ({ cls := "CallMigratorModel", name := "becomesNew", desc := "(I)V" } : Jvm.MethodName)) ∈ lw_tbl := lw_at lw_m5 128 rfl
theorem q1144 : (Jvm.Cond.instanceMethod ({ cls := "CallMigratorModel", name := "becomesNew", desc := "(I)V" } : Jvm.MethodName)) ∈ lw_all := lw_g (lw_at lw_m5 129 rfl) rfl
theorem q1145 : (Jvm.Cond.code ({ cls := "CallMigratorModel", name := "becomesNew", desc := "(I)V" } : Jvm.MethodName) prog_10_method_47_code (8 : Nat) (Option.none : Option Jvm.ClassFile.FieldType)) ∈ lw_all := lw_g (lw_at lw_m5 130 rfl) rfl
theorem q1146 : (Jvm.Cond.methodLink "CallMigratorModel" (213 : Nat) ({ cls := "CallMigratorModel", name := "treatsOpen", desc := "()I" } : Jvm.MethodName)) ∈ lw_all := lw_g (lw_at lw_m5 131 rfl) rfl
theorem q1147 : (Jvm.Cond.privateMethod ({ cls := "CallMigratorModel", name := "treatsOpen", desc := "()I" } : Jvm.MethodName)) ∈ lw_tbl := lw_at lw_m5 132 rfl
theorem q1148 : (Jvm.Cond.instanceMethod ({ cls := "CallMigratorModel", name := "treatsOpen", desc := "()I" } : Jvm.MethodName)) ∈ lw_all := lw_g (lw_at lw_m5 133 rfl) rfl
theorem q1149 : (Jvm.Cond.code ({ cls := "CallMigratorModel", name := "treatsOpen", desc := "()I" } : Jvm.MethodName) prog_10_method_52_code (3 : Nat) (Option.some Jvm.ClassFile.FieldType.int)) ∈ lw_all := lw_g (lw_at lw_m5 134 rfl) rfl
theorem q1151 : (Jvm.Cond.instanceMethod ({ cls := "CallMigratorModel", name := "left", desc := "(I)I" } : Jvm.MethodName)) ∈ lw_all := lw_g (lw_at lw_m5 136 rfl) rfl
theorem q1152 : (Jvm.Cond.selects "CallMigratorModel" ({ cls := "CallMigratorModel", name := "left", desc := "(I)I" } : Jvm.MethodName) ({ cls := "CallMigratorModel", name := "left", desc := "(I)I" } : Jvm.MethodName)) ∈ lw_all := lw_g (lw_at lw_m5 137 rfl) rfl
theorem q1153 : (Jvm.Cond.code ({ cls := "CallMigratorModel", name := "left", desc := "(I)I" } : Jvm.MethodName) prog_10_method_53_code (2 : Nat) (Option.some Jvm.ClassFile.FieldType.int)) ∈ lw_all := lw_g (lw_at lw_m5 138 rfl) rfl
theorem q1154 : (Jvm.Cond.constantLong "CallMigratorModel" (220 : Nat) (7 : Int64)) ∈ lw_all := lw_g (lw_at lw_m5 139 rfl) rfl
theorem q1156 : (Jvm.Cond.instanceMethod ({ cls := "CallMigratorModel", name := "sites", desc := "()I" } : Jvm.MethodName)) ∈ lw_all := lw_g (lw_at lw_m5 141 rfl) rfl
theorem q1157 : (Jvm.Cond.selects "CallMigratorModel" ({ cls := "CallMigratorModel", name := "sites", desc := "()I" } : Jvm.MethodName) ({ cls := "CallMigratorModel", name := "sites", desc := "()I" } : Jvm.MethodName)) ∈ lw_all := lw_g (lw_at lw_m5 142 rfl) rfl
theorem q1158 : (Jvm.Cond.code ({ cls := "CallMigratorModel", name := "sites", desc := "()I" } : Jvm.MethodName) prog_10_method_55_code (1 : Nat) (Option.some Jvm.ClassFile.FieldType.int)) ∈ lw_all := lw_g (lw_at lw_m5 143 rfl) rfl
theorem q1159 : (Jvm.Cond.methodLink "CallMigratorModel" (222 : Nat) ({ cls := "CallMigratorModel", name := "siteMany", desc := "()I" } : Jvm.MethodName)) ∈ lw_all := lw_g (lw_at lw_m5 144 rfl) rfl
theorem q1160 : (Jvm.Cond.privateMethod ({ cls := "CallMigratorModel", name := "siteMany", desc := "()I" } : Jvm.MethodName)) ∈ lw_tbl := lw_at lw_m5 145 rfl
theorem q1161 : (Jvm.Cond.instanceMethod ({ cls := "CallMigratorModel", name := "siteMany", desc := "()I" } : Jvm.MethodName)) ∈ lw_all := lw_g (lw_at lw_m5 146 rfl) rfl
theorem q1162 : (Jvm.Cond.code ({ cls := "CallMigratorModel", name := "siteMany", desc := "()I" } : Jvm.MethodName) prog_10_method_54_code (3 : Nat) (Option.some Jvm.ClassFile.FieldType.int)) ∈ lw_all := lw_g (lw_at lw_m5 147 rfl) rfl
theorem q1164 : (Jvm.Cond.instanceMethod ({ cls := "CallMigratorModel", name := "nodes", desc := "()I" } : Jvm.MethodName)) ∈ lw_all := lw_g (lw_at lw_m5 149 rfl) rfl
theorem q1165 : (Jvm.Cond.selects "CallMigratorModel" ({ cls := "CallMigratorModel", name := "nodes", desc := "()I" } : Jvm.MethodName) ({ cls := "CallMigratorModel", name := "nodes", desc := "()I" } : Jvm.MethodName)) ∈ lw_all := lw_g (lw_at lw_m5 150 rfl) rfl
theorem q1166 : (Jvm.Cond.code ({ cls := "CallMigratorModel", name := "nodes", desc := "()I" } : Jvm.MethodName) prog_10_method_56_code (1 : Nat) (Option.some Jvm.ClassFile.FieldType.int)) ∈ lw_all := lw_g (lw_at lw_m5 151 rfl) rfl
theorem q1168 : (Jvm.Cond.instanceMethod ({ cls := "CallMigratorModel", name := "value", desc := "(II)I" } : Jvm.MethodName)) ∈ lw_all := lw_g (lw_at lw_m5 153 rfl) rfl
theorem q1169 : (Jvm.Cond.selects "CallMigratorModel" ({ cls := "CallMigratorModel", name := "value", desc := "(II)I" } : Jvm.MethodName) ({ cls := "CallMigratorModel", name := "value", desc := "(II)I" } : Jvm.MethodName)) ∈ lw_all := lw_g (lw_at lw_m5 154 rfl) rfl
theorem q1170 : (Jvm.Cond.code ({ cls := "CallMigratorModel", name := "value", desc := "(II)I" } : Jvm.MethodName) prog_10_method_57_code (9 : Nat) (Option.some Jvm.ClassFile.FieldType.int)) ∈ lw_all := lw_g (lw_at lw_m5 155 rfl) rfl
theorem q1171 : (Jvm.Cond.constantLong "CallMigratorModel" (225 : Nat) (999 : Int64)) ∈ lw_all := lw_g (lw_at lw_m5 156 rfl) rfl
theorem q1173 : (Jvm.Cond.instanceMethod ({ cls := "CallMigratorModel", name := "textByte", desc := "(I)I" } : Jvm.MethodName)) ∈ lw_all := lw_g (lw_at lw_m5 158 rfl) rfl
theorem q1174 : (Jvm.Cond.selects "CallMigratorModel" ({ cls := "CallMigratorModel", name := "textByte", desc := "(I)I" } : Jvm.MethodName) ({ cls := "CallMigratorModel", name := "textByte", desc := "(I)I" } : Jvm.MethodName)) ∈ lw_all := lw_g (lw_at lw_m5 159 rfl) rfl
theorem q1175 : (Jvm.Cond.code ({ cls := "CallMigratorModel", name := "textByte", desc := "(I)I" } : Jvm.MethodName) prog_10_method_62_code (2 : Nat) (Option.some Jvm.ClassFile.FieldType.int)) ∈ lw_all := lw_g (lw_at lw_m5 160 rfl) rfl
theorem q1176 : (Jvm.Cond.methodLink "CallMigratorModel" (239 : Nat) ({ cls := "CallMigratorModel", name := "tellsAll", desc := "()V" } : Jvm.MethodName)) ∈ lw_all := lw_g (lw_at lw_m5 161 rfl) rfl
theorem q1177 : (Jvm.Cond.privateMethod ({ cls := "CallMigratorModel", name := "tellsAll", desc := "()V" } : Jvm.MethodName)) ∈ lw_tbl := lw_at lw_m5 162 rfl
theorem q1178 : (Jvm.Cond.instanceMethod ({ cls := "CallMigratorModel", name := "tellsAll", desc := "()V" } : Jvm.MethodName)) ∈ lw_all := lw_g (lw_at lw_m5 163 rfl) rfl
theorem q1179 : (Jvm.Cond.code ({ cls := "CallMigratorModel", name := "tellsAll", desc := "()V" } : Jvm.MethodName) prog_10_method_60_code (3 : Nat) (Option.none : Option Jvm.ClassFile.FieldType)) ∈ lw_all := lw_g (lw_at lw_m5 164 rfl) rfl
theorem q1180 : (Jvm.Cond.methodLink "CallMigratorModel" (233 : Nat) ({ cls := "CallMigratorModel", name := "tellsNode", desc := "(I)V" } : Jvm.MethodName)) ∈ lw_all := lw_g (lw_at lw_m5 165 rfl) rfl
theorem q1181 : (Jvm.Cond.privateMethod ({ cls := "CallMigratorModel", name := "tellsNode", desc := "(I)V" } : Jvm.MethodName)) ∈ lw_tbl := lw_at lw_m5 166 rfl
theorem q1182 : (Jvm.Cond.instanceMethod ({ cls := "CallMigratorModel", name := "tellsNode", desc := "(I)V" } : Jvm.MethodName)) ∈ lw_all := lw_g (lw_at lw_m5 167 rfl) rfl
theorem q1183 : (Jvm.Cond.code ({ cls := "CallMigratorModel", name := "tellsNode", desc := "(I)V" } : Jvm.MethodName) prog_10_method_59_code (3 : Nat) (Option.none : Option Jvm.ClassFile.FieldType)) ∈ lw_all := lw_g (lw_at lw_m5 168 rfl) rfl
theorem q1184 : (Jvm.Cond.methodLink "CallMigratorModel" (230 : Nat) ({ cls := "CallMigratorModel", name := "tells", desc := "(I)V" } : Jvm.MethodName)) ∈ lw_all := lw_g (lw_at lw_m5 169 rfl) rfl
theorem q1185 : (Jvm.Cond.privateMethod ({ cls := "CallMigratorModel", name := "tells", desc := "(I)V" } : Jvm.MethodName)) ∈ lw_tbl := lw_at lw_m5 170 rfl
theorem q1186 : (Jvm.Cond.instanceMethod ({ cls := "CallMigratorModel", name := "tells", desc := "(I)V" } : Jvm.MethodName)) ∈ lw_all := lw_g (lw_at lw_m5 171 rfl) rfl
theorem q1187 : (Jvm.Cond.code ({ cls := "CallMigratorModel", name := "tells", desc := "(I)V" } : Jvm.MethodName) prog_10_method_58_code (2 : Nat) (Option.none : Option Jvm.ClassFile.FieldType)) ∈ lw_all := lw_g (lw_at lw_m5 172 rfl) rfl
theorem q1188 : (Jvm.Cond.methodLink "CallMigratorModel" (236 : Nat) ({ cls := "CallMigratorModel", name := "tellsEnds", desc := "()V" } : Jvm.MethodName)) ∈ lw_all := lw_g (lw_at lw_m5 173 rfl) rfl
theorem q1189 : (Jvm.Cond.privateMethod ({ cls := "CallMigratorModel", name := "tellsEnds", desc := "()V" } : Jvm.MethodName)) ∈ lw_tbl := lw_at lw_m5 174 rfl
theorem q1190 : (Jvm.Cond.instanceMethod ({ cls := "CallMigratorModel", name := "tellsEnds", desc := "()V" } : Jvm.MethodName)) ∈ lw_all := lw_g (lw_at lw_m5 175 rfl) rfl
theorem q1191 : (Jvm.Cond.code ({ cls := "CallMigratorModel", name := "tellsEnds", desc := "()V" } : Jvm.MethodName) prog_10_method_61_code (2 : Nat) (Option.none : Option Jvm.ClassFile.FieldType)) ∈ lw_all := lw_g (lw_at lw_m5 176 rfl) rfl
theorem q1193 : (Jvm.Cond.instanceMethod ({ cls := "CallMigratorModel", name := "undo", desc := "()I" } : Jvm.MethodName)) ∈ lw_all := lw_g (lw_at lw_m5 178 rfl) rfl
theorem q1194 : (Jvm.Cond.selects "CallMigratorModel" ({ cls := "CallMigratorModel", name := "undo", desc := "()I" } : Jvm.MethodName) ({ cls := "CallMigratorModel", name := "undo", desc := "()I" } : Jvm.MethodName)) ∈ lw_all := lw_g (lw_at lw_m5 179 rfl) rfl
theorem q1195 : (Jvm.Cond.code ({ cls := "CallMigratorModel", name := "undo", desc := "()I" } : Jvm.MethodName) prog_10_method_63_code (2 : Nat) (Option.some Jvm.ClassFile.FieldType.int)) ∈ lw_all := lw_g (lw_at lw_m5 180 rfl) rfl
theorem q1197 : (Jvm.Cond.instanceMethod ({ cls := "CallMigratorModel", name := "errorCount", desc := "(I)I" } : Jvm.MethodName)) ∈ lw_all := lw_g (lw_at lw_m5 182 rfl) rfl
theorem q1198 : (Jvm.Cond.selects "CallMigratorModel" ({ cls := "CallMigratorModel", name := "errorCount", desc := "(I)I" } : Jvm.MethodName) ({ cls := "CallMigratorModel", name := "errorCount", desc := "(I)I" } : Jvm.MethodName)) ∈ lw_all := lw_g (lw_at lw_m5 183 rfl) rfl
theorem q1199 : (Jvm.Cond.code ({ cls := "CallMigratorModel", name := "errorCount", desc := "(I)I" } : Jvm.MethodName) prog_10_method_64_code (2 : Nat) (Option.some Jvm.ClassFile.FieldType.int)) ∈ lw_all := lw_g (lw_at lw_m5 184 rfl) rfl
theorem q1200 : (Jvm.Cond.constantLong "CallMigratorModel" (242 : Nat) (-5 : Int64)) ∈ lw_all := lw_g (lw_at lw_m5 185 rfl) rfl
theorem q1201 : (Jvm.Cond.constantLong "CallMigratorModel" (244 : Nat) (-2 : Int64)) ∈ lw_all := lw_g (lw_at lw_m5 186 rfl) rfl
theorem q1203 : (Jvm.Cond.instanceMethod ({ cls := "CallMigratorModel", name := "digest", desc := "()J" } : Jvm.MethodName)) ∈ lw_all := lw_g (lw_at lw_m5 188 rfl) rfl
theorem q1204 : (Jvm.Cond.selects "CallMigratorModel" ({ cls := "CallMigratorModel", name := "digest", desc := "()J" } : Jvm.MethodName) ({ cls := "CallMigratorModel", name := "digest", desc := "()J" } : Jvm.MethodName)) ∈ lw_all := lw_g (lw_at lw_m5 189 rfl) rfl
theorem q1205 : (Jvm.Cond.code ({ cls := "CallMigratorModel", name := "digest", desc := "()J" } : Jvm.MethodName) prog_10_method_65_code (4 : Nat) (Option.some Jvm.ClassFile.FieldType.long)) ∈ lw_all := lw_g (lw_at lw_m5 190 rfl) rfl
theorem q1206 : (Jvm.Cond.constantLong "CallMigratorModel" (246 : Nat) (2683 : Int64)) ∈ lw_all := lw_g (lw_at lw_m5 191 rfl) rfl
theorem q1207 : (Jvm.Cond.constantLong "CallMigratorModel" (248 : Nat) (31 : Int64)) ∈ lw_all := lw_g (lw_at lw_m5 192 rfl) rfl
theorem in_X5 : ∀ w ∈ wsX50, w ∈ lw_all := lw_in wsX50 [896, 898, 900, 902, 904, 906, 908, 910, 912, 914, 916, 918, 920, 922, 924, 926, 928, 930, 932, 934, 936, 938, 940] (by decide +kernel) (by decide +kernel)
