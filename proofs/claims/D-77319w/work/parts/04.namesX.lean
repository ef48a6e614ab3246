/-! CallMigrator -/
set_option maxRecDepth 100000
def RX0 : String := "CallMigrator"
def TX0 : u_T := fun k => match k with
  | 0 => ("CallMigrator", "state", "LCallMigrator$State;", true)
  | 1 => ("CallMigrator", "saved", "[LCallMigrator$State;", true)
  | 2 => ("CallMigrator", "savedCount", "I", false)
  | 3 => ("CallMigrator", "text", "[B", true)
  | 4 => ("CallMigrator", "textLength", "I", false)
  | 5 => ("CallMigrator", "errors", "[I", true)
  | _ => ("CallMigrator", "parser", "LCallMigrator$Parser;", true)
def tyX0 : Nat → FieldType := fun k => match k with
  | 0 => .object "CallMigrator$State"
  | 1 => .array (.object "CallMigrator$State")
  | 2 => .int
  | 3 => .array .byte
  | 4 => .int
  | 5 => .array .int
  | _ => .object "CallMigrator$Parser"
abbrev wsX00 : List Cond := u_ws RX0 TX0 7
theorem nmX0 : ∀ a, a < 7 → ∀ b, b < 7 → a ≠ b → (TX0 a).2.1 ≠ (TX0 b).2.1 := by decide +kernel
theorem tyX0_ok : ∀ k, k < 7 → parseFieldDescriptor (TX0 k).2.2.1 = some (tyX0 k) := by decide +kernel
abbrev cX0_init : ByteArray := prog_1_method_2_code
def yX0_init : MethodName := ⟨RX0, "<init>", "()V"⟩
def dkwX0_init_3 : List UInt8 := [183, 0, 30, 181, 0, 33, 177]
abbrev dktX0_init_3 : List UInt8 := dkwX0_init_3 ++ []
def dkwX0_init_2 : List UInt8 := [180, 0, 16, 27, 187, 0, 7, 89, 183, 0, 9, 83, 132, 1, 1, 167, 255, 235, 42, 187, 0, 28, 89, 42]
abbrev dktX0_init_2 : List UInt8 := dkwX0_init_2 ++ dktX0_init_3
def dkwX0_init_1 : List UInt8 := [16, 120, 188, 8, 181, 0, 20, 42, 16, 6, 188, 10, 181, 0, 24, 3, 60, 27, 7, 162, 0, 22, 42]
abbrev dktX0_init_1 : List UInt8 := dkwX0_init_1 ++ dktX0_init_2
def dkwX0_init_0 : List UInt8 := [42, 183, 0, 1, 42, 187, 0, 7, 89, 183, 0, 9, 181, 0, 10, 42, 7, 189, 0, 7, 181, 0, 16, 42]
abbrev dktX0_init_0 : List UInt8 := dkwX0_init_0 ++ dktX0_init_1
theorem dksX0_init_0 : cX0_init.data.toList.drop 0 = dktX0_init_0 := by decide +kernel
theorem dksX0_init_1 : cX0_init.data.toList.drop 24 = dktX0_init_1 := dk_seg dksX0_init_0 24 rfl rfl
theorem dksX0_init_2 : cX0_init.data.toList.drop 47 = dktX0_init_2 := dk_seg dksX0_init_1 23 rfl rfl
theorem dksX0_init_3 : cX0_init.data.toList.drop 71 = dktX0_init_3 := dk_seg dksX0_init_2 24 rfl rfl
theorem dX0_init_0 : decode cX0_init 0 = .ok (.aload_n 0, 1) := dk_42 (dk_at dksX0_init_0 0 rfl rfl)
theorem dX0_init_1 : decode cX0_init 1 = .ok (.invokespecial 1, 3) := dk_183 0 1 (dk_at dksX0_init_0 1 rfl rfl)
theorem dX0_init_4 : decode cX0_init 4 = .ok (.aload_n 0, 1) := dk_42 (dk_at dksX0_init_0 4 rfl rfl)
theorem dX0_init_5 : decode cX0_init 5 = .ok (.new 7, 3) := dk_187 0 7 (dk_at dksX0_init_0 5 rfl rfl)
theorem dX0_init_8 : decode cX0_init 8 = .ok (.dup, 1) := dk_89 (dk_at dksX0_init_0 8 rfl rfl)
theorem dX0_init_9 : decode cX0_init 9 = .ok (.invokespecial 9, 3) := dk_183 0 9 (dk_at dksX0_init_0 9 rfl rfl)
theorem dX0_init_12 : decode cX0_init 12 = .ok (.putfield 10, 3) := dk_181 0 10 (dk_at dksX0_init_0 12 rfl rfl)
theorem dX0_init_15 : decode cX0_init 15 = .ok (.aload_n 0, 1) := dk_42 (dk_at dksX0_init_0 15 rfl rfl)
theorem dX0_init_16 : decode cX0_init 16 = .ok (.iconst 4, 1) := dk_7 (dk_at dksX0_init_0 16 rfl rfl)
theorem dX0_init_17 : decode cX0_init 17 = .ok (.anewarray 7, 3) := dk_189 0 7 (dk_at dksX0_init_0 17 rfl rfl)
theorem dX0_init_20 : decode cX0_init 20 = .ok (.putfield 16, 3) := dk_181 0 16 (dk_at dksX0_init_0 20 rfl rfl)
theorem dX0_init_23 : decode cX0_init 23 = .ok (.aload_n 0, 1) := dk_42 (dk_at dksX0_init_0 23 rfl rfl)
theorem dX0_init_24 : decode cX0_init 24 = .ok (.bipush 120, 2) := dk_16 120 (dk_at dksX0_init_1 0 rfl rfl)
theorem dX0_init_26 : decode cX0_init 26 = .ok (.newarray .byte, 2) := dk_188_8 (dk_at dksX0_init_1 2 rfl rfl)
theorem dX0_init_28 : decode cX0_init 28 = .ok (.putfield 20, 3) := dk_181 0 20 (dk_at dksX0_init_1 4 rfl rfl)
theorem dX0_init_31 : decode cX0_init 31 = .ok (.aload_n 0, 1) := dk_42 (dk_at dksX0_init_1 7 rfl rfl)
theorem dX0_init_32 : decode cX0_init 32 = .ok (.bipush 6, 2) := dk_16 6 (dk_at dksX0_init_1 8 rfl rfl)
theorem dX0_init_34 : decode cX0_init 34 = .ok (.newarray .int, 2) := dk_188_10 (dk_at dksX0_init_1 10 rfl rfl)
theorem dX0_init_36 : decode cX0_init 36 = .ok (.putfield 24, 3) := dk_181 0 24 (dk_at dksX0_init_1 12 rfl rfl)
theorem dX0_init_39 : decode cX0_init 39 = .ok (.iconst 0, 1) := dk_3 (dk_at dksX0_init_1 15 rfl rfl)
theorem dX0_init_40 : decode cX0_init 40 = .ok (.istore_n 1, 1) := dk_60 (dk_at dksX0_init_1 16 rfl rfl)
theorem dX0_init_41 : decode cX0_init 41 = .ok (.iload_n 1, 1) := dk_27 (dk_at dksX0_init_1 17 rfl rfl)
theorem dX0_init_42 : decode cX0_init 42 = .ok (.iconst 4, 1) := dk_7 (dk_at dksX0_init_1 18 rfl rfl)
theorem dX0_init_43 : decode cX0_init 43 = .ok (.if_icmp .ge 22, 3) := dk_162 0 22 (dk_at dksX0_init_1 19 rfl rfl)
theorem dX0_init_46 : decode cX0_init 46 = .ok (.aload_n 0, 1) := dk_42 (dk_at dksX0_init_1 22 rfl rfl)
theorem dX0_init_47 : decode cX0_init 47 = .ok (.getfield 16, 3) := dk_180 0 16 (dk_at dksX0_init_2 0 rfl rfl)
theorem dX0_init_50 : decode cX0_init 50 = .ok (.iload_n 1, 1) := dk_27 (dk_at dksX0_init_2 3 rfl rfl)
theorem dX0_init_51 : decode cX0_init 51 = .ok (.new 7, 3) := dk_187 0 7 (dk_at dksX0_init_2 4 rfl rfl)
theorem dX0_init_54 : decode cX0_init 54 = .ok (.dup, 1) := dk_89 (dk_at dksX0_init_2 7 rfl rfl)
theorem dX0_init_55 : decode cX0_init 55 = .ok (.invokespecial 9, 3) := dk_183 0 9 (dk_at dksX0_init_2 8 rfl rfl)
theorem dX0_init_58 : decode cX0_init 58 = .ok (.aastore, 1) := dk_83 (dk_at dksX0_init_2 11 rfl rfl)
theorem dX0_init_59 : decode cX0_init 59 = .ok (.iinc 1 1, 3) := dk_132 1 1 (dk_at dksX0_init_2 12 rfl rfl)
theorem dX0_init_62 : decode cX0_init 62 = .ok (.goto (-21), 3) := dk_167 255 235 (dk_at dksX0_init_2 15 rfl rfl)
theorem dX0_init_65 : decode cX0_init 65 = .ok (.aload_n 0, 1) := dk_42 (dk_at dksX0_init_2 18 rfl rfl)
theorem dX0_init_66 : decode cX0_init 66 = .ok (.new 28, 3) := dk_187 0 28 (dk_at dksX0_init_2 19 rfl rfl)
theorem dX0_init_69 : decode cX0_init 69 = .ok (.dup, 1) := dk_89 (dk_at dksX0_init_2 22 rfl rfl)
theorem dX0_init_70 : decode cX0_init 70 = .ok (.aload_n 0, 1) := dk_42 (dk_at dksX0_init_2 23 rfl rfl)
theorem dX0_init_71 : decode cX0_init 71 = .ok (.invokespecial 30, 3) := dk_183 0 30 (dk_at dksX0_init_3 0 rfl rfl)
theorem dX0_init_74 : decode cX0_init 74 = .ok (.putfield 33, 3) := dk_181 0 33 (dk_at dksX0_init_3 3 rfl rfl)
theorem dX0_init_77 : decode cX0_init 77 = .ok (.return_, 1) := dk_177 (dk_at dksX0_init_3 6 rfl rfl)
abbrev cX0_setOld : ByteArray := prog_1_method_9_code
def yX0_setOld : MethodName := ⟨RX0, "setOld", "(III)I"⟩
def dkwX0_setOld_0 : List UInt8 := [42, 42, 180, 0, 10, 180, 0, 81, 27, 28, 29, 6, 182, 0, 85, 172]
abbrev dktX0_setOld_0 : List UInt8 := dkwX0_setOld_0 ++ []
theorem dksX0_setOld_0 : cX0_setOld.data.toList.drop 0 = dktX0_setOld_0 := by decide +kernel
theorem dX0_setOld_0 : decode cX0_setOld 0 = .ok (.aload_n 0, 1) := dk_42 (dk_at dksX0_setOld_0 0 rfl rfl)
theorem dX0_setOld_1 : decode cX0_setOld 1 = .ok (.aload_n 0, 1) := dk_42 (dk_at dksX0_setOld_0 1 rfl rfl)
theorem dX0_setOld_2 : decode cX0_setOld 2 = .ok (.getfield 10, 3) := dk_180 0 10 (dk_at dksX0_setOld_0 2 rfl rfl)
theorem dX0_setOld_5 : decode cX0_setOld 5 = .ok (.getfield 81, 3) := dk_180 0 81 (dk_at dksX0_setOld_0 5 rfl rfl)
theorem dX0_setOld_8 : decode cX0_setOld 8 = .ok (.iload_n 1, 1) := dk_27 (dk_at dksX0_setOld_0 8 rfl rfl)
theorem dX0_setOld_9 : decode cX0_setOld 9 = .ok (.iload_n 2, 1) := dk_28 (dk_at dksX0_setOld_0 9 rfl rfl)
theorem dX0_setOld_10 : decode cX0_setOld 10 = .ok (.iload_n 3, 1) := dk_29 (dk_at dksX0_setOld_0 10 rfl rfl)
theorem dX0_setOld_11 : decode cX0_setOld 11 = .ok (.iconst 3, 1) := dk_6 (dk_at dksX0_setOld_0 11 rfl rfl)
theorem dX0_setOld_12 : decode cX0_setOld 12 = .ok (.invokevirtual 85, 3) := dk_182 0 85 (dk_at dksX0_setOld_0 12 rfl rfl)
theorem dX0_setOld_15 : decode cX0_setOld 15 = .ok (.ireturn, 1) := dk_172 (dk_at dksX0_setOld_0 15 rfl rfl)
abbrev cX0_set : ByteArray := prog_1_method_7_code
def yX0_set : MethodName := ⟨RX0, "set", "([LCallMigrator$Function;IIII)I"⟩
def dkwX0_set_2 : List UInt8 := [43, 28, 50, 29, 21, 4, 182, 0, 71, 83, 21, 6, 172]
abbrev dktX0_set_2 : List UInt8 := dkwX0_set_2 ++ []
def dkwX0_set_1 : List UInt8 := [154, 0, 10, 42, 16, 254, 182, 0, 59, 172, 42, 182, 0, 63, 43, 28, 50, 180, 0, 66, 54, 6, 43, 28]
abbrev dktX0_set_1 : List UInt8 := dkwX0_set_1 ++ dktX0_set_2
def dkwX0_set_0 : List UInt8 := [28, 184, 0, 55, 153, 0, 23, 29, 3, 21, 5, 184, 0, 51, 153, 0, 13, 21, 4, 3, 4, 184, 0, 51]
abbrev dktX0_set_0 : List UInt8 := dkwX0_set_0 ++ dktX0_set_1
theorem dksX0_set_0 : cX0_set.data.toList.drop 0 = dktX0_set_0 := by decide +kernel
theorem dksX0_set_1 : cX0_set.data.toList.drop 24 = dktX0_set_1 := dk_seg dksX0_set_0 24 rfl rfl
theorem dksX0_set_2 : cX0_set.data.toList.drop 48 = dktX0_set_2 := dk_seg dksX0_set_1 24 rfl rfl
theorem dX0_set_0 : decode cX0_set 0 = .ok (.iload_n 2, 1) := dk_28 (dk_at dksX0_set_0 0 rfl rfl)
theorem dX0_set_1 : decode cX0_set 1 = .ok (.invokestatic 55, 3) := dk_184 0 55 (dk_at dksX0_set_0 1 rfl rfl)
theorem dX0_set_4 : decode cX0_set 4 = .ok (.ifCond .eq 23, 3) := dk_153 0 23 (dk_at dksX0_set_0 4 rfl rfl)
theorem dX0_set_7 : decode cX0_set 7 = .ok (.iload_n 3, 1) := dk_29 (dk_at dksX0_set_0 7 rfl rfl)
theorem dX0_set_8 : decode cX0_set 8 = .ok (.iconst 0, 1) := dk_3 (dk_at dksX0_set_0 8 rfl rfl)
theorem dX0_set_9 : decode cX0_set 9 = .ok (.iload 5, 2) := dk_21 5 (dk_at dksX0_set_0 9 rfl rfl)
theorem dX0_set_11 : decode cX0_set 11 = .ok (.invokestatic 51, 3) := dk_184 0 51 (dk_at dksX0_set_0 11 rfl rfl)
theorem dX0_set_14 : decode cX0_set 14 = .ok (.ifCond .eq 13, 3) := dk_153 0 13 (dk_at dksX0_set_0 14 rfl rfl)
theorem dX0_set_17 : decode cX0_set 17 = .ok (.iload 4, 2) := dk_21 4 (dk_at dksX0_set_0 17 rfl rfl)
theorem dX0_set_19 : decode cX0_set 19 = .ok (.iconst 0, 1) := dk_3 (dk_at dksX0_set_0 19 rfl rfl)
theorem dX0_set_20 : decode cX0_set 20 = .ok (.iconst 1, 1) := dk_4 (dk_at dksX0_set_0 20 rfl rfl)
theorem dX0_set_21 : decode cX0_set 21 = .ok (.invokestatic 51, 3) := dk_184 0 51 (dk_at dksX0_set_0 21 rfl rfl)
theorem dX0_set_24 : decode cX0_set 24 = .ok (.ifCond .ne 10, 3) := dk_154 0 10 (dk_at dksX0_set_1 0 rfl rfl)
theorem dX0_set_27 : decode cX0_set 27 = .ok (.aload_n 0, 1) := dk_42 (dk_at dksX0_set_1 3 rfl rfl)
theorem dX0_set_28 : decode cX0_set 28 = .ok (.bipush (-2), 2) := dk_16 254 (dk_at dksX0_set_1 4 rfl rfl)
theorem dX0_set_30 : decode cX0_set 30 = .ok (.invokevirtual 59, 3) := dk_182 0 59 (dk_at dksX0_set_1 6 rfl rfl)
theorem dX0_set_33 : decode cX0_set 33 = .ok (.ireturn, 1) := dk_172 (dk_at dksX0_set_1 9 rfl rfl)
theorem dX0_set_34 : decode cX0_set 34 = .ok (.aload_n 0, 1) := dk_42 (dk_at dksX0_set_1 10 rfl rfl)
theorem dX0_set_35 : decode cX0_set 35 = .ok (.invokevirtual 63, 3) := dk_182 0 63 (dk_at dksX0_set_1 11 rfl rfl)
theorem dX0_set_38 : decode cX0_set 38 = .ok (.aload_n 1, 1) := dk_43 (dk_at dksX0_set_1 14 rfl rfl)
theorem dX0_set_39 : decode cX0_set 39 = .ok (.iload_n 2, 1) := dk_28 (dk_at dksX0_set_1 15 rfl rfl)
theorem dX0_set_40 : decode cX0_set 40 = .ok (.aaload, 1) := dk_50 (dk_at dksX0_set_1 16 rfl rfl)
theorem dX0_set_41 : decode cX0_set 41 = .ok (.getfield 66, 3) := dk_180 0 66 (dk_at dksX0_set_1 17 rfl rfl)
theorem dX0_set_44 : decode cX0_set 44 = .ok (.istore 6, 2) := dk_54 6 (dk_at dksX0_set_1 20 rfl rfl)
theorem dX0_set_46 : decode cX0_set 46 = .ok (.aload_n 1, 1) := dk_43 (dk_at dksX0_set_1 22 rfl rfl)
theorem dX0_set_47 : decode cX0_set 47 = .ok (.iload_n 2, 1) := dk_28 (dk_at dksX0_set_1 23 rfl rfl)
theorem dX0_set_48 : decode cX0_set 48 = .ok (.aload_n 1, 1) := dk_43 (dk_at dksX0_set_2 0 rfl rfl)
theorem dX0_set_49 : decode cX0_set 49 = .ok (.iload_n 2, 1) := dk_28 (dk_at dksX0_set_2 1 rfl rfl)
theorem dX0_set_50 : decode cX0_set 50 = .ok (.aaload, 1) := dk_50 (dk_at dksX0_set_2 2 rfl rfl)
theorem dX0_set_51 : decode cX0_set 51 = .ok (.iload_n 3, 1) := dk_29 (dk_at dksX0_set_2 3 rfl rfl)
theorem dX0_set_52 : decode cX0_set 52 = .ok (.iload 4, 2) := dk_21 4 (dk_at dksX0_set_2 4 rfl rfl)
theorem dX0_set_54 : decode cX0_set 54 = .ok (.invokevirtual 71, 3) := dk_182 0 71 (dk_at dksX0_set_2 6 rfl rfl)
theorem dX0_set_57 : decode cX0_set 57 = .ok (.aastore, 1) := dk_83 (dk_at dksX0_set_2 9 rfl rfl)
theorem dX0_set_58 : decode cX0_set 58 = .ok (.iload 6, 2) := dk_21 6 (dk_at dksX0_set_2 10 rfl rfl)
theorem dX0_set_60 : decode cX0_set 60 = .ok (.ireturn, 1) := dk_172 (dk_at dksX0_set_2 12 rfl rfl)
abbrev cX0_isFunction : ByteArray := prog_1_method_5_code
def yX0_isFunction : MethodName := ⟨RX0, "isFunction", "(I)Z"⟩
def dkwX0_isFunction_0 : List UInt8 := [26, 3, 8, 184, 0, 51, 172]
abbrev dktX0_isFunction_0 : List UInt8 := dkwX0_isFunction_0 ++ []
theorem dksX0_isFunction_0 : cX0_isFunction.data.toList.drop 0 = dktX0_isFunction_0 := by decide +kernel
theorem dX0_isFunction_0 : decode cX0_isFunction 0 = .ok (.iload_n 0, 1) := dk_26 (dk_at dksX0_isFunction_0 0 rfl rfl)
theorem dX0_isFunction_1 : decode cX0_isFunction 1 = .ok (.iconst 0, 1) := dk_3 (dk_at dksX0_isFunction_0 1 rfl rfl)
theorem dX0_isFunction_2 : decode cX0_isFunction 2 = .ok (.iconst 5, 1) := dk_8 (dk_at dksX0_isFunction_0 2 rfl rfl)
theorem dX0_isFunction_3 : decode cX0_isFunction 3 = .ok (.invokestatic 51, 3) := dk_184 0 51 (dk_at dksX0_isFunction_0 3 rfl rfl)
theorem dX0_isFunction_6 : decode cX0_isFunction 6 = .ok (.ireturn, 1) := dk_172 (dk_at dksX0_isFunction_0 6 rfl rfl)
abbrev cX0_inRange : ByteArray := prog_1_method_1_code
def yX0_inRange : MethodName := ⟨RX0, "inRange", "(III)Z"⟩
def dkwX0_inRange_0 : List UInt8 := [26, 27, 161, 0, 12, 26, 28, 163, 0, 7, 4, 167, 0, 4, 3, 172]
abbrev dktX0_inRange_0 : List UInt8 := dkwX0_inRange_0 ++ []
theorem dksX0_inRange_0 : cX0_inRange.data.toList.drop 0 = dktX0_inRange_0 := by decide +kernel
theorem dX0_inRange_0 : decode cX0_inRange 0 = .ok (.iload_n 0, 1) := dk_26 (dk_at dksX0_inRange_0 0 rfl rfl)
theorem dX0_inRange_1 : decode cX0_inRange 1 = .ok (.iload_n 1, 1) := dk_27 (dk_at dksX0_inRange_0 1 rfl rfl)
theorem dX0_inRange_2 : decode cX0_inRange 2 = .ok (.if_icmp .lt 12, 3) := dk_161 0 12 (dk_at dksX0_inRange_0 2 rfl rfl)
theorem dX0_inRange_5 : decode cX0_inRange 5 = .ok (.iload_n 0, 1) := dk_26 (dk_at dksX0_inRange_0 5 rfl rfl)
theorem dX0_inRange_6 : decode cX0_inRange 6 = .ok (.iload_n 2, 1) := dk_28 (dk_at dksX0_inRange_0 6 rfl rfl)
theorem dX0_inRange_7 : decode cX0_inRange 7 = .ok (.if_icmp .gt 7, 3) := dk_163 0 7 (dk_at dksX0_inRange_0 7 rfl rfl)
theorem dX0_inRange_10 : decode cX0_inRange 10 = .ok (.iconst 1, 1) := dk_4 (dk_at dksX0_inRange_0 10 rfl rfl)
theorem dX0_inRange_11 : decode cX0_inRange 11 = .ok (.goto 4, 3) := dk_167 0 4 (dk_at dksX0_inRange_0 11 rfl rfl)
theorem dX0_inRange_14 : decode cX0_inRange 14 = .ok (.iconst 0, 1) := dk_3 (dk_at dksX0_inRange_0 14 rfl rfl)
theorem dX0_inRange_15 : decode cX0_inRange 15 = .ok (.ireturn, 1) := dk_172 (dk_at dksX0_inRange_0 15 rfl rfl)
abbrev cX0_error : ByteArray := prog_1_method_3_code
def yX0_error : MethodName := ⟨RX0, "error", "(I)I"⟩
def dkwX0_error_0 : List UInt8 := [42, 180, 0, 24, 27, 116, 92, 46, 4, 96, 79, 27, 172]
abbrev dktX0_error_0 : List UInt8 := dkwX0_error_0 ++ []
theorem dksX0_error_0 : cX0_error.data.toList.drop 0 = dktX0_error_0 := by decide +kernel
theorem dX0_error_0 : decode cX0_error 0 = .ok (.aload_n 0, 1) := dk_42 (dk_at dksX0_error_0 0 rfl rfl)
theorem dX0_error_1 : decode cX0_error 1 = .ok (.getfield 24, 3) := dk_180 0 24 (dk_at dksX0_error_0 1 rfl rfl)
theorem dX0_error_4 : decode cX0_error 4 = .ok (.iload_n 1, 1) := dk_27 (dk_at dksX0_error_0 4 rfl rfl)
theorem dX0_error_5 : decode cX0_error 5 = .ok (.ineg, 1) := dk_116 (dk_at dksX0_error_0 5 rfl rfl)
theorem dX0_error_6 : decode cX0_error 6 = .ok (.dup2, 1) := dk_92 (dk_at dksX0_error_0 6 rfl rfl)
theorem dX0_error_7 : decode cX0_error 7 = .ok (.iaload, 1) := dk_46 (dk_at dksX0_error_0 7 rfl rfl)
theorem dX0_error_8 : decode cX0_error 8 = .ok (.iconst 1, 1) := dk_4 (dk_at dksX0_error_0 8 rfl rfl)
theorem dX0_error_9 : decode cX0_error 9 = .ok (.iadd, 1) := dk_96 (dk_at dksX0_error_0 9 rfl rfl)
theorem dX0_error_10 : decode cX0_error 10 = .ok (.iastore, 1) := dk_79 (dk_at dksX0_error_0 10 rfl rfl)
theorem dX0_error_11 : decode cX0_error 11 = .ok (.iload_n 1, 1) := dk_27 (dk_at dksX0_error_0 11 rfl rfl)
theorem dX0_error_12 : decode cX0_error 12 = .ok (.ireturn, 1) := dk_172 (dk_at dksX0_error_0 12 rfl rfl)
abbrev cX0_save : ByteArray := prog_1_method_4_code
def yX0_save : MethodName := ⟨RX0, "save", "()V"⟩
def dkwX0_save_3 : List UInt8 := [181, 0, 37, 177]
abbrev dktX0_save_3 : List UInt8 := dkwX0_save_3 ++ []
def dkwX0_save_2 : List UInt8 := [180, 0, 16, 42, 180, 0, 37, 50, 42, 180, 0, 10, 182, 0, 47, 42, 89, 180, 0, 37, 4, 96]
abbrev dktX0_save_2 : List UInt8 := dkwX0_save_2 ++ dktX0_save_3
def dkwX0_save_1 : List UInt8 := [3, 6, 184, 0, 41, 42, 180, 0, 16, 6, 43, 83, 42, 89, 180, 0, 37, 4, 100, 181, 0, 37, 42]
abbrev dktX0_save_1 : List UInt8 := dkwX0_save_1 ++ dktX0_save_2
def dkwX0_save_0 : List UInt8 := [42, 180, 0, 37, 7, 160, 0, 41, 42, 180, 0, 16, 3, 50, 76, 42, 180, 0, 16, 4, 42, 180, 0, 16]
abbrev dktX0_save_0 : List UInt8 := dkwX0_save_0 ++ dktX0_save_1
theorem dksX0_save_0 : cX0_save.data.toList.drop 0 = dktX0_save_0 := by decide +kernel
theorem dksX0_save_1 : cX0_save.data.toList.drop 24 = dktX0_save_1 := dk_seg dksX0_save_0 24 rfl rfl
theorem dksX0_save_2 : cX0_save.data.toList.drop 47 = dktX0_save_2 := dk_seg dksX0_save_1 23 rfl rfl
theorem dksX0_save_3 : cX0_save.data.toList.drop 69 = dktX0_save_3 := dk_seg dksX0_save_2 22 rfl rfl
theorem dX0_save_0 : decode cX0_save 0 = .ok (.aload_n 0, 1) := dk_42 (dk_at dksX0_save_0 0 rfl rfl)
theorem dX0_save_1 : decode cX0_save 1 = .ok (.getfield 37, 3) := dk_180 0 37 (dk_at dksX0_save_0 1 rfl rfl)
theorem dX0_save_4 : decode cX0_save 4 = .ok (.iconst 4, 1) := dk_7 (dk_at dksX0_save_0 4 rfl rfl)
theorem dX0_save_5 : decode cX0_save 5 = .ok (.if_icmp .ne 41, 3) := dk_160 0 41 (dk_at dksX0_save_0 5 rfl rfl)
theorem dX0_save_8 : decode cX0_save 8 = .ok (.aload_n 0, 1) := dk_42 (dk_at dksX0_save_0 8 rfl rfl)
theorem dX0_save_9 : decode cX0_save 9 = .ok (.getfield 16, 3) := dk_180 0 16 (dk_at dksX0_save_0 9 rfl rfl)
theorem dX0_save_12 : decode cX0_save 12 = .ok (.iconst 0, 1) := dk_3 (dk_at dksX0_save_0 12 rfl rfl)
theorem dX0_save_13 : decode cX0_save 13 = .ok (.aaload, 1) := dk_50 (dk_at dksX0_save_0 13 rfl rfl)
theorem dX0_save_14 : decode cX0_save 14 = .ok (.astore_n 1, 1) := dk_76 (dk_at dksX0_save_0 14 rfl rfl)
theorem dX0_save_15 : decode cX0_save 15 = .ok (.aload_n 0, 1) := dk_42 (dk_at dksX0_save_0 15 rfl rfl)
theorem dX0_save_16 : decode cX0_save 16 = .ok (.getfield 16, 3) := dk_180 0 16 (dk_at dksX0_save_0 16 rfl rfl)
theorem dX0_save_19 : decode cX0_save 19 = .ok (.iconst 1, 1) := dk_4 (dk_at dksX0_save_0 19 rfl rfl)
theorem dX0_save_20 : decode cX0_save 20 = .ok (.aload_n 0, 1) := dk_42 (dk_at dksX0_save_0 20 rfl rfl)
theorem dX0_save_21 : decode cX0_save 21 = .ok (.getfield 16, 3) := dk_180 0 16 (dk_at dksX0_save_0 21 rfl rfl)
theorem dX0_save_24 : decode cX0_save 24 = .ok (.iconst 0, 1) := dk_3 (dk_at dksX0_save_1 0 rfl rfl)
theorem dX0_save_25 : decode cX0_save 25 = .ok (.iconst 3, 1) := dk_6 (dk_at dksX0_save_1 1 rfl rfl)
theorem dX0_save_26 : decode cX0_save 26 = .ok (.invokestatic 41, 3) := dk_184 0 41 (dk_at dksX0_save_1 2 rfl rfl)
theorem dX0_save_29 : decode cX0_save 29 = .ok (.aload_n 0, 1) := dk_42 (dk_at dksX0_save_1 5 rfl rfl)
theorem dX0_save_30 : decode cX0_save 30 = .ok (.getfield 16, 3) := dk_180 0 16 (dk_at dksX0_save_1 6 rfl rfl)
theorem dX0_save_33 : decode cX0_save 33 = .ok (.iconst 3, 1) := dk_6 (dk_at dksX0_save_1 9 rfl rfl)
theorem dX0_save_34 : decode cX0_save 34 = .ok (.aload_n 1, 1) := dk_43 (dk_at dksX0_save_1 10 rfl rfl)
theorem dX0_save_35 : decode cX0_save 35 = .ok (.aastore, 1) := dk_83 (dk_at dksX0_save_1 11 rfl rfl)
theorem dX0_save_36 : decode cX0_save 36 = .ok (.aload_n 0, 1) := dk_42 (dk_at dksX0_save_1 12 rfl rfl)
theorem dX0_save_37 : decode cX0_save 37 = .ok (.dup, 1) := dk_89 (dk_at dksX0_save_1 13 rfl rfl)
theorem dX0_save_38 : decode cX0_save 38 = .ok (.getfield 37, 3) := dk_180 0 37 (dk_at dksX0_save_1 14 rfl rfl)
theorem dX0_save_41 : decode cX0_save 41 = .ok (.iconst 1, 1) := dk_4 (dk_at dksX0_save_1 17 rfl rfl)
theorem dX0_save_42 : decode cX0_save 42 = .ok (.isub, 1) := dk_100 (dk_at dksX0_save_1 18 rfl rfl)
theorem dX0_save_43 : decode cX0_save 43 = .ok (.putfield 37, 3) := dk_181 0 37 (dk_at dksX0_save_1 19 rfl rfl)
theorem dX0_save_46 : decode cX0_save 46 = .ok (.aload_n 0, 1) := dk_42 (dk_at dksX0_save_1 22 rfl rfl)
theorem dX0_save_47 : decode cX0_save 47 = .ok (.getfield 16, 3) := dk_180 0 16 (dk_at dksX0_save_2 0 rfl rfl)
theorem dX0_save_50 : decode cX0_save 50 = .ok (.aload_n 0, 1) := dk_42 (dk_at dksX0_save_2 3 rfl rfl)
theorem dX0_save_51 : decode cX0_save 51 = .ok (.getfield 37, 3) := dk_180 0 37 (dk_at dksX0_save_2 4 rfl rfl)
theorem dX0_save_54 : decode cX0_save 54 = .ok (.aaload, 1) := dk_50 (dk_at dksX0_save_2 7 rfl rfl)
theorem dX0_save_55 : decode cX0_save 55 = .ok (.aload_n 0, 1) := dk_42 (dk_at dksX0_save_2 8 rfl rfl)
theorem dX0_save_56 : decode cX0_save 56 = .ok (.getfield 10, 3) := dk_180 0 10 (dk_at dksX0_save_2 9 rfl rfl)
theorem dX0_save_59 : decode cX0_save 59 = .ok (.invokevirtual 47, 3) := dk_182 0 47 (dk_at dksX0_save_2 12 rfl rfl)
theorem dX0_save_62 : decode cX0_save 62 = .ok (.aload_n 0, 1) := dk_42 (dk_at dksX0_save_2 15 rfl rfl)
theorem dX0_save_63 : decode cX0_save 63 = .ok (.dup, 1) := dk_89 (dk_at dksX0_save_2 16 rfl rfl)
theorem dX0_save_64 : decode cX0_save 64 = .ok (.getfield 37, 3) := dk_180 0 37 (dk_at dksX0_save_2 17 rfl rfl)
theorem dX0_save_67 : decode cX0_save 67 = .ok (.iconst 1, 1) := dk_4 (dk_at dksX0_save_2 20 rfl rfl)
theorem dX0_save_68 : decode cX0_save 68 = .ok (.iadd, 1) := dk_96 (dk_at dksX0_save_2 21 rfl rfl)
theorem dX0_save_69 : decode cX0_save 69 = .ok (.putfield 37, 3) := dk_181 0 37 (dk_at dksX0_save_3 0 rfl rfl)
theorem dX0_save_72 : decode cX0_save 72 = .ok (.return_, 1) := dk_177 (dk_at dksX0_save_3 3 rfl rfl)
abbrev cX0_setNew : ByteArray := prog_1_method_10_code
def yX0_setNew : MethodName := ⟨RX0, "setNew", "(III)I"⟩
def dkwX0_setNew_0 : List UInt8 := [42, 42, 180, 0, 10, 180, 0, 89, 27, 28, 29, 7, 182, 0, 85, 172]
abbrev dktX0_setNew_0 : List UInt8 := dkwX0_setNew_0 ++ []
theorem dksX0_setNew_0 : cX0_setNew.data.toList.drop 0 = dktX0_setNew_0 := by decide +kernel
theorem dX0_setNew_0 : decode cX0_setNew 0 = .ok (.aload_n 0, 1) := dk_42 (dk_at dksX0_setNew_0 0 rfl rfl)
theorem dX0_setNew_1 : decode cX0_setNew 1 = .ok (.aload_n 0, 1) := dk_42 (dk_at dksX0_setNew_0 1 rfl rfl)
theorem dX0_setNew_2 : decode cX0_setNew 2 = .ok (.getfield 10, 3) := dk_180 0 10 (dk_at dksX0_setNew_0 2 rfl rfl)
theorem dX0_setNew_5 : decode cX0_setNew 5 = .ok (.getfield 89, 3) := dk_180 0 89 (dk_at dksX0_setNew_0 5 rfl rfl)
theorem dX0_setNew_8 : decode cX0_setNew 8 = .ok (.iload_n 1, 1) := dk_27 (dk_at dksX0_setNew_0 8 rfl rfl)
theorem dX0_setNew_9 : decode cX0_setNew 9 = .ok (.iload_n 2, 1) := dk_28 (dk_at dksX0_setNew_0 9 rfl rfl)
theorem dX0_setNew_10 : decode cX0_setNew 10 = .ok (.iload_n 3, 1) := dk_29 (dk_at dksX0_setNew_0 10 rfl rfl)
theorem dX0_setNew_11 : decode cX0_setNew 11 = .ok (.iconst 4, 1) := dk_7 (dk_at dksX0_setNew_0 11 rfl rfl)
theorem dX0_setNew_12 : decode cX0_setNew 12 = .ok (.invokevirtual 85, 3) := dk_182 0 85 (dk_at dksX0_setNew_0 12 rfl rfl)
theorem dX0_setNew_15 : decode cX0_setNew 15 = .ok (.ireturn, 1) := dk_172 (dk_at dksX0_setNew_0 15 rfl rfl)
abbrev cX0_setOldTerm : ByteArray := prog_1_method_11_code
def yX0_setOldTerm : MethodName := ⟨RX0, "setOldTerm", "(III)I"⟩
def dkwX0_setOldTerm_0 : List UInt8 := [42, 42, 180, 0, 10, 180, 0, 81, 27, 28, 29, 182, 0, 92, 172]
abbrev dktX0_setOldTerm_0 : List UInt8 := dkwX0_setOldTerm_0 ++ []
theorem dksX0_setOldTerm_0 : cX0_setOldTerm.data.toList.drop 0 = dktX0_setOldTerm_0 := by decide +kernel
theorem dX0_setOldTerm_0 : decode cX0_setOldTerm 0 = .ok (.aload_n 0, 1) := dk_42 (dk_at dksX0_setOldTerm_0 0 rfl rfl)
theorem dX0_setOldTerm_1 : decode cX0_setOldTerm 1 = .ok (.aload_n 0, 1) := dk_42 (dk_at dksX0_setOldTerm_0 1 rfl rfl)
theorem dX0_setOldTerm_2 : decode cX0_setOldTerm 2 = .ok (.getfield 10, 3) := dk_180 0 10 (dk_at dksX0_setOldTerm_0 2 rfl rfl)
theorem dX0_setOldTerm_5 : decode cX0_setOldTerm 5 = .ok (.getfield 81, 3) := dk_180 0 81 (dk_at dksX0_setOldTerm_0 5 rfl rfl)
theorem dX0_setOldTerm_8 : decode cX0_setOldTerm 8 = .ok (.iload_n 1, 1) := dk_27 (dk_at dksX0_setOldTerm_0 8 rfl rfl)
theorem dX0_setOldTerm_9 : decode cX0_setOldTerm 9 = .ok (.iload_n 2, 1) := dk_28 (dk_at dksX0_setOldTerm_0 9 rfl rfl)
theorem dX0_setOldTerm_10 : decode cX0_setOldTerm 10 = .ok (.iload_n 3, 1) := dk_29 (dk_at dksX0_setOldTerm_0 10 rfl rfl)
theorem dX0_setOldTerm_11 : decode cX0_setOldTerm 11 = .ok (.invokevirtual 92, 3) := dk_182 0 92 (dk_at dksX0_setOldTerm_0 11 rfl rfl)
theorem dX0_setOldTerm_14 : decode cX0_setOldTerm 14 = .ok (.ireturn, 1) := dk_172 (dk_at dksX0_setOldTerm_0 14 rfl rfl)
abbrev cX0_setTerm : ByteArray := prog_1_method_8_code
def yX0_setTerm : MethodName := ⟨RX0, "setTerm", "([LCallMigrator$Function;III)I"⟩
def dkwX0_setTerm_2 : List UInt8 := [28, 43, 28, 50, 29, 21, 4, 182, 0, 78, 83, 21, 5, 172]
abbrev dktX0_setTerm_2 : List UInt8 := dkwX0_setTerm_2 ++ []
def dkwX0_setTerm_1 : List UInt8 := [154, 0, 10, 42, 16, 254, 182, 0, 59, 172, 42, 182, 0, 63, 43, 28, 50, 29, 182, 0, 75, 54, 5, 43]
abbrev dktX0_setTerm_1 : List UInt8 := dkwX0_setTerm_1 ++ dktX0_setTerm_2
def dkwX0_setTerm_0 : List UInt8 := [28, 184, 0, 55, 153, 0, 23, 29, 2, 6, 184, 0, 51, 153, 0, 14, 21, 4, 3, 16, 99, 184, 0, 51]
abbrev dktX0_setTerm_0 : List UInt8 := dkwX0_setTerm_0 ++ dktX0_setTerm_1
theorem dksX0_setTerm_0 : cX0_setTerm.data.toList.drop 0 = dktX0_setTerm_0 := by decide +kernel
theorem dksX0_setTerm_1 : cX0_setTerm.data.toList.drop 24 = dktX0_setTerm_1 := dk_seg dksX0_setTerm_0 24 rfl rfl
theorem dksX0_setTerm_2 : cX0_setTerm.data.toList.drop 48 = dktX0_setTerm_2 := dk_seg dksX0_setTerm_1 24 rfl rfl
theorem dX0_setTerm_0 : decode cX0_setTerm 0 = .ok (.iload_n 2, 1) := dk_28 (dk_at dksX0_setTerm_0 0 rfl rfl)
theorem dX0_setTerm_1 : decode cX0_setTerm 1 = .ok (.invokestatic 55, 3) := dk_184 0 55 (dk_at dksX0_setTerm_0 1 rfl rfl)
theorem dX0_setTerm_4 : decode cX0_setTerm 4 = .ok (.ifCond .eq 23, 3) := dk_153 0 23 (dk_at dksX0_setTerm_0 4 rfl rfl)
theorem dX0_setTerm_7 : decode cX0_setTerm 7 = .ok (.iload_n 3, 1) := dk_29 (dk_at dksX0_setTerm_0 7 rfl rfl)
theorem dX0_setTerm_8 : decode cX0_setTerm 8 = .ok (.iconst (-1), 1) := dk_2 (dk_at dksX0_setTerm_0 8 rfl rfl)
theorem dX0_setTerm_9 : decode cX0_setTerm 9 = .ok (.iconst 3, 1) := dk_6 (dk_at dksX0_setTerm_0 9 rfl rfl)
theorem dX0_setTerm_10 : decode cX0_setTerm 10 = .ok (.invokestatic 51, 3) := dk_184 0 51 (dk_at dksX0_setTerm_0 10 rfl rfl)
theorem dX0_setTerm_13 : decode cX0_setTerm 13 = .ok (.ifCond .eq 14, 3) := dk_153 0 14 (dk_at dksX0_setTerm_0 13 rfl rfl)
theorem dX0_setTerm_16 : decode cX0_setTerm 16 = .ok (.iload 4, 2) := dk_21 4 (dk_at dksX0_setTerm_0 16 rfl rfl)
theorem dX0_setTerm_18 : decode cX0_setTerm 18 = .ok (.iconst 0, 1) := dk_3 (dk_at dksX0_setTerm_0 18 rfl rfl)
theorem dX0_setTerm_19 : decode cX0_setTerm 19 = .ok (.bipush 99, 2) := dk_16 99 (dk_at dksX0_setTerm_0 19 rfl rfl)
theorem dX0_setTerm_21 : decode cX0_setTerm 21 = .ok (.invokestatic 51, 3) := dk_184 0 51 (dk_at dksX0_setTerm_0 21 rfl rfl)
theorem dX0_setTerm_24 : decode cX0_setTerm 24 = .ok (.ifCond .ne 10, 3) := dk_154 0 10 (dk_at dksX0_setTerm_1 0 rfl rfl)
theorem dX0_setTerm_27 : decode cX0_setTerm 27 = .ok (.aload_n 0, 1) := dk_42 (dk_at dksX0_setTerm_1 3 rfl rfl)
theorem dX0_setTerm_28 : decode cX0_setTerm 28 = .ok (.bipush (-2), 2) := dk_16 254 (dk_at dksX0_setTerm_1 4 rfl rfl)
theorem dX0_setTerm_30 : decode cX0_setTerm 30 = .ok (.invokevirtual 59, 3) := dk_182 0 59 (dk_at dksX0_setTerm_1 6 rfl rfl)
theorem dX0_setTerm_33 : decode cX0_setTerm 33 = .ok (.ireturn, 1) := dk_172 (dk_at dksX0_setTerm_1 9 rfl rfl)
theorem dX0_setTerm_34 : decode cX0_setTerm 34 = .ok (.aload_n 0, 1) := dk_42 (dk_at dksX0_setTerm_1 10 rfl rfl)
theorem dX0_setTerm_35 : decode cX0_setTerm 35 = .ok (.invokevirtual 63, 3) := dk_182 0 63 (dk_at dksX0_setTerm_1 11 rfl rfl)
theorem dX0_setTerm_38 : decode cX0_setTerm 38 = .ok (.aload_n 1, 1) := dk_43 (dk_at dksX0_setTerm_1 14 rfl rfl)
theorem dX0_setTerm_39 : decode cX0_setTerm 39 = .ok (.iload_n 2, 1) := dk_28 (dk_at dksX0_setTerm_1 15 rfl rfl)
theorem dX0_setTerm_40 : decode cX0_setTerm 40 = .ok (.aaload, 1) := dk_50 (dk_at dksX0_setTerm_1 16 rfl rfl)
theorem dX0_setTerm_41 : decode cX0_setTerm 41 = .ok (.iload_n 3, 1) := dk_29 (dk_at dksX0_setTerm_1 17 rfl rfl)
theorem dX0_setTerm_42 : decode cX0_setTerm 42 = .ok (.invokevirtual 75, 3) := dk_182 0 75 (dk_at dksX0_setTerm_1 18 rfl rfl)
theorem dX0_setTerm_45 : decode cX0_setTerm 45 = .ok (.istore 5, 2) := dk_54 5 (dk_at dksX0_setTerm_1 21 rfl rfl)
theorem dX0_setTerm_47 : decode cX0_setTerm 47 = .ok (.aload_n 1, 1) := dk_43 (dk_at dksX0_setTerm_1 23 rfl rfl)
theorem dX0_setTerm_48 : decode cX0_setTerm 48 = .ok (.iload_n 2, 1) := dk_28 (dk_at dksX0_setTerm_2 0 rfl rfl)
theorem dX0_setTerm_49 : decode cX0_setTerm 49 = .ok (.aload_n 1, 1) := dk_43 (dk_at dksX0_setTerm_2 1 rfl rfl)
theorem dX0_setTerm_50 : decode cX0_setTerm 50 = .ok (.iload_n 2, 1) := dk_28 (dk_at dksX0_setTerm_2 2 rfl rfl)
theorem dX0_setTerm_51 : decode cX0_setTerm 51 = .ok (.aaload, 1) := dk_50 (dk_at dksX0_setTerm_2 3 rfl rfl)
theorem dX0_setTerm_52 : decode cX0_setTerm 52 = .ok (.iload_n 3, 1) := dk_29 (dk_at dksX0_setTerm_2 4 rfl rfl)
theorem dX0_setTerm_53 : decode cX0_setTerm 53 = .ok (.iload 4, 2) := dk_21 4 (dk_at dksX0_setTerm_2 5 rfl rfl)
theorem dX0_setTerm_55 : decode cX0_setTerm 55 = .ok (.invokevirtual 78, 3) := dk_182 0 78 (dk_at dksX0_setTerm_2 7 rfl rfl)
theorem dX0_setTerm_58 : decode cX0_setTerm 58 = .ok (.aastore, 1) := dk_83 (dk_at dksX0_setTerm_2 10 rfl rfl)
theorem dX0_setTerm_59 : decode cX0_setTerm 59 = .ok (.iload 5, 2) := dk_21 5 (dk_at dksX0_setTerm_2 11 rfl rfl)
theorem dX0_setTerm_61 : decode cX0_setTerm 61 = .ok (.ireturn, 1) := dk_172 (dk_at dksX0_setTerm_2 13 rfl rfl)
abbrev cX0_setNewTerm : ByteArray := prog_1_method_12_code
def yX0_setNewTerm : MethodName := ⟨RX0, "setNewTerm", "(III)I"⟩
def dkwX0_setNewTerm_0 : List UInt8 := [42, 42, 180, 0, 10, 180, 0, 89, 27, 28, 29, 182, 0, 92, 172]
abbrev dktX0_setNewTerm_0 : List UInt8 := dkwX0_setNewTerm_0 ++ []
theorem dksX0_setNewTerm_0 : cX0_setNewTerm.data.toList.drop 0 = dktX0_setNewTerm_0 := by decide +kernel
theorem dX0_setNewTerm_0 : decode cX0_setNewTerm 0 = .ok (.aload_n 0, 1) := dk_42 (dk_at dksX0_setNewTerm_0 0 rfl rfl)
theorem dX0_setNewTerm_1 : decode cX0_setNewTerm 1 = .ok (.aload_n 0, 1) := dk_42 (dk_at dksX0_setNewTerm_0 1 rfl rfl)
theorem dX0_setNewTerm_2 : decode cX0_setNewTerm 2 = .ok (.getfield 10, 3) := dk_180 0 10 (dk_at dksX0_setNewTerm_0 2 rfl rfl)
theorem dX0_setNewTerm_5 : decode cX0_setNewTerm 5 = .ok (.getfield 89, 3) := dk_180 0 89 (dk_at dksX0_setNewTerm_0 5 rfl rfl)
theorem dX0_setNewTerm_8 : decode cX0_setNewTerm 8 = .ok (.iload_n 1, 1) := dk_27 (dk_at dksX0_setNewTerm_0 8 rfl rfl)
theorem dX0_setNewTerm_9 : decode cX0_setNewTerm 9 = .ok (.iload_n 2, 1) := dk_28 (dk_at dksX0_setNewTerm_0 9 rfl rfl)
theorem dX0_setNewTerm_10 : decode cX0_setNewTerm 10 = .ok (.iload_n 3, 1) := dk_29 (dk_at dksX0_setNewTerm_0 10 rfl rfl)
theorem dX0_setNewTerm_11 : decode cX0_setNewTerm 11 = .ok (.invokevirtual 92, 3) := dk_182 0 92 (dk_at dksX0_setNewTerm_0 11 rfl rfl)
theorem dX0_setNewTerm_14 : decode cX0_setNewTerm 14 = .ok (.ireturn, 1) := dk_172 (dk_at dksX0_setNewTerm_0 14 rfl rfl)
abbrev cX0_map : ByteArray := prog_1_method_14_code
def yX0_map : MethodName := ⟨RX0, "map", "(II)I"⟩
def dkwX0_map_3 : List UInt8 := [183, 0, 111, 83, 42, 27, 182, 0, 114, 172]
abbrev dktX0_map_3 : List UInt8 := dkwX0_map_3 ++ []
def dkwX0_map_2 : List UInt8 := [199, 0, 14, 187, 0, 103, 89, 28, 183, 0, 105, 167, 0, 15, 187, 0, 103, 89, 28, 45, 180, 0, 108]
abbrev dktX0_map_2 : List UInt8 := dkwX0_map_2 ++ dktX0_map_3
def dkwX0_map_1 : List UInt8 := [182, 0, 63, 42, 180, 0, 10, 180, 0, 99, 27, 50, 78, 42, 180, 0, 10, 180, 0, 99, 27, 45]
abbrev dktX0_map_1 : List UInt8 := dkwX0_map_1 ++ dktX0_map_2
def dkwX0_map_0 : List UInt8 := [27, 184, 0, 55, 153, 0, 10, 28, 184, 0, 55, 154, 0, 10, 42, 16, 254, 182, 0, 59, 172, 42]
abbrev dktX0_map_0 : List UInt8 := dkwX0_map_0 ++ dktX0_map_1
theorem dksX0_map_0 : cX0_map.data.toList.drop 0 = dktX0_map_0 := by decide +kernel
theorem dksX0_map_1 : cX0_map.data.toList.drop 22 = dktX0_map_1 := dk_seg dksX0_map_0 22 rfl rfl
theorem dksX0_map_2 : cX0_map.data.toList.drop 44 = dktX0_map_2 := dk_seg dksX0_map_1 22 rfl rfl
theorem dksX0_map_3 : cX0_map.data.toList.drop 67 = dktX0_map_3 := dk_seg dksX0_map_2 23 rfl rfl
theorem dX0_map_0 : decode cX0_map 0 = .ok (.iload_n 1, 1) := dk_27 (dk_at dksX0_map_0 0 rfl rfl)
theorem dX0_map_1 : decode cX0_map 1 = .ok (.invokestatic 55, 3) := dk_184 0 55 (dk_at dksX0_map_0 1 rfl rfl)
theorem dX0_map_4 : decode cX0_map 4 = .ok (.ifCond .eq 10, 3) := dk_153 0 10 (dk_at dksX0_map_0 4 rfl rfl)
theorem dX0_map_7 : decode cX0_map 7 = .ok (.iload_n 2, 1) := dk_28 (dk_at dksX0_map_0 7 rfl rfl)
theorem dX0_map_8 : decode cX0_map 8 = .ok (.invokestatic 55, 3) := dk_184 0 55 (dk_at dksX0_map_0 8 rfl rfl)
theorem dX0_map_11 : decode cX0_map 11 = .ok (.ifCond .ne 10, 3) := dk_154 0 10 (dk_at dksX0_map_0 11 rfl rfl)
theorem dX0_map_14 : decode cX0_map 14 = .ok (.aload_n 0, 1) := dk_42 (dk_at dksX0_map_0 14 rfl rfl)
theorem dX0_map_15 : decode cX0_map 15 = .ok (.bipush (-2), 2) := dk_16 254 (dk_at dksX0_map_0 15 rfl rfl)
theorem dX0_map_17 : decode cX0_map 17 = .ok (.invokevirtual 59, 3) := dk_182 0 59 (dk_at dksX0_map_0 17 rfl rfl)
theorem dX0_map_20 : decode cX0_map 20 = .ok (.ireturn, 1) := dk_172 (dk_at dksX0_map_0 20 rfl rfl)
theorem dX0_map_21 : decode cX0_map 21 = .ok (.aload_n 0, 1) := dk_42 (dk_at dksX0_map_0 21 rfl rfl)
theorem dX0_map_22 : decode cX0_map 22 = .ok (.invokevirtual 63, 3) := dk_182 0 63 (dk_at dksX0_map_1 0 rfl rfl)
theorem dX0_map_25 : decode cX0_map 25 = .ok (.aload_n 0, 1) := dk_42 (dk_at dksX0_map_1 3 rfl rfl)
theorem dX0_map_26 : decode cX0_map 26 = .ok (.getfield 10, 3) := dk_180 0 10 (dk_at dksX0_map_1 4 rfl rfl)
theorem dX0_map_29 : decode cX0_map 29 = .ok (.getfield 99, 3) := dk_180 0 99 (dk_at dksX0_map_1 7 rfl rfl)
theorem dX0_map_32 : decode cX0_map 32 = .ok (.iload_n 1, 1) := dk_27 (dk_at dksX0_map_1 10 rfl rfl)
theorem dX0_map_33 : decode cX0_map 33 = .ok (.aaload, 1) := dk_50 (dk_at dksX0_map_1 11 rfl rfl)
theorem dX0_map_34 : decode cX0_map 34 = .ok (.astore_n 3, 1) := dk_78 (dk_at dksX0_map_1 12 rfl rfl)
theorem dX0_map_35 : decode cX0_map 35 = .ok (.aload_n 0, 1) := dk_42 (dk_at dksX0_map_1 13 rfl rfl)
theorem dX0_map_36 : decode cX0_map 36 = .ok (.getfield 10, 3) := dk_180 0 10 (dk_at dksX0_map_1 14 rfl rfl)
theorem dX0_map_39 : decode cX0_map 39 = .ok (.getfield 99, 3) := dk_180 0 99 (dk_at dksX0_map_1 17 rfl rfl)
theorem dX0_map_42 : decode cX0_map 42 = .ok (.iload_n 1, 1) := dk_27 (dk_at dksX0_map_1 20 rfl rfl)
theorem dX0_map_43 : decode cX0_map 43 = .ok (.aload_n 3, 1) := dk_45 (dk_at dksX0_map_1 21 rfl rfl)
theorem dX0_map_44 : decode cX0_map 44 = .ok (.ifnonnull 14, 3) := dk_199 0 14 (dk_at dksX0_map_2 0 rfl rfl)
theorem dX0_map_47 : decode cX0_map 47 = .ok (.new 103, 3) := dk_187 0 103 (dk_at dksX0_map_2 3 rfl rfl)
theorem dX0_map_50 : decode cX0_map 50 = .ok (.dup, 1) := dk_89 (dk_at dksX0_map_2 6 rfl rfl)
theorem dX0_map_51 : decode cX0_map 51 = .ok (.iload_n 2, 1) := dk_28 (dk_at dksX0_map_2 7 rfl rfl)
theorem dX0_map_52 : decode cX0_map 52 = .ok (.invokespecial 105, 3) := dk_183 0 105 (dk_at dksX0_map_2 8 rfl rfl)
theorem dX0_map_55 : decode cX0_map 55 = .ok (.goto 15, 3) := dk_167 0 15 (dk_at dksX0_map_2 11 rfl rfl)
theorem dX0_map_58 : decode cX0_map 58 = .ok (.new 103, 3) := dk_187 0 103 (dk_at dksX0_map_2 14 rfl rfl)
theorem dX0_map_61 : decode cX0_map 61 = .ok (.dup, 1) := dk_89 (dk_at dksX0_map_2 17 rfl rfl)
theorem dX0_map_62 : decode cX0_map 62 = .ok (.iload_n 2, 1) := dk_28 (dk_at dksX0_map_2 18 rfl rfl)
theorem dX0_map_63 : decode cX0_map 63 = .ok (.aload_n 3, 1) := dk_45 (dk_at dksX0_map_2 19 rfl rfl)
theorem dX0_map_64 : decode cX0_map 64 = .ok (.getfield 108, 3) := dk_180 0 108 (dk_at dksX0_map_2 20 rfl rfl)
theorem dX0_map_67 : decode cX0_map 67 = .ok (.invokespecial 111, 3) := dk_183 0 111 (dk_at dksX0_map_3 0 rfl rfl)
theorem dX0_map_70 : decode cX0_map 70 = .ok (.aastore, 1) := dk_83 (dk_at dksX0_map_3 3 rfl rfl)
theorem dX0_map_71 : decode cX0_map 71 = .ok (.aload_n 0, 1) := dk_42 (dk_at dksX0_map_3 4 rfl rfl)
theorem dX0_map_72 : decode cX0_map 72 = .ok (.iload_n 1, 1) := dk_27 (dk_at dksX0_map_3 5 rfl rfl)
theorem dX0_map_73 : decode cX0_map 73 = .ok (.invokevirtual 114, 3) := dk_182 0 114 (dk_at dksX0_map_3 6 rfl rfl)
theorem dX0_map_76 : decode cX0_map 76 = .ok (.ireturn, 1) := dk_172 (dk_at dksX0_map_3 9 rfl rfl)
abbrev cX0_faithful : ByteArray := prog_1_method_13_code
def yX0_faithful : MethodName := ⟨RX0, "faithful", "(I)I"⟩
def dkwX0_faithful_0 : List UInt8 := [42, 180, 0, 10, 27, 182, 0, 96, 153, 0, 7, 4, 167, 0, 4, 3, 172]
abbrev dktX0_faithful_0 : List UInt8 := dkwX0_faithful_0 ++ []
theorem dksX0_faithful_0 : cX0_faithful.data.toList.drop 0 = dktX0_faithful_0 := by decide +kernel
theorem dX0_faithful_0 : decode cX0_faithful 0 = .ok (.aload_n 0, 1) := dk_42 (dk_at dksX0_faithful_0 0 rfl rfl)
theorem dX0_faithful_1 : decode cX0_faithful 1 = .ok (.getfield 10, 3) := dk_180 0 10 (dk_at dksX0_faithful_0 1 rfl rfl)
theorem dX0_faithful_4 : decode cX0_faithful 4 = .ok (.iload_n 1, 1) := dk_27 (dk_at dksX0_faithful_0 4 rfl rfl)
theorem dX0_faithful_5 : decode cX0_faithful 5 = .ok (.invokevirtual 96, 3) := dk_182 0 96 (dk_at dksX0_faithful_0 5 rfl rfl)
theorem dX0_faithful_8 : decode cX0_faithful 8 = .ok (.ifCond .eq 7, 3) := dk_153 0 7 (dk_at dksX0_faithful_0 8 rfl rfl)
theorem dX0_faithful_11 : decode cX0_faithful 11 = .ok (.iconst 1, 1) := dk_4 (dk_at dksX0_faithful_0 11 rfl rfl)
theorem dX0_faithful_12 : decode cX0_faithful 12 = .ok (.goto 4, 3) := dk_167 0 4 (dk_at dksX0_faithful_0 12 rfl rfl)
theorem dX0_faithful_15 : decode cX0_faithful 15 = .ok (.iconst 0, 1) := dk_3 (dk_at dksX0_faithful_0 15 rfl rfl)
theorem dX0_faithful_16 : decode cX0_faithful 16 = .ok (.ireturn, 1) := dk_172 (dk_at dksX0_faithful_0 16 rfl rfl)
abbrev cX0_unmap : ByteArray := prog_1_method_15_code
def yX0_unmap : MethodName := ⟨RX0, "unmap", "(I)I"⟩
def dkwX0_unmap_2 : List UInt8 := [180, 0, 117, 61, 42, 180, 0, 10, 180, 0, 99, 27, 1, 83, 28, 172]
abbrev dktX0_unmap_2 : List UInt8 := dkwX0_unmap_2 ++ []
def dkwX0_unmap_1 : List UInt8 := [199, 0, 10, 42, 16, 253, 182, 0, 59, 172, 42, 182, 0, 63, 42, 180, 0, 10, 180, 0, 99, 27, 50]
abbrev dktX0_unmap_1 : List UInt8 := dkwX0_unmap_1 ++ dktX0_unmap_2
def dkwX0_unmap_0 : List UInt8 := [27, 184, 0, 55, 154, 0, 10, 42, 16, 254, 182, 0, 59, 172, 42, 180, 0, 10, 180, 0, 99, 27, 50]
abbrev dktX0_unmap_0 : List UInt8 := dkwX0_unmap_0 ++ dktX0_unmap_1
theorem dksX0_unmap_0 : cX0_unmap.data.toList.drop 0 = dktX0_unmap_0 := by decide +kernel
theorem dksX0_unmap_1 : cX0_unmap.data.toList.drop 23 = dktX0_unmap_1 := dk_seg dksX0_unmap_0 23 rfl rfl
theorem dksX0_unmap_2 : cX0_unmap.data.toList.drop 46 = dktX0_unmap_2 := dk_seg dksX0_unmap_1 23 rfl rfl
theorem dX0_unmap_0 : decode cX0_unmap 0 = .ok (.iload_n 1, 1) := dk_27 (dk_at dksX0_unmap_0 0 rfl rfl)
theorem dX0_unmap_1 : decode cX0_unmap 1 = .ok (.invokestatic 55, 3) := dk_184 0 55 (dk_at dksX0_unmap_0 1 rfl rfl)
theorem dX0_unmap_4 : decode cX0_unmap 4 = .ok (.ifCond .ne 10, 3) := dk_154 0 10 (dk_at dksX0_unmap_0 4 rfl rfl)
theorem dX0_unmap_7 : decode cX0_unmap 7 = .ok (.aload_n 0, 1) := dk_42 (dk_at dksX0_unmap_0 7 rfl rfl)
theorem dX0_unmap_8 : decode cX0_unmap 8 = .ok (.bipush (-2), 2) := dk_16 254 (dk_at dksX0_unmap_0 8 rfl rfl)
theorem dX0_unmap_10 : decode cX0_unmap 10 = .ok (.invokevirtual 59, 3) := dk_182 0 59 (dk_at dksX0_unmap_0 10 rfl rfl)
theorem dX0_unmap_13 : decode cX0_unmap 13 = .ok (.ireturn, 1) := dk_172 (dk_at dksX0_unmap_0 13 rfl rfl)
theorem dX0_unmap_14 : decode cX0_unmap 14 = .ok (.aload_n 0, 1) := dk_42 (dk_at dksX0_unmap_0 14 rfl rfl)
theorem dX0_unmap_15 : decode cX0_unmap 15 = .ok (.getfield 10, 3) := dk_180 0 10 (dk_at dksX0_unmap_0 15 rfl rfl)
theorem dX0_unmap_18 : decode cX0_unmap 18 = .ok (.getfield 99, 3) := dk_180 0 99 (dk_at dksX0_unmap_0 18 rfl rfl)
theorem dX0_unmap_21 : decode cX0_unmap 21 = .ok (.iload_n 1, 1) := dk_27 (dk_at dksX0_unmap_0 21 rfl rfl)
theorem dX0_unmap_22 : decode cX0_unmap 22 = .ok (.aaload, 1) := dk_50 (dk_at dksX0_unmap_0 22 rfl rfl)
theorem dX0_unmap_23 : decode cX0_unmap 23 = .ok (.ifnonnull 10, 3) := dk_199 0 10 (dk_at dksX0_unmap_1 0 rfl rfl)
theorem dX0_unmap_26 : decode cX0_unmap 26 = .ok (.aload_n 0, 1) := dk_42 (dk_at dksX0_unmap_1 3 rfl rfl)
theorem dX0_unmap_27 : decode cX0_unmap 27 = .ok (.bipush (-3), 2) := dk_16 253 (dk_at dksX0_unmap_1 4 rfl rfl)
theorem dX0_unmap_29 : decode cX0_unmap 29 = .ok (.invokevirtual 59, 3) := dk_182 0 59 (dk_at dksX0_unmap_1 6 rfl rfl)
theorem dX0_unmap_32 : decode cX0_unmap 32 = .ok (.ireturn, 1) := dk_172 (dk_at dksX0_unmap_1 9 rfl rfl)
theorem dX0_unmap_33 : decode cX0_unmap 33 = .ok (.aload_n 0, 1) := dk_42 (dk_at dksX0_unmap_1 10 rfl rfl)
theorem dX0_unmap_34 : decode cX0_unmap 34 = .ok (.invokevirtual 63, 3) := dk_182 0 63 (dk_at dksX0_unmap_1 11 rfl rfl)
theorem dX0_unmap_37 : decode cX0_unmap 37 = .ok (.aload_n 0, 1) := dk_42 (dk_at dksX0_unmap_1 14 rfl rfl)
theorem dX0_unmap_38 : decode cX0_unmap 38 = .ok (.getfield 10, 3) := dk_180 0 10 (dk_at dksX0_unmap_1 15 rfl rfl)
theorem dX0_unmap_41 : decode cX0_unmap 41 = .ok (.getfield 99, 3) := dk_180 0 99 (dk_at dksX0_unmap_1 18 rfl rfl)
theorem dX0_unmap_44 : decode cX0_unmap 44 = .ok (.iload_n 1, 1) := dk_27 (dk_at dksX0_unmap_1 21 rfl rfl)
theorem dX0_unmap_45 : decode cX0_unmap 45 = .ok (.aaload, 1) := dk_50 (dk_at dksX0_unmap_1 22 rfl rfl)
theorem dX0_unmap_46 : decode cX0_unmap 46 = .ok (.getfield 117, 3) := dk_180 0 117 (dk_at dksX0_unmap_2 0 rfl rfl)
theorem dX0_unmap_49 : decode cX0_unmap 49 = .ok (.istore_n 2, 1) := dk_61 (dk_at dksX0_unmap_2 3 rfl rfl)
theorem dX0_unmap_50 : decode cX0_unmap 50 = .ok (.aload_n 0, 1) := dk_42 (dk_at dksX0_unmap_2 4 rfl rfl)
theorem dX0_unmap_51 : decode cX0_unmap 51 = .ok (.getfield 10, 3) := dk_180 0 10 (dk_at dksX0_unmap_2 5 rfl rfl)
theorem dX0_unmap_54 : decode cX0_unmap 54 = .ok (.getfield 99, 3) := dk_180 0 99 (dk_at dksX0_unmap_2 8 rfl rfl)
theorem dX0_unmap_57 : decode cX0_unmap 57 = .ok (.iload_n 1, 1) := dk_27 (dk_at dksX0_unmap_2 11 rfl rfl)
theorem dX0_unmap_58 : decode cX0_unmap 58 = .ok (.aconst_null, 1) := dk_1 (dk_at dksX0_unmap_2 12 rfl rfl)
theorem dX0_unmap_59 : decode cX0_unmap 59 = .ok (.aastore, 1) := dk_83 (dk_at dksX0_unmap_2 13 rfl rfl)
theorem dX0_unmap_60 : decode cX0_unmap 60 = .ok (.iload_n 2, 1) := dk_28 (dk_at dksX0_unmap_2 14 rfl rfl)
theorem dX0_unmap_61 : decode cX0_unmap 61 = .ok (.ireturn, 1) := dk_172 (dk_at dksX0_unmap_2 15 rfl rfl)
abbrev cX0_setSource : ByteArray := prog_1_method_17_code
def yX0_setSource : MethodName := ⟨RX0, "setSource", "(III)I"⟩
def dkwX0_setSource_0 : List UInt8 := [42, 27, 28, 2, 29, 100, 29, 3, 5, 184, 0, 51, 182, 0, 127, 172]
abbrev dktX0_setSource_0 : List UInt8 := dkwX0_setSource_0 ++ []
theorem dksX0_setSource_0 : cX0_setSource.data.toList.drop 0 = dktX0_setSource_0 := by decide +kernel
theorem dX0_setSource_0 : decode cX0_setSource 0 = .ok (.aload_n 0, 1) := dk_42 (dk_at dksX0_setSource_0 0 rfl rfl)
theorem dX0_setSource_1 : decode cX0_setSource 1 = .ok (.iload_n 1, 1) := dk_27 (dk_at dksX0_setSource_0 1 rfl rfl)
theorem dX0_setSource_2 : decode cX0_setSource 2 = .ok (.iload_n 2, 1) := dk_28 (dk_at dksX0_setSource_0 2 rfl rfl)
theorem dX0_setSource_3 : decode cX0_setSource 3 = .ok (.iconst (-1), 1) := dk_2 (dk_at dksX0_setSource_0 3 rfl rfl)
theorem dX0_setSource_4 : decode cX0_setSource 4 = .ok (.iload_n 3, 1) := dk_29 (dk_at dksX0_setSource_0 4 rfl rfl)
theorem dX0_setSource_5 : decode cX0_setSource 5 = .ok (.isub, 1) := dk_100 (dk_at dksX0_setSource_0 5 rfl rfl)
theorem dX0_setSource_6 : decode cX0_setSource 6 = .ok (.iload_n 3, 1) := dk_29 (dk_at dksX0_setSource_0 6 rfl rfl)
theorem dX0_setSource_7 : decode cX0_setSource 7 = .ok (.iconst 0, 1) := dk_3 (dk_at dksX0_setSource_0 7 rfl rfl)
theorem dX0_setSource_8 : decode cX0_setSource 8 = .ok (.iconst 2, 1) := dk_5 (dk_at dksX0_setSource_0 8 rfl rfl)
theorem dX0_setSource_9 : decode cX0_setSource 9 = .ok (.invokestatic 51, 3) := dk_184 0 51 (dk_at dksX0_setSource_0 9 rfl rfl)
theorem dX0_setSource_12 : decode cX0_setSource 12 = .ok (.invokevirtual 127, 3) := dk_182 0 127 (dk_at dksX0_setSource_0 12 rfl rfl)
theorem dX0_setSource_15 : decode cX0_setSource 15 = .ok (.ireturn, 1) := dk_172 (dk_at dksX0_setSource_0 15 rfl rfl)
abbrev cX0_setEntry : ByteArray := prog_1_method_16_code
def yX0_setEntry : MethodName := ⟨RX0, "setEntry", "(IIIZ)I"⟩
def dkwX0_setEntry_3 : List UInt8 := [182, 0, 123, 83, 42, 27, 182, 0, 114, 172]
abbrev dktX0_setEntry_3 : List UInt8 := dkwX0_setEntry_3 ++ []
def dkwX0_setEntry_2 : List UInt8 := [182, 0, 63, 42, 180, 0, 10, 180, 0, 99, 27, 42, 180, 0, 10, 180, 0, 99, 27, 50, 28, 29]
abbrev dktX0_setEntry_2 : List UInt8 := dkwX0_setEntry_2 ++ dktX0_setEntry_3
def dkwX0_setEntry_1 : List UInt8 := [182, 0, 59, 172, 42, 180, 0, 10, 180, 0, 99, 27, 50, 199, 0, 10, 42, 16, 253, 182, 0, 59, 172, 42]
abbrev dktX0_setEntry_1 : List UInt8 := dkwX0_setEntry_1 ++ dktX0_setEntry_2
def dkwX0_setEntry_0 : List UInt8 := [27, 184, 0, 55, 153, 0, 15, 28, 184, 0, 120, 153, 0, 8, 21, 4, 154, 0, 10, 42, 16, 254]
abbrev dktX0_setEntry_0 : List UInt8 := dkwX0_setEntry_0 ++ dktX0_setEntry_1
theorem dksX0_setEntry_0 : cX0_setEntry.data.toList.drop 0 = dktX0_setEntry_0 := by decide +kernel
theorem dksX0_setEntry_1 : cX0_setEntry.data.toList.drop 22 = dktX0_setEntry_1 := dk_seg dksX0_setEntry_0 22 rfl rfl
theorem dksX0_setEntry_2 : cX0_setEntry.data.toList.drop 46 = dktX0_setEntry_2 := dk_seg dksX0_setEntry_1 24 rfl rfl
theorem dksX0_setEntry_3 : cX0_setEntry.data.toList.drop 68 = dktX0_setEntry_3 := dk_seg dksX0_setEntry_2 22 rfl rfl
theorem dX0_setEntry_0 : decode cX0_setEntry 0 = .ok (.iload_n 1, 1) := dk_27 (dk_at dksX0_setEntry_0 0 rfl rfl)
theorem dX0_setEntry_1 : decode cX0_setEntry 1 = .ok (.invokestatic 55, 3) := dk_184 0 55 (dk_at dksX0_setEntry_0 1 rfl rfl)
theorem dX0_setEntry_4 : decode cX0_setEntry 4 = .ok (.ifCond .eq 15, 3) := dk_153 0 15 (dk_at dksX0_setEntry_0 4 rfl rfl)
theorem dX0_setEntry_7 : decode cX0_setEntry 7 = .ok (.iload_n 2, 1) := dk_28 (dk_at dksX0_setEntry_0 7 rfl rfl)
theorem dX0_setEntry_8 : decode cX0_setEntry 8 = .ok (.invokestatic 120, 3) := dk_184 0 120 (dk_at dksX0_setEntry_0 8 rfl rfl)
theorem dX0_setEntry_11 : decode cX0_setEntry 11 = .ok (.ifCond .eq 8, 3) := dk_153 0 8 (dk_at dksX0_setEntry_0 11 rfl rfl)
theorem dX0_setEntry_14 : decode cX0_setEntry 14 = .ok (.iload 4, 2) := dk_21 4 (dk_at dksX0_setEntry_0 14 rfl rfl)
theorem dX0_setEntry_16 : decode cX0_setEntry 16 = .ok (.ifCond .ne 10, 3) := dk_154 0 10 (dk_at dksX0_setEntry_0 16 rfl rfl)
theorem dX0_setEntry_19 : decode cX0_setEntry 19 = .ok (.aload_n 0, 1) := dk_42 (dk_at dksX0_setEntry_0 19 rfl rfl)
theorem dX0_setEntry_20 : decode cX0_setEntry 20 = .ok (.bipush (-2), 2) := dk_16 254 (dk_at dksX0_setEntry_0 20 rfl rfl)
theorem dX0_setEntry_22 : decode cX0_setEntry 22 = .ok (.invokevirtual 59, 3) := dk_182 0 59 (dk_at dksX0_setEntry_1 0 rfl rfl)
theorem dX0_setEntry_25 : decode cX0_setEntry 25 = .ok (.ireturn, 1) := dk_172 (dk_at dksX0_setEntry_1 3 rfl rfl)
theorem dX0_setEntry_26 : decode cX0_setEntry 26 = .ok (.aload_n 0, 1) := dk_42 (dk_at dksX0_setEntry_1 4 rfl rfl)
theorem dX0_setEntry_27 : decode cX0_setEntry 27 = .ok (.getfield 10, 3) := dk_180 0 10 (dk_at dksX0_setEntry_1 5 rfl rfl)
theorem dX0_setEntry_30 : decode cX0_setEntry 30 = .ok (.getfield 99, 3) := dk_180 0 99 (dk_at dksX0_setEntry_1 8 rfl rfl)
theorem dX0_setEntry_33 : decode cX0_setEntry 33 = .ok (.iload_n 1, 1) := dk_27 (dk_at dksX0_setEntry_1 11 rfl rfl)
theorem dX0_setEntry_34 : decode cX0_setEntry 34 = .ok (.aaload, 1) := dk_50 (dk_at dksX0_setEntry_1 12 rfl rfl)
theorem dX0_setEntry_35 : decode cX0_setEntry 35 = .ok (.ifnonnull 10, 3) := dk_199 0 10 (dk_at dksX0_setEntry_1 13 rfl rfl)
theorem dX0_setEntry_38 : decode cX0_setEntry 38 = .ok (.aload_n 0, 1) := dk_42 (dk_at dksX0_setEntry_1 16 rfl rfl)
theorem dX0_setEntry_39 : decode cX0_setEntry 39 = .ok (.bipush (-3), 2) := dk_16 253 (dk_at dksX0_setEntry_1 17 rfl rfl)
theorem dX0_setEntry_41 : decode cX0_setEntry 41 = .ok (.invokevirtual 59, 3) := dk_182 0 59 (dk_at dksX0_setEntry_1 19 rfl rfl)
theorem dX0_setEntry_44 : decode cX0_setEntry 44 = .ok (.ireturn, 1) := dk_172 (dk_at dksX0_setEntry_1 22 rfl rfl)
theorem dX0_setEntry_45 : decode cX0_setEntry 45 = .ok (.aload_n 0, 1) := dk_42 (dk_at dksX0_setEntry_1 23 rfl rfl)
theorem dX0_setEntry_46 : decode cX0_setEntry 46 = .ok (.invokevirtual 63, 3) := dk_182 0 63 (dk_at dksX0_setEntry_2 0 rfl rfl)
theorem dX0_setEntry_49 : decode cX0_setEntry 49 = .ok (.aload_n 0, 1) := dk_42 (dk_at dksX0_setEntry_2 3 rfl rfl)
theorem dX0_setEntry_50 : decode cX0_setEntry 50 = .ok (.getfield 10, 3) := dk_180 0 10 (dk_at dksX0_setEntry_2 4 rfl rfl)
theorem dX0_setEntry_53 : decode cX0_setEntry 53 = .ok (.getfield 99, 3) := dk_180 0 99 (dk_at dksX0_setEntry_2 7 rfl rfl)
theorem dX0_setEntry_56 : decode cX0_setEntry 56 = .ok (.iload_n 1, 1) := dk_27 (dk_at dksX0_setEntry_2 10 rfl rfl)
theorem dX0_setEntry_57 : decode cX0_setEntry 57 = .ok (.aload_n 0, 1) := dk_42 (dk_at dksX0_setEntry_2 11 rfl rfl)
theorem dX0_setEntry_58 : decode cX0_setEntry 58 = .ok (.getfield 10, 3) := dk_180 0 10 (dk_at dksX0_setEntry_2 12 rfl rfl)
theorem dX0_setEntry_61 : decode cX0_setEntry 61 = .ok (.getfield 99, 3) := dk_180 0 99 (dk_at dksX0_setEntry_2 15 rfl rfl)
theorem dX0_setEntry_64 : decode cX0_setEntry 64 = .ok (.iload_n 1, 1) := dk_27 (dk_at dksX0_setEntry_2 18 rfl rfl)
theorem dX0_setEntry_65 : decode cX0_setEntry 65 = .ok (.aaload, 1) := dk_50 (dk_at dksX0_setEntry_2 19 rfl rfl)
theorem dX0_setEntry_66 : decode cX0_setEntry 66 = .ok (.iload_n 2, 1) := dk_28 (dk_at dksX0_setEntry_2 20 rfl rfl)
theorem dX0_setEntry_67 : decode cX0_setEntry 67 = .ok (.iload_n 3, 1) := dk_29 (dk_at dksX0_setEntry_2 21 rfl rfl)
theorem dX0_setEntry_68 : decode cX0_setEntry 68 = .ok (.invokevirtual 123, 3) := dk_182 0 123 (dk_at dksX0_setEntry_3 0 rfl rfl)
theorem dX0_setEntry_71 : decode cX0_setEntry 71 = .ok (.aastore, 1) := dk_83 (dk_at dksX0_setEntry_3 3 rfl rfl)
theorem dX0_setEntry_72 : decode cX0_setEntry 72 = .ok (.aload_n 0, 1) := dk_42 (dk_at dksX0_setEntry_3 4 rfl rfl)
theorem dX0_setEntry_73 : decode cX0_setEntry 73 = .ok (.iload_n 1, 1) := dk_27 (dk_at dksX0_setEntry_3 5 rfl rfl)
theorem dX0_setEntry_74 : decode cX0_setEntry 74 = .ok (.invokevirtual 114, 3) := dk_182 0 114 (dk_at dksX0_setEntry_3 6 rfl rfl)
theorem dX0_setEntry_77 : decode cX0_setEntry 77 = .ok (.ireturn, 1) := dk_172 (dk_at dksX0_setEntry_3 9 rfl rfl)
abbrev cX0_isPosition : ByteArray := prog_1_method_6_code
def yX0_isPosition : MethodName := ⟨RX0, "isPosition", "(I)Z"⟩
def dkwX0_isPosition_0 : List UInt8 := [26, 3, 6, 184, 0, 51, 172]
abbrev dktX0_isPosition_0 : List UInt8 := dkwX0_isPosition_0 ++ []
theorem dksX0_isPosition_0 : cX0_isPosition.data.toList.drop 0 = dktX0_isPosition_0 := by decide +kernel
theorem dX0_isPosition_0 : decode cX0_isPosition 0 = .ok (.iload_n 0, 1) := dk_26 (dk_at dksX0_isPosition_0 0 rfl rfl)
theorem dX0_isPosition_1 : decode cX0_isPosition 1 = .ok (.iconst 0, 1) := dk_3 (dk_at dksX0_isPosition_0 1 rfl rfl)
theorem dX0_isPosition_2 : decode cX0_isPosition 2 = .ok (.iconst 3, 1) := dk_6 (dk_at dksX0_isPosition_0 2 rfl rfl)
theorem dX0_isPosition_3 : decode cX0_isPosition 3 = .ok (.invokestatic 51, 3) := dk_184 0 51 (dk_at dksX0_isPosition_0 3 rfl rfl)
theorem dX0_isPosition_6 : decode cX0_isPosition 6 = .ok (.ireturn, 1) := dk_172 (dk_at dksX0_isPosition_0 6 rfl rfl)
abbrev cX0_setConstant : ByteArray := prog_1_method_18_code
def yX0_setConstant : MethodName := ⟨RX0, "setConstant", "(III)I"⟩
def dkwX0_setConstant_0 : List UInt8 := [42, 27, 28, 29, 29, 3, 16, 99, 184, 0, 51, 182, 0, 127, 172]
abbrev dktX0_setConstant_0 : List UInt8 := dkwX0_setConstant_0 ++ []
theorem dksX0_setConstant_0 : cX0_setConstant.data.toList.drop 0 = dktX0_setConstant_0 := by decide +kernel
theorem dX0_setConstant_0 : decode cX0_setConstant 0 = .ok (.aload_n 0, 1) := dk_42 (dk_at dksX0_setConstant_0 0 rfl rfl)
theorem dX0_setConstant_1 : decode cX0_setConstant 1 = .ok (.iload_n 1, 1) := dk_27 (dk_at dksX0_setConstant_0 1 rfl rfl)
theorem dX0_setConstant_2 : decode cX0_setConstant 2 = .ok (.iload_n 2, 1) := dk_28 (dk_at dksX0_setConstant_0 2 rfl rfl)
theorem dX0_setConstant_3 : decode cX0_setConstant 3 = .ok (.iload_n 3, 1) := dk_29 (dk_at dksX0_setConstant_0 3 rfl rfl)
theorem dX0_setConstant_4 : decode cX0_setConstant 4 = .ok (.iload_n 3, 1) := dk_29 (dk_at dksX0_setConstant_0 4 rfl rfl)
theorem dX0_setConstant_5 : decode cX0_setConstant 5 = .ok (.iconst 0, 1) := dk_3 (dk_at dksX0_setConstant_0 5 rfl rfl)
theorem dX0_setConstant_6 : decode cX0_setConstant 6 = .ok (.bipush 99, 2) := dk_16 99 (dk_at dksX0_setConstant_0 6 rfl rfl)
theorem dX0_setConstant_8 : decode cX0_setConstant 8 = .ok (.invokestatic 51, 3) := dk_184 0 51 (dk_at dksX0_setConstant_0 8 rfl rfl)
theorem dX0_setConstant_11 : decode cX0_setConstant 11 = .ok (.invokevirtual 127, 3) := dk_182 0 127 (dk_at dksX0_setConstant_0 11 rfl rfl)
theorem dX0_setConstant_14 : decode cX0_setConstant 14 = .ok (.ireturn, 1) := dk_172 (dk_at dksX0_setConstant_0 14 rfl rfl)
abbrev cX0_isFaithful : ByteArray := prog_1_method_19_code
def yX0_isFaithful : MethodName := ⟨RX0, "isFaithful", "(I)I"⟩
def dkwX0_isFaithful_1 : List UInt8 := [199, 0, 12, 42, 16, 253, 182, 0, 59, 167, 0, 8, 42, 27, 182, 0, 114, 172]
abbrev dktX0_isFaithful_1 : List UInt8 := dkwX0_isFaithful_1 ++ []
def dkwX0_isFaithful_0 : List UInt8 := [27, 184, 0, 55, 154, 0, 10, 42, 16, 254, 182, 0, 59, 172, 42, 180, 0, 10, 180, 0, 99, 27, 50]
abbrev dktX0_isFaithful_0 : List UInt8 := dkwX0_isFaithful_0 ++ dktX0_isFaithful_1
theorem dksX0_isFaithful_0 : cX0_isFaithful.data.toList.drop 0 = dktX0_isFaithful_0 := by decide +kernel
theorem dksX0_isFaithful_1 : cX0_isFaithful.data.toList.drop 23 = dktX0_isFaithful_1 := dk_seg dksX0_isFaithful_0 23 rfl rfl
theorem dX0_isFaithful_0 : decode cX0_isFaithful 0 = .ok (.iload_n 1, 1) := dk_27 (dk_at dksX0_isFaithful_0 0 rfl rfl)
theorem dX0_isFaithful_1 : decode cX0_isFaithful 1 = .ok (.invokestatic 55, 3) := dk_184 0 55 (dk_at dksX0_isFaithful_0 1 rfl rfl)
theorem dX0_isFaithful_4 : decode cX0_isFaithful 4 = .ok (.ifCond .ne 10, 3) := dk_154 0 10 (dk_at dksX0_isFaithful_0 4 rfl rfl)
theorem dX0_isFaithful_7 : decode cX0_isFaithful 7 = .ok (.aload_n 0, 1) := dk_42 (dk_at dksX0_isFaithful_0 7 rfl rfl)
theorem dX0_isFaithful_8 : decode cX0_isFaithful 8 = .ok (.bipush (-2), 2) := dk_16 254 (dk_at dksX0_isFaithful_0 8 rfl rfl)
theorem dX0_isFaithful_10 : decode cX0_isFaithful 10 = .ok (.invokevirtual 59, 3) := dk_182 0 59 (dk_at dksX0_isFaithful_0 10 rfl rfl)
theorem dX0_isFaithful_13 : decode cX0_isFaithful 13 = .ok (.ireturn, 1) := dk_172 (dk_at dksX0_isFaithful_0 13 rfl rfl)
theorem dX0_isFaithful_14 : decode cX0_isFaithful 14 = .ok (.aload_n 0, 1) := dk_42 (dk_at dksX0_isFaithful_0 14 rfl rfl)
theorem dX0_isFaithful_15 : decode cX0_isFaithful 15 = .ok (.getfield 10, 3) := dk_180 0 10 (dk_at dksX0_isFaithful_0 15 rfl rfl)
theorem dX0_isFaithful_18 : decode cX0_isFaithful 18 = .ok (.getfield 99, 3) := dk_180 0 99 (dk_at dksX0_isFaithful_0 18 rfl rfl)
theorem dX0_isFaithful_21 : decode cX0_isFaithful 21 = .ok (.iload_n 1, 1) := dk_27 (dk_at dksX0_isFaithful_0 21 rfl rfl)
theorem dX0_isFaithful_22 : decode cX0_isFaithful 22 = .ok (.aaload, 1) := dk_50 (dk_at dksX0_isFaithful_0 22 rfl rfl)
theorem dX0_isFaithful_23 : decode cX0_isFaithful 23 = .ok (.ifnonnull 12, 3) := dk_199 0 12 (dk_at dksX0_isFaithful_1 0 rfl rfl)
theorem dX0_isFaithful_26 : decode cX0_isFaithful 26 = .ok (.aload_n 0, 1) := dk_42 (dk_at dksX0_isFaithful_1 3 rfl rfl)
theorem dX0_isFaithful_27 : decode cX0_isFaithful 27 = .ok (.bipush (-3), 2) := dk_16 253 (dk_at dksX0_isFaithful_1 4 rfl rfl)
theorem dX0_isFaithful_29 : decode cX0_isFaithful 29 = .ok (.invokevirtual 59, 3) := dk_182 0 59 (dk_at dksX0_isFaithful_1 6 rfl rfl)
theorem dX0_isFaithful_32 : decode cX0_isFaithful 32 = .ok (.goto 8, 3) := dk_167 0 8 (dk_at dksX0_isFaithful_1 9 rfl rfl)
theorem dX0_isFaithful_35 : decode cX0_isFaithful 35 = .ok (.aload_n 0, 1) := dk_42 (dk_at dksX0_isFaithful_1 12 rfl rfl)
theorem dX0_isFaithful_36 : decode cX0_isFaithful 36 = .ok (.iload_n 1, 1) := dk_27 (dk_at dksX0_isFaithful_1 13 rfl rfl)
theorem dX0_isFaithful_37 : decode cX0_isFaithful 37 = .ok (.invokevirtual 114, 3) := dk_182 0 114 (dk_at dksX0_isFaithful_1 14 rfl rfl)
theorem dX0_isFaithful_40 : decode cX0_isFaithful 40 = .ok (.ireturn, 1) := dk_172 (dk_at dksX0_isFaithful_1 17 rfl rfl)
abbrev cX0_allowAdapters : ByteArray := prog_1_method_20_code
def yX0_allowAdapters : MethodName := ⟨RX0, "allowAdapters", "(I)I"⟩
def dkwX0_allowAdapters_1 : List UInt8 := [180, 0, 131, 61, 42, 180, 0, 10, 27, 181, 0, 131, 28, 172]
abbrev dktX0_allowAdapters_1 : List UInt8 := dkwX0_allowAdapters_1 ++ []
def dkwX0_allowAdapters_0 : List UInt8 := [27, 3, 4, 184, 0, 51, 154, 0, 10, 42, 16, 254, 182, 0, 59, 172, 42, 182, 0, 63, 42, 180, 0, 10]
abbrev dktX0_allowAdapters_0 : List UInt8 := dkwX0_allowAdapters_0 ++ dktX0_allowAdapters_1
theorem dksX0_allowAdapters_0 : cX0_allowAdapters.data.toList.drop 0 = dktX0_allowAdapters_0 := by decide +kernel
theorem dksX0_allowAdapters_1 : cX0_allowAdapters.data.toList.drop 24 = dktX0_allowAdapters_1 := dk_seg dksX0_allowAdapters_0 24 rfl rfl
theorem dX0_allowAdapters_0 : decode cX0_allowAdapters 0 = .ok (.iload_n 1, 1) := dk_27 (dk_at dksX0_allowAdapters_0 0 rfl rfl)
theorem dX0_allowAdapters_1 : decode cX0_allowAdapters 1 = .ok (.iconst 0, 1) := dk_3 (dk_at dksX0_allowAdapters_0 1 rfl rfl)
theorem dX0_allowAdapters_2 : decode cX0_allowAdapters 2 = .ok (.iconst 1, 1) := dk_4 (dk_at dksX0_allowAdapters_0 2 rfl rfl)
theorem dX0_allowAdapters_3 : decode cX0_allowAdapters 3 = .ok (.invokestatic 51, 3) := dk_184 0 51 (dk_at dksX0_allowAdapters_0 3 rfl rfl)
theorem dX0_allowAdapters_6 : decode cX0_allowAdapters 6 = .ok (.ifCond .ne 10, 3) := dk_154 0 10 (dk_at dksX0_allowAdapters_0 6 rfl rfl)
theorem dX0_allowAdapters_9 : decode cX0_allowAdapters 9 = .ok (.aload_n 0, 1) := dk_42 (dk_at dksX0_allowAdapters_0 9 rfl rfl)
theorem dX0_allowAdapters_10 : decode cX0_allowAdapters 10 = .ok (.bipush (-2), 2) := dk_16 254 (dk_at dksX0_allowAdapters_0 10 rfl rfl)
theorem dX0_allowAdapters_12 : decode cX0_allowAdapters 12 = .ok (.invokevirtual 59, 3) := dk_182 0 59 (dk_at dksX0_allowAdapters_0 12 rfl rfl)
theorem dX0_allowAdapters_15 : decode cX0_allowAdapters 15 = .ok (.ireturn, 1) := dk_172 (dk_at dksX0_allowAdapters_0 15 rfl rfl)
theorem dX0_allowAdapters_16 : decode cX0_allowAdapters 16 = .ok (.aload_n 0, 1) := dk_42 (dk_at dksX0_allowAdapters_0 16 rfl rfl)
theorem dX0_allowAdapters_17 : decode cX0_allowAdapters 17 = .ok (.invokevirtual 63, 3) := dk_182 0 63 (dk_at dksX0_allowAdapters_0 17 rfl rfl)
theorem dX0_allowAdapters_20 : decode cX0_allowAdapters 20 = .ok (.aload_n 0, 1) := dk_42 (dk_at dksX0_allowAdapters_0 20 rfl rfl)
theorem dX0_allowAdapters_21 : decode cX0_allowAdapters 21 = .ok (.getfield 10, 3) := dk_180 0 10 (dk_at dksX0_allowAdapters_0 21 rfl rfl)
theorem dX0_allowAdapters_24 : decode cX0_allowAdapters 24 = .ok (.getfield 131, 3) := dk_180 0 131 (dk_at dksX0_allowAdapters_1 0 rfl rfl)
theorem dX0_allowAdapters_27 : decode cX0_allowAdapters 27 = .ok (.istore_n 2, 1) := dk_61 (dk_at dksX0_allowAdapters_1 3 rfl rfl)
theorem dX0_allowAdapters_28 : decode cX0_allowAdapters 28 = .ok (.aload_n 0, 1) := dk_42 (dk_at dksX0_allowAdapters_1 4 rfl rfl)
theorem dX0_allowAdapters_29 : decode cX0_allowAdapters 29 = .ok (.getfield 10, 3) := dk_180 0 10 (dk_at dksX0_allowAdapters_1 5 rfl rfl)
theorem dX0_allowAdapters_32 : decode cX0_allowAdapters 32 = .ok (.iload_n 1, 1) := dk_27 (dk_at dksX0_allowAdapters_1 8 rfl rfl)
theorem dX0_allowAdapters_33 : decode cX0_allowAdapters 33 = .ok (.putfield 131, 3) := dk_181 0 131 (dk_at dksX0_allowAdapters_1 9 rfl rfl)
theorem dX0_allowAdapters_36 : decode cX0_allowAdapters 36 = .ok (.iload_n 2, 1) := dk_28 (dk_at dksX0_allowAdapters_1 12 rfl rfl)
theorem dX0_allowAdapters_37 : decode cX0_allowAdapters 37 = .ok (.ireturn, 1) := dk_172 (dk_at dksX0_allowAdapters_1 13 rfl rfl)
abbrev cX0_adapterOf : ByteArray := prog_1_method_21_code
def yX0_adapterOf : MethodName := ⟨RX0, "adapterOf", "(I)I"⟩
def dkwX0_adapterOf_1 : List UInt8 := [160, 0, 12, 42, 16, 253, 182, 0, 59, 167, 0, 12, 42, 180, 0, 10, 180, 0, 134, 27, 46, 172]
abbrev dktX0_adapterOf_1 : List UInt8 := dkwX0_adapterOf_1 ++ []
def dkwX0_adapterOf_0 : List UInt8 := [27, 184, 0, 55, 154, 0, 10, 42, 16, 254, 182, 0, 59, 172, 42, 180, 0, 10, 180, 0, 134, 27, 46, 2]
abbrev dktX0_adapterOf_0 : List UInt8 := dkwX0_adapterOf_0 ++ dktX0_adapterOf_1
theorem dksX0_adapterOf_0 : cX0_adapterOf.data.toList.drop 0 = dktX0_adapterOf_0 := by decide +kernel
theorem dksX0_adapterOf_1 : cX0_adapterOf.data.toList.drop 24 = dktX0_adapterOf_1 := dk_seg dksX0_adapterOf_0 24 rfl rfl
theorem dX0_adapterOf_0 : decode cX0_adapterOf 0 = .ok (.iload_n 1, 1) := dk_27 (dk_at dksX0_adapterOf_0 0 rfl rfl)
theorem dX0_adapterOf_1 : decode cX0_adapterOf 1 = .ok (.invokestatic 55, 3) := dk_184 0 55 (dk_at dksX0_adapterOf_0 1 rfl rfl)
theorem dX0_adapterOf_4 : decode cX0_adapterOf 4 = .ok (.ifCond .ne 10, 3) := dk_154 0 10 (dk_at dksX0_adapterOf_0 4 rfl rfl)
theorem dX0_adapterOf_7 : decode cX0_adapterOf 7 = .ok (.aload_n 0, 1) := dk_42 (dk_at dksX0_adapterOf_0 7 rfl rfl)
theorem dX0_adapterOf_8 : decode cX0_adapterOf 8 = .ok (.bipush (-2), 2) := dk_16 254 (dk_at dksX0_adapterOf_0 8 rfl rfl)
theorem dX0_adapterOf_10 : decode cX0_adapterOf 10 = .ok (.invokevirtual 59, 3) := dk_182 0 59 (dk_at dksX0_adapterOf_0 10 rfl rfl)
theorem dX0_adapterOf_13 : decode cX0_adapterOf 13 = .ok (.ireturn, 1) := dk_172 (dk_at dksX0_adapterOf_0 13 rfl rfl)
theorem dX0_adapterOf_14 : decode cX0_adapterOf 14 = .ok (.aload_n 0, 1) := dk_42 (dk_at dksX0_adapterOf_0 14 rfl rfl)
theorem dX0_adapterOf_15 : decode cX0_adapterOf 15 = .ok (.getfield 10, 3) := dk_180 0 10 (dk_at dksX0_adapterOf_0 15 rfl rfl)
theorem dX0_adapterOf_18 : decode cX0_adapterOf 18 = .ok (.getfield 134, 3) := dk_180 0 134 (dk_at dksX0_adapterOf_0 18 rfl rfl)
theorem dX0_adapterOf_21 : decode cX0_adapterOf 21 = .ok (.iload_n 1, 1) := dk_27 (dk_at dksX0_adapterOf_0 21 rfl rfl)
theorem dX0_adapterOf_22 : decode cX0_adapterOf 22 = .ok (.iaload, 1) := dk_46 (dk_at dksX0_adapterOf_0 22 rfl rfl)
theorem dX0_adapterOf_23 : decode cX0_adapterOf 23 = .ok (.iconst (-1), 1) := dk_2 (dk_at dksX0_adapterOf_0 23 rfl rfl)
theorem dX0_adapterOf_24 : decode cX0_adapterOf 24 = .ok (.if_icmp .ne 12, 3) := dk_160 0 12 (dk_at dksX0_adapterOf_1 0 rfl rfl)
theorem dX0_adapterOf_27 : decode cX0_adapterOf 27 = .ok (.aload_n 0, 1) := dk_42 (dk_at dksX0_adapterOf_1 3 rfl rfl)
theorem dX0_adapterOf_28 : decode cX0_adapterOf 28 = .ok (.bipush (-3), 2) := dk_16 253 (dk_at dksX0_adapterOf_1 4 rfl rfl)
theorem dX0_adapterOf_30 : decode cX0_adapterOf 30 = .ok (.invokevirtual 59, 3) := dk_182 0 59 (dk_at dksX0_adapterOf_1 6 rfl rfl)
theorem dX0_adapterOf_33 : decode cX0_adapterOf 33 = .ok (.goto 12, 3) := dk_167 0 12 (dk_at dksX0_adapterOf_1 9 rfl rfl)
theorem dX0_adapterOf_36 : decode cX0_adapterOf 36 = .ok (.aload_n 0, 1) := dk_42 (dk_at dksX0_adapterOf_1 12 rfl rfl)
theorem dX0_adapterOf_37 : decode cX0_adapterOf 37 = .ok (.getfield 10, 3) := dk_180 0 10 (dk_at dksX0_adapterOf_1 13 rfl rfl)
theorem dX0_adapterOf_40 : decode cX0_adapterOf 40 = .ok (.getfield 134, 3) := dk_180 0 134 (dk_at dksX0_adapterOf_1 16 rfl rfl)
theorem dX0_adapterOf_43 : decode cX0_adapterOf 43 = .ok (.iload_n 1, 1) := dk_27 (dk_at dksX0_adapterOf_1 19 rfl rfl)
theorem dX0_adapterOf_44 : decode cX0_adapterOf 44 = .ok (.iaload, 1) := dk_46 (dk_at dksX0_adapterOf_1 20 rfl rfl)
theorem dX0_adapterOf_45 : decode cX0_adapterOf 45 = .ok (.ireturn, 1) := dk_172 (dk_at dksX0_adapterOf_1 21 rfl rfl)
abbrev cX0_append : ByteArray := prog_1_method_22_code
def yX0_append : MethodName := ⟨RX0, "append", "(I)I"⟩
def dkwX0_append_2 : List UInt8 := [180, 0, 137, 4, 96, 181, 0, 137, 42, 180, 0, 137, 172]
abbrev dktX0_append_2 : List UInt8 := dkwX0_append_2 ++ []
def dkwX0_append_1 : List UInt8 := [160, 0, 10, 42, 16, 252, 182, 0, 59, 172, 42, 180, 0, 20, 42, 180, 0, 137, 27, 145, 84, 42, 89]
abbrev dktX0_append_1 : List UInt8 := dkwX0_append_1 ++ dktX0_append_2
def dkwX0_append_0 : List UInt8 := [27, 3, 16, 127, 184, 0, 51, 154, 0, 10, 42, 16, 254, 182, 0, 59, 172, 42, 180, 0, 137, 16, 120]
abbrev dktX0_append_0 : List UInt8 := dkwX0_append_0 ++ dktX0_append_1
theorem dksX0_append_0 : cX0_append.data.toList.drop 0 = dktX0_append_0 := by decide +kernel
theorem dksX0_append_1 : cX0_append.data.toList.drop 23 = dktX0_append_1 := dk_seg dksX0_append_0 23 rfl rfl
theorem dksX0_append_2 : cX0_append.data.toList.drop 46 = dktX0_append_2 := dk_seg dksX0_append_1 23 rfl rfl
theorem dX0_append_0 : decode cX0_append 0 = .ok (.iload_n 1, 1) := dk_27 (dk_at dksX0_append_0 0 rfl rfl)
theorem dX0_append_1 : decode cX0_append 1 = .ok (.iconst 0, 1) := dk_3 (dk_at dksX0_append_0 1 rfl rfl)
theorem dX0_append_2 : decode cX0_append 2 = .ok (.bipush 127, 2) := dk_16 127 (dk_at dksX0_append_0 2 rfl rfl)
theorem dX0_append_4 : decode cX0_append 4 = .ok (.invokestatic 51, 3) := dk_184 0 51 (dk_at dksX0_append_0 4 rfl rfl)
theorem dX0_append_7 : decode cX0_append 7 = .ok (.ifCond .ne 10, 3) := dk_154 0 10 (dk_at dksX0_append_0 7 rfl rfl)
theorem dX0_append_10 : decode cX0_append 10 = .ok (.aload_n 0, 1) := dk_42 (dk_at dksX0_append_0 10 rfl rfl)
theorem dX0_append_11 : decode cX0_append 11 = .ok (.bipush (-2), 2) := dk_16 254 (dk_at dksX0_append_0 11 rfl rfl)
theorem dX0_append_13 : decode cX0_append 13 = .ok (.invokevirtual 59, 3) := dk_182 0 59 (dk_at dksX0_append_0 13 rfl rfl)
theorem dX0_append_16 : decode cX0_append 16 = .ok (.ireturn, 1) := dk_172 (dk_at dksX0_append_0 16 rfl rfl)
theorem dX0_append_17 : decode cX0_append 17 = .ok (.aload_n 0, 1) := dk_42 (dk_at dksX0_append_0 17 rfl rfl)
theorem dX0_append_18 : decode cX0_append 18 = .ok (.getfield 137, 3) := dk_180 0 137 (dk_at dksX0_append_0 18 rfl rfl)
theorem dX0_append_21 : decode cX0_append 21 = .ok (.bipush 120, 2) := dk_16 120 (dk_at dksX0_append_0 21 rfl rfl)
theorem dX0_append_23 : decode cX0_append 23 = .ok (.if_icmp .ne 10, 3) := dk_160 0 10 (dk_at dksX0_append_1 0 rfl rfl)
theorem dX0_append_26 : decode cX0_append 26 = .ok (.aload_n 0, 1) := dk_42 (dk_at dksX0_append_1 3 rfl rfl)
theorem dX0_append_27 : decode cX0_append 27 = .ok (.bipush (-4), 2) := dk_16 252 (dk_at dksX0_append_1 4 rfl rfl)
theorem dX0_append_29 : decode cX0_append 29 = .ok (.invokevirtual 59, 3) := dk_182 0 59 (dk_at dksX0_append_1 6 rfl rfl)
theorem dX0_append_32 : decode cX0_append 32 = .ok (.ireturn, 1) := dk_172 (dk_at dksX0_append_1 9 rfl rfl)
theorem dX0_append_33 : decode cX0_append 33 = .ok (.aload_n 0, 1) := dk_42 (dk_at dksX0_append_1 10 rfl rfl)
theorem dX0_append_34 : decode cX0_append 34 = .ok (.getfield 20, 3) := dk_180 0 20 (dk_at dksX0_append_1 11 rfl rfl)
theorem dX0_append_37 : decode cX0_append 37 = .ok (.aload_n 0, 1) := dk_42 (dk_at dksX0_append_1 14 rfl rfl)
theorem dX0_append_38 : decode cX0_append 38 = .ok (.getfield 137, 3) := dk_180 0 137 (dk_at dksX0_append_1 15 rfl rfl)
theorem dX0_append_41 : decode cX0_append 41 = .ok (.iload_n 1, 1) := dk_27 (dk_at dksX0_append_1 18 rfl rfl)
theorem dX0_append_42 : decode cX0_append 42 = .ok (.i2b, 1) := dk_145 (dk_at dksX0_append_1 19 rfl rfl)
theorem dX0_append_43 : decode cX0_append 43 = .ok (.bastore, 1) := dk_84 (dk_at dksX0_append_1 20 rfl rfl)
theorem dX0_append_44 : decode cX0_append 44 = .ok (.aload_n 0, 1) := dk_42 (dk_at dksX0_append_1 21 rfl rfl)
theorem dX0_append_45 : decode cX0_append 45 = .ok (.dup, 1) := dk_89 (dk_at dksX0_append_1 22 rfl rfl)
theorem dX0_append_46 : decode cX0_append 46 = .ok (.getfield 137, 3) := dk_180 0 137 (dk_at dksX0_append_2 0 rfl rfl)
theorem dX0_append_49 : decode cX0_append 49 = .ok (.iconst 1, 1) := dk_4 (dk_at dksX0_append_2 3 rfl rfl)
theorem dX0_append_50 : decode cX0_append 50 = .ok (.iadd, 1) := dk_96 (dk_at dksX0_append_2 4 rfl rfl)
theorem dX0_append_51 : decode cX0_append 51 = .ok (.putfield 137, 3) := dk_181 0 137 (dk_at dksX0_append_2 5 rfl rfl)
theorem dX0_append_54 : decode cX0_append 54 = .ok (.aload_n 0, 1) := dk_42 (dk_at dksX0_append_2 8 rfl rfl)
theorem dX0_append_55 : decode cX0_append 55 = .ok (.getfield 137, 3) := dk_180 0 137 (dk_at dksX0_append_2 9 rfl rfl)
theorem dX0_append_58 : decode cX0_append 58 = .ok (.ireturn, 1) := dk_172 (dk_at dksX0_append_2 12 rfl rfl)
abbrev cX0_clearText : ByteArray := prog_1_method_23_code
def yX0_clearText : MethodName := ⟨RX0, "clearText", "()I"⟩
def dkwX0_clearText_0 : List UInt8 := [42, 180, 0, 137, 60, 42, 3, 181, 0, 137, 27, 172]
abbrev dktX0_clearText_0 : List UInt8 := dkwX0_clearText_0 ++ []
theorem dksX0_clearText_0 : cX0_clearText.data.toList.drop 0 = dktX0_clearText_0 := by decide +kernel
theorem dX0_clearText_0 : decode cX0_clearText 0 = .ok (.aload_n 0, 1) := dk_42 (dk_at dksX0_clearText_0 0 rfl rfl)
theorem dX0_clearText_1 : decode cX0_clearText 1 = .ok (.getfield 137, 3) := dk_180 0 137 (dk_at dksX0_clearText_0 1 rfl rfl)
theorem dX0_clearText_4 : decode cX0_clearText 4 = .ok (.istore_n 1, 1) := dk_60 (dk_at dksX0_clearText_0 4 rfl rfl)
theorem dX0_clearText_5 : decode cX0_clearText 5 = .ok (.aload_n 0, 1) := dk_42 (dk_at dksX0_clearText_0 5 rfl rfl)
theorem dX0_clearText_6 : decode cX0_clearText 6 = .ok (.iconst 0, 1) := dk_3 (dk_at dksX0_clearText_0 6 rfl rfl)
theorem dX0_clearText_7 : decode cX0_clearText 7 = .ok (.putfield 137, 3) := dk_181 0 137 (dk_at dksX0_clearText_0 7 rfl rfl)
theorem dX0_clearText_10 : decode cX0_clearText 10 = .ok (.iload_n 1, 1) := dk_27 (dk_at dksX0_clearText_0 10 rfl rfl)
theorem dX0_clearText_11 : decode cX0_clearText 11 = .ok (.ireturn, 1) := dk_172 (dk_at dksX0_clearText_0 11 rfl rfl)
abbrev cX0_parse : ByteArray := prog_1_method_24_code
def yX0_parse : MethodName := ⟨RX0, "parse", "()I"⟩
def dkwX0_parse_1 : List UInt8 := [172, 76, 16, 246, 43, 180, 0, 155, 100, 172]
abbrev dktX0_parse_1 : List UInt8 := dkwX0_parse_1 ++ []
def dkwX0_parse_0 : List UInt8 := [42, 180, 0, 33, 182, 0, 140, 76, 42, 182, 0, 63, 42, 180, 0, 10, 43, 181, 0, 144, 43, 180, 0, 148]
abbrev dktX0_parse_0 : List UInt8 := dkwX0_parse_0 ++ dktX0_parse_1
theorem dksX0_parse_0 : cX0_parse.data.toList.drop 0 = dktX0_parse_0 := by decide +kernel
theorem dksX0_parse_1 : cX0_parse.data.toList.drop 24 = dktX0_parse_1 := dk_seg dksX0_parse_0 24 rfl rfl
theorem dX0_parse_0 : decode cX0_parse 0 = .ok (.aload_n 0, 1) := dk_42 (dk_at dksX0_parse_0 0 rfl rfl)
theorem dX0_parse_1 : decode cX0_parse 1 = .ok (.getfield 33, 3) := dk_180 0 33 (dk_at dksX0_parse_0 1 rfl rfl)
theorem dX0_parse_4 : decode cX0_parse 4 = .ok (.invokevirtual 140, 3) := dk_182 0 140 (dk_at dksX0_parse_0 4 rfl rfl)
theorem dX0_parse_7 : decode cX0_parse 7 = .ok (.astore_n 1, 1) := dk_76 (dk_at dksX0_parse_0 7 rfl rfl)
theorem dX0_parse_8 : decode cX0_parse 8 = .ok (.aload_n 0, 1) := dk_42 (dk_at dksX0_parse_0 8 rfl rfl)
theorem dX0_parse_9 : decode cX0_parse 9 = .ok (.invokevirtual 63, 3) := dk_182 0 63 (dk_at dksX0_parse_0 9 rfl rfl)
theorem dX0_parse_12 : decode cX0_parse 12 = .ok (.aload_n 0, 1) := dk_42 (dk_at dksX0_parse_0 12 rfl rfl)
theorem dX0_parse_13 : decode cX0_parse 13 = .ok (.getfield 10, 3) := dk_180 0 10 (dk_at dksX0_parse_0 13 rfl rfl)
theorem dX0_parse_16 : decode cX0_parse 16 = .ok (.aload_n 1, 1) := dk_43 (dk_at dksX0_parse_0 16 rfl rfl)
theorem dX0_parse_17 : decode cX0_parse 17 = .ok (.putfield 144, 3) := dk_181 0 144 (dk_at dksX0_parse_0 17 rfl rfl)
theorem dX0_parse_20 : decode cX0_parse 20 = .ok (.aload_n 1, 1) := dk_43 (dk_at dksX0_parse_0 20 rfl rfl)
theorem dX0_parse_21 : decode cX0_parse 21 = .ok (.getfield 148, 3) := dk_180 0 148 (dk_at dksX0_parse_0 21 rfl rfl)
theorem dX0_parse_24 : decode cX0_parse 24 = .ok (.ireturn, 1) := dk_172 (dk_at dksX0_parse_1 0 rfl rfl)
theorem dX0_parse_25 : decode cX0_parse 25 = .ok (.astore_n 1, 1) := dk_76 (dk_at dksX0_parse_1 1 rfl rfl)
theorem dX0_parse_26 : decode cX0_parse 26 = .ok (.bipush (-10), 2) := dk_16 246 (dk_at dksX0_parse_1 2 rfl rfl)
theorem dX0_parse_28 : decode cX0_parse 28 = .ok (.aload_n 1, 1) := dk_43 (dk_at dksX0_parse_1 4 rfl rfl)
theorem dX0_parse_29 : decode cX0_parse 29 = .ok (.getfield 155, 3) := dk_180 0 155 (dk_at dksX0_parse_1 5 rfl rfl)
theorem dX0_parse_32 : decode cX0_parse 32 = .ok (.isub, 1) := dk_100 (dk_at dksX0_parse_1 8 rfl rfl)
theorem dX0_parse_33 : decode cX0_parse 33 = .ok (.ireturn, 1) := dk_172 (dk_at dksX0_parse_1 9 rfl rfl)
abbrev cX0_migrate : ByteArray := prog_1_method_25_code
def yX0_migrate : MethodName := ⟨RX0, "migrate", "()I"⟩
def dkwX0_migrate_1 : List UInt8 := [42, 180, 0, 10, 43, 42, 180, 0, 10, 180, 0, 144, 182, 0, 170, 181, 0, 144, 43, 180, 0, 174, 172]
abbrev dktX0_migrate_1 : List UInt8 := dkwX0_migrate_1 ++ []
def dkwX0_migrate_0 : List UInt8 := [42, 182, 0, 63, 42, 180, 0, 10, 180, 0, 158, 3, 184, 0, 161, 187, 0, 167, 89, 42, 183, 0, 169, 76]
abbrev dktX0_migrate_0 : List UInt8 := dkwX0_migrate_0 ++ dktX0_migrate_1
theorem dksX0_migrate_0 : cX0_migrate.data.toList.drop 0 = dktX0_migrate_0 := by decide +kernel
theorem dksX0_migrate_1 : cX0_migrate.data.toList.drop 24 = dktX0_migrate_1 := dk_seg dksX0_migrate_0 24 rfl rfl
theorem dX0_migrate_0 : decode cX0_migrate 0 = .ok (.aload_n 0, 1) := dk_42 (dk_at dksX0_migrate_0 0 rfl rfl)
theorem dX0_migrate_1 : decode cX0_migrate 1 = .ok (.invokevirtual 63, 3) := dk_182 0 63 (dk_at dksX0_migrate_0 1 rfl rfl)
theorem dX0_migrate_4 : decode cX0_migrate 4 = .ok (.aload_n 0, 1) := dk_42 (dk_at dksX0_migrate_0 4 rfl rfl)
theorem dX0_migrate_5 : decode cX0_migrate 5 = .ok (.getfield 10, 3) := dk_180 0 10 (dk_at dksX0_migrate_0 5 rfl rfl)
theorem dX0_migrate_8 : decode cX0_migrate 8 = .ok (.getfield 158, 3) := dk_180 0 158 (dk_at dksX0_migrate_0 8 rfl rfl)
theorem dX0_migrate_11 : decode cX0_migrate 11 = .ok (.iconst 0, 1) := dk_3 (dk_at dksX0_migrate_0 11 rfl rfl)
theorem dX0_migrate_12 : decode cX0_migrate 12 = .ok (.invokestatic 161, 3) := dk_184 0 161 (dk_at dksX0_migrate_0 12 rfl rfl)
theorem dX0_migrate_15 : decode cX0_migrate 15 = .ok (.new 167, 3) := dk_187 0 167 (dk_at dksX0_migrate_0 15 rfl rfl)
theorem dX0_migrate_18 : decode cX0_migrate 18 = .ok (.dup, 1) := dk_89 (dk_at dksX0_migrate_0 18 rfl rfl)
theorem dX0_migrate_19 : decode cX0_migrate 19 = .ok (.aload_n 0, 1) := dk_42 (dk_at dksX0_migrate_0 19 rfl rfl)
theorem dX0_migrate_20 : decode cX0_migrate 20 = .ok (.invokespecial 169, 3) := dk_183 0 169 (dk_at dksX0_migrate_0 20 rfl rfl)
theorem dX0_migrate_23 : decode cX0_migrate 23 = .ok (.astore_n 1, 1) := dk_76 (dk_at dksX0_migrate_0 23 rfl rfl)
theorem dX0_migrate_24 : decode cX0_migrate 24 = .ok (.aload_n 0, 1) := dk_42 (dk_at dksX0_migrate_1 0 rfl rfl)
theorem dX0_migrate_25 : decode cX0_migrate 25 = .ok (.getfield 10, 3) := dk_180 0 10 (dk_at dksX0_migrate_1 1 rfl rfl)
theorem dX0_migrate_28 : decode cX0_migrate 28 = .ok (.aload_n 1, 1) := dk_43 (dk_at dksX0_migrate_1 4 rfl rfl)
theorem dX0_migrate_29 : decode cX0_migrate 29 = .ok (.aload_n 0, 1) := dk_42 (dk_at dksX0_migrate_1 5 rfl rfl)
theorem dX0_migrate_30 : decode cX0_migrate 30 = .ok (.getfield 10, 3) := dk_180 0 10 (dk_at dksX0_migrate_1 6 rfl rfl)
theorem dX0_migrate_33 : decode cX0_migrate 33 = .ok (.getfield 144, 3) := dk_180 0 144 (dk_at dksX0_migrate_1 9 rfl rfl)
theorem dX0_migrate_36 : decode cX0_migrate 36 = .ok (.invokevirtual 170, 3) := dk_182 0 170 (dk_at dksX0_migrate_1 12 rfl rfl)
theorem dX0_migrate_39 : decode cX0_migrate 39 = .ok (.putfield 144, 3) := dk_181 0 144 (dk_at dksX0_migrate_1 15 rfl rfl)
theorem dX0_migrate_42 : decode cX0_migrate 42 = .ok (.aload_n 1, 1) := dk_43 (dk_at dksX0_migrate_1 18 rfl rfl)
theorem dX0_migrate_43 : decode cX0_migrate 43 = .ok (.getfield 174, 3) := dk_180 0 174 (dk_at dksX0_migrate_1 19 rfl rfl)
theorem dX0_migrate_46 : decode cX0_migrate 46 = .ok (.ireturn, 1) := dk_172 (dk_at dksX0_migrate_1 22 rfl rfl)
abbrev cX0_left : ByteArray := prog_1_method_26_code
def yX0_left : MethodName := ⟨RX0, "left", "(I)I"⟩
def dkwX0_left_1 : List UInt8 := [16, 254, 182, 0, 59, 172]
abbrev dktX0_left_1 : List UInt8 := dkwX0_left_1 ++ []
def dkwX0_left_0 : List UInt8 := [27, 4, 16, 7, 184, 0, 51, 153, 0, 15, 42, 180, 0, 10, 180, 0, 158, 27, 46, 167, 0, 9, 42]
abbrev dktX0_left_0 : List UInt8 := dkwX0_left_0 ++ dktX0_left_1
theorem dksX0_left_0 : cX0_left.data.toList.drop 0 = dktX0_left_0 := by decide +kernel
theorem dksX0_left_1 : cX0_left.data.toList.drop 23 = dktX0_left_1 := dk_seg dksX0_left_0 23 rfl rfl
theorem dX0_left_0 : decode cX0_left 0 = .ok (.iload_n 1, 1) := dk_27 (dk_at dksX0_left_0 0 rfl rfl)
theorem dX0_left_1 : decode cX0_left 1 = .ok (.iconst 1, 1) := dk_4 (dk_at dksX0_left_0 1 rfl rfl)
theorem dX0_left_2 : decode cX0_left 2 = .ok (.bipush 7, 2) := dk_16 7 (dk_at dksX0_left_0 2 rfl rfl)
theorem dX0_left_4 : decode cX0_left 4 = .ok (.invokestatic 51, 3) := dk_184 0 51 (dk_at dksX0_left_0 4 rfl rfl)
theorem dX0_left_7 : decode cX0_left 7 = .ok (.ifCond .eq 15, 3) := dk_153 0 15 (dk_at dksX0_left_0 7 rfl rfl)
theorem dX0_left_10 : decode cX0_left 10 = .ok (.aload_n 0, 1) := dk_42 (dk_at dksX0_left_0 10 rfl rfl)
theorem dX0_left_11 : decode cX0_left 11 = .ok (.getfield 10, 3) := dk_180 0 10 (dk_at dksX0_left_0 11 rfl rfl)
theorem dX0_left_14 : decode cX0_left 14 = .ok (.getfield 158, 3) := dk_180 0 158 (dk_at dksX0_left_0 14 rfl rfl)
theorem dX0_left_17 : decode cX0_left 17 = .ok (.iload_n 1, 1) := dk_27 (dk_at dksX0_left_0 17 rfl rfl)
theorem dX0_left_18 : decode cX0_left 18 = .ok (.iaload, 1) := dk_46 (dk_at dksX0_left_0 18 rfl rfl)
theorem dX0_left_19 : decode cX0_left 19 = .ok (.goto 9, 3) := dk_167 0 9 (dk_at dksX0_left_0 19 rfl rfl)
theorem dX0_left_22 : decode cX0_left 22 = .ok (.aload_n 0, 1) := dk_42 (dk_at dksX0_left_0 22 rfl rfl)
theorem dX0_left_23 : decode cX0_left 23 = .ok (.bipush (-2), 2) := dk_16 254 (dk_at dksX0_left_1 0 rfl rfl)
theorem dX0_left_25 : decode cX0_left 25 = .ok (.invokevirtual 59, 3) := dk_182 0 59 (dk_at dksX0_left_1 2 rfl rfl)
theorem dX0_left_28 : decode cX0_left 28 = .ok (.ireturn, 1) := dk_172 (dk_at dksX0_left_1 5 rfl rfl)
abbrev cX0_sites : ByteArray := prog_1_method_27_code
def yX0_sites : MethodName := ⟨RX0, "sites", "()I"⟩
def dkwX0_sites_0 : List UInt8 := [42, 180, 0, 10, 180, 0, 144, 182, 0, 177, 172]
abbrev dktX0_sites_0 : List UInt8 := dkwX0_sites_0 ++ []
theorem dksX0_sites_0 : cX0_sites.data.toList.drop 0 = dktX0_sites_0 := by decide +kernel
theorem dX0_sites_0 : decode cX0_sites 0 = .ok (.aload_n 0, 1) := dk_42 (dk_at dksX0_sites_0 0 rfl rfl)
theorem dX0_sites_1 : decode cX0_sites 1 = .ok (.getfield 10, 3) := dk_180 0 10 (dk_at dksX0_sites_0 1 rfl rfl)
theorem dX0_sites_4 : decode cX0_sites 4 = .ok (.getfield 144, 3) := dk_180 0 144 (dk_at dksX0_sites_0 4 rfl rfl)
theorem dX0_sites_7 : decode cX0_sites 7 = .ok (.invokevirtual 177, 3) := dk_182 0 177 (dk_at dksX0_sites_0 7 rfl rfl)
theorem dX0_sites_10 : decode cX0_sites 10 = .ok (.ireturn, 1) := dk_172 (dk_at dksX0_sites_0 10 rfl rfl)
abbrev cX0_nodes : ByteArray := prog_1_method_28_code
def yX0_nodes : MethodName := ⟨RX0, "nodes", "()I"⟩
def dkwX0_nodes_0 : List UInt8 := [42, 180, 0, 10, 180, 0, 144, 180, 0, 148, 172]
abbrev dktX0_nodes_0 : List UInt8 := dkwX0_nodes_0 ++ []
theorem dksX0_nodes_0 : cX0_nodes.data.toList.drop 0 = dktX0_nodes_0 := by decide +kernel
theorem dX0_nodes_0 : decode cX0_nodes 0 = .ok (.aload_n 0, 1) := dk_42 (dk_at dksX0_nodes_0 0 rfl rfl)
theorem dX0_nodes_1 : decode cX0_nodes 1 = .ok (.getfield 10, 3) := dk_180 0 10 (dk_at dksX0_nodes_0 1 rfl rfl)
theorem dX0_nodes_4 : decode cX0_nodes 4 = .ok (.getfield 144, 3) := dk_180 0 144 (dk_at dksX0_nodes_0 4 rfl rfl)
theorem dX0_nodes_7 : decode cX0_nodes 7 = .ok (.getfield 148, 3) := dk_180 0 148 (dk_at dksX0_nodes_0 7 rfl rfl)
theorem dX0_nodes_10 : decode cX0_nodes 10 = .ok (.ireturn, 1) := dk_172 (dk_at dksX0_nodes_0 10 rfl rfl)
abbrev cX0_value : ByteArray := prog_1_method_29_code
def yX0_value : MethodName := ⟨RX0, "value", "(II)I"⟩
def dkwX0_value_2 : List UInt8 := [172]
abbrev dktX0_value_2 : List UInt8 := dkwX0_value_2 ++ []
def dkwX0_value_1 : List UInt8 := [180, 0, 10, 42, 180, 0, 10, 180, 0, 144, 27, 28, 182, 0, 181, 167, 0, 9, 42, 16, 254, 182, 0, 59]
abbrev dktX0_value_1 : List UInt8 := dkwX0_value_1 ++ dktX0_value_2
def dkwX0_value_0 : List UInt8 := [27, 3, 17, 3, 231, 184, 0, 51, 153, 0, 33, 28, 3, 17, 3, 231, 184, 0, 51, 153, 0, 22, 42]
abbrev dktX0_value_0 : List UInt8 := dkwX0_value_0 ++ dktX0_value_1
theorem dksX0_value_0 : cX0_value.data.toList.drop 0 = dktX0_value_0 := by decide +kernel
theorem dksX0_value_1 : cX0_value.data.toList.drop 23 = dktX0_value_1 := dk_seg dksX0_value_0 23 rfl rfl
theorem dksX0_value_2 : cX0_value.data.toList.drop 47 = dktX0_value_2 := dk_seg dksX0_value_1 24 rfl rfl
theorem dX0_value_0 : decode cX0_value 0 = .ok (.iload_n 1, 1) := dk_27 (dk_at dksX0_value_0 0 rfl rfl)
theorem dX0_value_1 : decode cX0_value 1 = .ok (.iconst 0, 1) := dk_3 (dk_at dksX0_value_0 1 rfl rfl)
theorem dX0_value_2 : decode cX0_value 2 = .ok (.sipush 999, 3) := dk_17 3 231 (dk_at dksX0_value_0 2 rfl rfl)
theorem dX0_value_5 : decode cX0_value 5 = .ok (.invokestatic 51, 3) := dk_184 0 51 (dk_at dksX0_value_0 5 rfl rfl)
theorem dX0_value_8 : decode cX0_value 8 = .ok (.ifCond .eq 33, 3) := dk_153 0 33 (dk_at dksX0_value_0 8 rfl rfl)
theorem dX0_value_11 : decode cX0_value 11 = .ok (.iload_n 2, 1) := dk_28 (dk_at dksX0_value_0 11 rfl rfl)
theorem dX0_value_12 : decode cX0_value 12 = .ok (.iconst 0, 1) := dk_3 (dk_at dksX0_value_0 12 rfl rfl)
theorem dX0_value_13 : decode cX0_value 13 = .ok (.sipush 999, 3) := dk_17 3 231 (dk_at dksX0_value_0 13 rfl rfl)
theorem dX0_value_16 : decode cX0_value 16 = .ok (.invokestatic 51, 3) := dk_184 0 51 (dk_at dksX0_value_0 16 rfl rfl)
theorem dX0_value_19 : decode cX0_value 19 = .ok (.ifCond .eq 22, 3) := dk_153 0 22 (dk_at dksX0_value_0 19 rfl rfl)
theorem dX0_value_22 : decode cX0_value 22 = .ok (.aload_n 0, 1) := dk_42 (dk_at dksX0_value_0 22 rfl rfl)
theorem dX0_value_23 : decode cX0_value 23 = .ok (.getfield 10, 3) := dk_180 0 10 (dk_at dksX0_value_1 0 rfl rfl)
theorem dX0_value_26 : decode cX0_value 26 = .ok (.aload_n 0, 1) := dk_42 (dk_at dksX0_value_1 3 rfl rfl)
theorem dX0_value_27 : decode cX0_value 27 = .ok (.getfield 10, 3) := dk_180 0 10 (dk_at dksX0_value_1 4 rfl rfl)
theorem dX0_value_30 : decode cX0_value 30 = .ok (.getfield 144, 3) := dk_180 0 144 (dk_at dksX0_value_1 7 rfl rfl)
theorem dX0_value_33 : decode cX0_value 33 = .ok (.iload_n 1, 1) := dk_27 (dk_at dksX0_value_1 10 rfl rfl)
theorem dX0_value_34 : decode cX0_value 34 = .ok (.iload_n 2, 1) := dk_28 (dk_at dksX0_value_1 11 rfl rfl)
theorem dX0_value_35 : decode cX0_value 35 = .ok (.invokevirtual 181, 3) := dk_182 0 181 (dk_at dksX0_value_1 12 rfl rfl)
theorem dX0_value_38 : decode cX0_value 38 = .ok (.goto 9, 3) := dk_167 0 9 (dk_at dksX0_value_1 15 rfl rfl)
theorem dX0_value_41 : decode cX0_value 41 = .ok (.aload_n 0, 1) := dk_42 (dk_at dksX0_value_1 18 rfl rfl)
theorem dX0_value_42 : decode cX0_value 42 = .ok (.bipush (-2), 2) := dk_16 254 (dk_at dksX0_value_1 19 rfl rfl)
theorem dX0_value_44 : decode cX0_value 44 = .ok (.invokevirtual 59, 3) := dk_182 0 59 (dk_at dksX0_value_1 21 rfl rfl)
theorem dX0_value_47 : decode cX0_value 47 = .ok (.ireturn, 1) := dk_172 (dk_at dksX0_value_2 0 rfl rfl)
abbrev cX0_textByte : ByteArray := prog_1_method_31_code
def yX0_textByte : MethodName := ⟨RX0, "textByte", "(I)I"⟩
def dkwX0_textByte_1 : List UInt8 := [182, 0, 196, 167, 0, 20, 27, 44, 182, 0, 196, 162, 0, 11, 44, 27, 182, 0, 199, 167, 0, 4, 2, 172]
abbrev dktX0_textByte_1 : List UInt8 := dkwX0_textByte_1 ++ []
def dkwX0_textByte_0 : List UInt8 := [27, 2, 162, 0, 10, 42, 16, 254, 182, 0, 59, 172, 42, 182, 0, 192, 77, 27, 2, 160, 0, 10, 44]
abbrev dktX0_textByte_0 : List UInt8 := dkwX0_textByte_0 ++ dktX0_textByte_1
theorem dksX0_textByte_0 : cX0_textByte.data.toList.drop 0 = dktX0_textByte_0 := by decide +kernel
theorem dksX0_textByte_1 : cX0_textByte.data.toList.drop 23 = dktX0_textByte_1 := dk_seg dksX0_textByte_0 23 rfl rfl
theorem dX0_textByte_0 : decode cX0_textByte 0 = .ok (.iload_n 1, 1) := dk_27 (dk_at dksX0_textByte_0 0 rfl rfl)
theorem dX0_textByte_1 : decode cX0_textByte 1 = .ok (.iconst (-1), 1) := dk_2 (dk_at dksX0_textByte_0 1 rfl rfl)
theorem dX0_textByte_2 : decode cX0_textByte 2 = .ok (.if_icmp .ge 10, 3) := dk_162 0 10 (dk_at dksX0_textByte_0 2 rfl rfl)
theorem dX0_textByte_5 : decode cX0_textByte 5 = .ok (.aload_n 0, 1) := dk_42 (dk_at dksX0_textByte_0 5 rfl rfl)
theorem dX0_textByte_6 : decode cX0_textByte 6 = .ok (.bipush (-2), 2) := dk_16 254 (dk_at dksX0_textByte_0 6 rfl rfl)
theorem dX0_textByte_8 : decode cX0_textByte 8 = .ok (.invokevirtual 59, 3) := dk_182 0 59 (dk_at dksX0_textByte_0 8 rfl rfl)
theorem dX0_textByte_11 : decode cX0_textByte 11 = .ok (.ireturn, 1) := dk_172 (dk_at dksX0_textByte_0 11 rfl rfl)
theorem dX0_textByte_12 : decode cX0_textByte 12 = .ok (.aload_n 0, 1) := dk_42 (dk_at dksX0_textByte_0 12 rfl rfl)
theorem dX0_textByte_13 : decode cX0_textByte 13 = .ok (.invokevirtual 192, 3) := dk_182 0 192 (dk_at dksX0_textByte_0 13 rfl rfl)
theorem dX0_textByte_16 : decode cX0_textByte 16 = .ok (.astore_n 2, 1) := dk_77 (dk_at dksX0_textByte_0 16 rfl rfl)
theorem dX0_textByte_17 : decode cX0_textByte 17 = .ok (.iload_n 1, 1) := dk_27 (dk_at dksX0_textByte_0 17 rfl rfl)
theorem dX0_textByte_18 : decode cX0_textByte 18 = .ok (.iconst (-1), 1) := dk_2 (dk_at dksX0_textByte_0 18 rfl rfl)
theorem dX0_textByte_19 : decode cX0_textByte 19 = .ok (.if_icmp .ne 10, 3) := dk_160 0 10 (dk_at dksX0_textByte_0 19 rfl rfl)
theorem dX0_textByte_22 : decode cX0_textByte 22 = .ok (.aload_n 2, 1) := dk_44 (dk_at dksX0_textByte_0 22 rfl rfl)
theorem dX0_textByte_23 : decode cX0_textByte 23 = .ok (.invokevirtual 196, 3) := dk_182 0 196 (dk_at dksX0_textByte_1 0 rfl rfl)
theorem dX0_textByte_26 : decode cX0_textByte 26 = .ok (.goto 20, 3) := dk_167 0 20 (dk_at dksX0_textByte_1 3 rfl rfl)
theorem dX0_textByte_29 : decode cX0_textByte 29 = .ok (.iload_n 1, 1) := dk_27 (dk_at dksX0_textByte_1 6 rfl rfl)
theorem dX0_textByte_30 : decode cX0_textByte 30 = .ok (.aload_n 2, 1) := dk_44 (dk_at dksX0_textByte_1 7 rfl rfl)
theorem dX0_textByte_31 : decode cX0_textByte 31 = .ok (.invokevirtual 196, 3) := dk_182 0 196 (dk_at dksX0_textByte_1 8 rfl rfl)
theorem dX0_textByte_34 : decode cX0_textByte 34 = .ok (.if_icmp .ge 11, 3) := dk_162 0 11 (dk_at dksX0_textByte_1 11 rfl rfl)
theorem dX0_textByte_37 : decode cX0_textByte 37 = .ok (.aload_n 2, 1) := dk_44 (dk_at dksX0_textByte_1 14 rfl rfl)
theorem dX0_textByte_38 : decode cX0_textByte 38 = .ok (.iload_n 1, 1) := dk_27 (dk_at dksX0_textByte_1 15 rfl rfl)
theorem dX0_textByte_39 : decode cX0_textByte 39 = .ok (.invokevirtual 199, 3) := dk_182 0 199 (dk_at dksX0_textByte_1 16 rfl rfl)
theorem dX0_textByte_42 : decode cX0_textByte 42 = .ok (.goto 4, 3) := dk_167 0 4 (dk_at dksX0_textByte_1 19 rfl rfl)
theorem dX0_textByte_45 : decode cX0_textByte 45 = .ok (.iconst (-1), 1) := dk_2 (dk_at dksX0_textByte_1 22 rfl rfl)
theorem dX0_textByte_46 : decode cX0_textByte 46 = .ok (.ireturn, 1) := dk_172 (dk_at dksX0_textByte_1 23 rfl rfl)
abbrev cX0_programText : ByteArray := prog_1_method_30_code
def yX0_programText : MethodName := ⟨RX0, "programText", "()Ljava/lang/StringBuilder;"⟩
def dkwX0_programText_0 : List UInt8 := [187, 0, 185, 89, 183, 0, 187, 76, 42, 180, 0, 10, 180, 0, 144, 43, 182, 0, 188, 43, 176]
abbrev dktX0_programText_0 : List UInt8 := dkwX0_programText_0 ++ []
theorem dksX0_programText_0 : cX0_programText.data.toList.drop 0 = dktX0_programText_0 := by decide +kernel
theorem dX0_programText_0 : decode cX0_programText 0 = .ok (.new 185, 3) := dk_187 0 185 (dk_at dksX0_programText_0 0 rfl rfl)
theorem dX0_programText_3 : decode cX0_programText 3 = .ok (.dup, 1) := dk_89 (dk_at dksX0_programText_0 3 rfl rfl)
theorem dX0_programText_4 : decode cX0_programText 4 = .ok (.invokespecial 187, 3) := dk_183 0 187 (dk_at dksX0_programText_0 4 rfl rfl)
theorem dX0_programText_7 : decode cX0_programText 7 = .ok (.astore_n 1, 1) := dk_76 (dk_at dksX0_programText_0 7 rfl rfl)
theorem dX0_programText_8 : decode cX0_programText 8 = .ok (.aload_n 0, 1) := dk_42 (dk_at dksX0_programText_0 8 rfl rfl)
theorem dX0_programText_9 : decode cX0_programText 9 = .ok (.getfield 10, 3) := dk_180 0 10 (dk_at dksX0_programText_0 9 rfl rfl)
theorem dX0_programText_12 : decode cX0_programText 12 = .ok (.getfield 144, 3) := dk_180 0 144 (dk_at dksX0_programText_0 12 rfl rfl)
theorem dX0_programText_15 : decode cX0_programText 15 = .ok (.aload_n 1, 1) := dk_43 (dk_at dksX0_programText_0 15 rfl rfl)
theorem dX0_programText_16 : decode cX0_programText 16 = .ok (.invokevirtual 188, 3) := dk_182 0 188 (dk_at dksX0_programText_0 16 rfl rfl)
theorem dX0_programText_19 : decode cX0_programText 19 = .ok (.aload_n 1, 1) := dk_43 (dk_at dksX0_programText_0 19 rfl rfl)
theorem dX0_programText_20 : decode cX0_programText 20 = .ok (.areturn, 1) := dk_176 (dk_at dksX0_programText_0 20 rfl rfl)
abbrev cX0_undo : ByteArray := prog_1_method_32_code
def yX0_undo : MethodName := ⟨RX0, "undo", "()I"⟩
def dkwX0_undo_1 : List UInt8 := [42, 180, 0, 10, 42, 180, 0, 16, 42, 180, 0, 37, 50, 182, 0, 47, 42, 180, 0, 37, 172]
abbrev dktX0_undo_1 : List UInt8 := dkwX0_undo_1 ++ []
def dkwX0_undo_0 : List UInt8 := [42, 180, 0, 37, 154, 0, 10, 42, 16, 251, 182, 0, 59, 172, 42, 89, 180, 0, 37, 4, 100, 181, 0, 37]
abbrev dktX0_undo_0 : List UInt8 := dkwX0_undo_0 ++ dktX0_undo_1
theorem dksX0_undo_0 : cX0_undo.data.toList.drop 0 = dktX0_undo_0 := by decide +kernel
theorem dksX0_undo_1 : cX0_undo.data.toList.drop 24 = dktX0_undo_1 := dk_seg dksX0_undo_0 24 rfl rfl
theorem dX0_undo_0 : decode cX0_undo 0 = .ok (.aload_n 0, 1) := dk_42 (dk_at dksX0_undo_0 0 rfl rfl)
theorem dX0_undo_1 : decode cX0_undo 1 = .ok (.getfield 37, 3) := dk_180 0 37 (dk_at dksX0_undo_0 1 rfl rfl)
theorem dX0_undo_4 : decode cX0_undo 4 = .ok (.ifCond .ne 10, 3) := dk_154 0 10 (dk_at dksX0_undo_0 4 rfl rfl)
theorem dX0_undo_7 : decode cX0_undo 7 = .ok (.aload_n 0, 1) := dk_42 (dk_at dksX0_undo_0 7 rfl rfl)
theorem dX0_undo_8 : decode cX0_undo 8 = .ok (.bipush (-5), 2) := dk_16 251 (dk_at dksX0_undo_0 8 rfl rfl)
theorem dX0_undo_10 : decode cX0_undo 10 = .ok (.invokevirtual 59, 3) := dk_182 0 59 (dk_at dksX0_undo_0 10 rfl rfl)
theorem dX0_undo_13 : decode cX0_undo 13 = .ok (.ireturn, 1) := dk_172 (dk_at dksX0_undo_0 13 rfl rfl)
theorem dX0_undo_14 : decode cX0_undo 14 = .ok (.aload_n 0, 1) := dk_42 (dk_at dksX0_undo_0 14 rfl rfl)
theorem dX0_undo_15 : decode cX0_undo 15 = .ok (.dup, 1) := dk_89 (dk_at dksX0_undo_0 15 rfl rfl)
theorem dX0_undo_16 : decode cX0_undo 16 = .ok (.getfield 37, 3) := dk_180 0 37 (dk_at dksX0_undo_0 16 rfl rfl)
theorem dX0_undo_19 : decode cX0_undo 19 = .ok (.iconst 1, 1) := dk_4 (dk_at dksX0_undo_0 19 rfl rfl)
theorem dX0_undo_20 : decode cX0_undo 20 = .ok (.isub, 1) := dk_100 (dk_at dksX0_undo_0 20 rfl rfl)
theorem dX0_undo_21 : decode cX0_undo 21 = .ok (.putfield 37, 3) := dk_181 0 37 (dk_at dksX0_undo_0 21 rfl rfl)
theorem dX0_undo_24 : decode cX0_undo 24 = .ok (.aload_n 0, 1) := dk_42 (dk_at dksX0_undo_1 0 rfl rfl)
theorem dX0_undo_25 : decode cX0_undo 25 = .ok (.getfield 10, 3) := dk_180 0 10 (dk_at dksX0_undo_1 1 rfl rfl)
theorem dX0_undo_28 : decode cX0_undo 28 = .ok (.aload_n 0, 1) := dk_42 (dk_at dksX0_undo_1 4 rfl rfl)
theorem dX0_undo_29 : decode cX0_undo 29 = .ok (.getfield 16, 3) := dk_180 0 16 (dk_at dksX0_undo_1 5 rfl rfl)
theorem dX0_undo_32 : decode cX0_undo 32 = .ok (.aload_n 0, 1) := dk_42 (dk_at dksX0_undo_1 8 rfl rfl)
theorem dX0_undo_33 : decode cX0_undo 33 = .ok (.getfield 37, 3) := dk_180 0 37 (dk_at dksX0_undo_1 9 rfl rfl)
theorem dX0_undo_36 : decode cX0_undo 36 = .ok (.aaload, 1) := dk_50 (dk_at dksX0_undo_1 12 rfl rfl)
theorem dX0_undo_37 : decode cX0_undo 37 = .ok (.invokevirtual 47, 3) := dk_182 0 47 (dk_at dksX0_undo_1 13 rfl rfl)
theorem dX0_undo_40 : decode cX0_undo 40 = .ok (.aload_n 0, 1) := dk_42 (dk_at dksX0_undo_1 16 rfl rfl)
theorem dX0_undo_41 : decode cX0_undo 41 = .ok (.getfield 37, 3) := dk_180 0 37 (dk_at dksX0_undo_1 17 rfl rfl)
theorem dX0_undo_44 : decode cX0_undo 44 = .ok (.ireturn, 1) := dk_172 (dk_at dksX0_undo_1 20 rfl rfl)
abbrev cX0_errorCount : ByteArray := prog_1_method_33_code
def yX0_errorCount : MethodName := ⟨RX0, "errorCount", "(I)I"⟩
def dkwX0_errorCount_1 : List UInt8 := [182, 0, 59, 172]
abbrev dktX0_errorCount_1 : List UInt8 := dkwX0_errorCount_1 ++ []
def dkwX0_errorCount_0 : List UInt8 := [27, 16, 251, 16, 254, 184, 0, 51, 153, 0, 13, 42, 180, 0, 24, 27, 116, 46, 167, 0, 9, 42, 16, 254]
abbrev dktX0_errorCount_0 : List UInt8 := dkwX0_errorCount_0 ++ dktX0_errorCount_1
theorem dksX0_errorCount_0 : cX0_errorCount.data.toList.drop 0 = dktX0_errorCount_0 := by decide +kernel
theorem dksX0_errorCount_1 : cX0_errorCount.data.toList.drop 24 = dktX0_errorCount_1 := dk_seg dksX0_errorCount_0 24 rfl rfl
theorem dX0_errorCount_0 : decode cX0_errorCount 0 = .ok (.iload_n 1, 1) := dk_27 (dk_at dksX0_errorCount_0 0 rfl rfl)
theorem dX0_errorCount_1 : decode cX0_errorCount 1 = .ok (.bipush (-5), 2) := dk_16 251 (dk_at dksX0_errorCount_0 1 rfl rfl)
theorem dX0_errorCount_3 : decode cX0_errorCount 3 = .ok (.bipush (-2), 2) := dk_16 254 (dk_at dksX0_errorCount_0 3 rfl rfl)
theorem dX0_errorCount_5 : decode cX0_errorCount 5 = .ok (.invokestatic 51, 3) := dk_184 0 51 (dk_at dksX0_errorCount_0 5 rfl rfl)
theorem dX0_errorCount_8 : decode cX0_errorCount 8 = .ok (.ifCond .eq 13, 3) := dk_153 0 13 (dk_at dksX0_errorCount_0 8 rfl rfl)
theorem dX0_errorCount_11 : decode cX0_errorCount 11 = .ok (.aload_n 0, 1) := dk_42 (dk_at dksX0_errorCount_0 11 rfl rfl)
theorem dX0_errorCount_12 : decode cX0_errorCount 12 = .ok (.getfield 24, 3) := dk_180 0 24 (dk_at dksX0_errorCount_0 12 rfl rfl)
theorem dX0_errorCount_15 : decode cX0_errorCount 15 = .ok (.iload_n 1, 1) := dk_27 (dk_at dksX0_errorCount_0 15 rfl rfl)
theorem dX0_errorCount_16 : decode cX0_errorCount 16 = .ok (.ineg, 1) := dk_116 (dk_at dksX0_errorCount_0 16 rfl rfl)
theorem dX0_errorCount_17 : decode cX0_errorCount 17 = .ok (.iaload, 1) := dk_46 (dk_at dksX0_errorCount_0 17 rfl rfl)
theorem dX0_errorCount_18 : decode cX0_errorCount 18 = .ok (.goto 9, 3) := dk_167 0 9 (dk_at dksX0_errorCount_0 18 rfl rfl)
theorem dX0_errorCount_21 : decode cX0_errorCount 21 = .ok (.aload_n 0, 1) := dk_42 (dk_at dksX0_errorCount_0 21 rfl rfl)
theorem dX0_errorCount_22 : decode cX0_errorCount 22 = .ok (.bipush (-2), 2) := dk_16 254 (dk_at dksX0_errorCount_0 22 rfl rfl)
theorem dX0_errorCount_24 : decode cX0_errorCount 24 = .ok (.invokevirtual 59, 3) := dk_182 0 59 (dk_at dksX0_errorCount_1 0 rfl rfl)
theorem dX0_errorCount_27 : decode cX0_errorCount 27 = .ok (.ireturn, 1) := dk_172 (dk_at dksX0_errorCount_1 3 rfl rfl)
abbrev cX0_digest : ByteArray := prog_1_method_36_code
def yX0_digest : MethodName := ⟨RX0, "digest", "()J"⟩
def dkwX0_digest_11 : List UInt8 := [180, 0, 37, 79, 184, 0, 211, 173]
abbrev dktX0_digest_11 : List UInt8 := dkwX0_digest_11 ++ []
def dkwX0_digest_10 : List UInt8 := [180, 0, 158, 21, 4, 46, 79, 184, 0, 211, 64, 132, 4, 1, 167, 255, 225, 31, 4, 188, 10, 89, 3, 42]
abbrev dktX0_digest_10 : List UInt8 := dkwX0_digest_10 ++ dktX0_digest_11
def dkwX0_digest_9 : List UInt8 := [184, 0, 211, 64, 4, 54, 4, 21, 4, 16, 7, 163, 0, 30, 31, 4, 188, 10, 89, 3, 42, 180, 0, 10]
abbrev dktX0_digest_9 : List UInt8 := dkwX0_digest_9 ++ dktX0_digest_10
def dkwX0_digest_8 : List UInt8 := [132, 4, 1, 167, 255, 227, 31, 4, 188, 10, 89, 3, 42, 180, 0, 10, 180, 0, 144, 182, 0, 177, 79]
abbrev dktX0_digest_8 : List UInt8 := dkwX0_digest_8 ++ dktX0_digest_9
def dkwX0_digest_7 : List UInt8 := [182, 0, 196, 162, 0, 26, 31, 4, 188, 10, 89, 3, 45, 21, 4, 182, 0, 199, 79, 184, 0, 211, 64]
abbrev dktX0_digest_7 : List UInt8 := dkwX0_digest_7 ++ dktX0_digest_8
def dkwX0_digest_6 : List UInt8 := [3, 42, 180, 0, 10, 180, 0, 131, 79, 184, 0, 211, 64, 42, 182, 0, 192, 78, 3, 54, 4, 21, 4, 45]
abbrev dktX0_digest_6 : List UInt8 := dkwX0_digest_6 ++ dktX0_digest_7
def dkwX0_digest_5 : List UInt8 := [180, 0, 10, 180, 0, 134, 29, 46, 79, 184, 0, 211, 64, 132, 3, 1, 167, 255, 201, 31, 4, 188, 10, 89]
abbrev dktX0_digest_5 : List UInt8 := dkwX0_digest_5 ++ dktX0_digest_6
def dkwX0_digest_4 : List UInt8 := [180, 0, 99, 29, 50, 199, 0, 7, 3, 167, 0, 10, 4, 42, 29, 182, 0, 114, 96, 79, 89, 4, 42]
abbrev dktX0_digest_4 : List UInt8 := dkwX0_digest_4 ++ dktX0_digest_5
def dkwX0_digest_3 : List UInt8 := [184, 0, 220, 64, 3, 62, 29, 16, 6, 162, 0, 55, 31, 5, 188, 10, 89, 3, 42, 180, 0, 10]
abbrev dktX0_digest_3 : List UInt8 := dkwX0_digest_3 ++ dktX0_digest_4
def dkwX0_digest_2 : List UInt8 := [79, 184, 0, 211, 64, 31, 42, 180, 0, 10, 180, 0, 81, 184, 0, 220, 42, 180, 0, 10, 180, 0, 89]
abbrev dktX0_digest_2 : List UInt8 := dkwX0_digest_2 ++ dktX0_digest_3
def dkwX0_digest_1 : List UInt8 := [89, 5, 42, 180, 0, 24, 7, 46, 79, 89, 6, 42, 180, 0, 24, 8, 46, 79, 89, 7, 42, 180, 0, 137]
abbrev dktX0_digest_1 : List UInt8 := dkwX0_digest_1 ++ dktX0_digest_2
def dkwX0_digest_0 : List UInt8 := [20, 0, 218, 8, 188, 10, 89, 3, 42, 180, 0, 24, 5, 46, 79, 89, 4, 42, 180, 0, 24, 6, 46, 79]
abbrev dktX0_digest_0 : List UInt8 := dkwX0_digest_0 ++ dktX0_digest_1
theorem dksX0_digest_0 : cX0_digest.data.toList.drop 0 = dktX0_digest_0 := by decide +kernel
theorem dksX0_digest_1 : cX0_digest.data.toList.drop 24 = dktX0_digest_1 := dk_seg dksX0_digest_0 24 rfl rfl
theorem dksX0_digest_2 : cX0_digest.data.toList.drop 48 = dktX0_digest_2 := dk_seg dksX0_digest_1 24 rfl rfl
theorem dksX0_digest_3 : cX0_digest.data.toList.drop 71 = dktX0_digest_3 := dk_seg dksX0_digest_2 23 rfl rfl
theorem dksX0_digest_4 : cX0_digest.data.toList.drop 93 = dktX0_digest_4 := dk_seg dksX0_digest_3 22 rfl rfl
theorem dksX0_digest_5 : cX0_digest.data.toList.drop 116 = dktX0_digest_5 := dk_seg dksX0_digest_4 23 rfl rfl
theorem dksX0_digest_6 : cX0_digest.data.toList.drop 140 = dktX0_digest_6 := dk_seg dksX0_digest_5 24 rfl rfl
theorem dksX0_digest_7 : cX0_digest.data.toList.drop 164 = dktX0_digest_7 := dk_seg dksX0_digest_6 24 rfl rfl
theorem dksX0_digest_8 : cX0_digest.data.toList.drop 187 = dktX0_digest_8 := dk_seg dksX0_digest_7 23 rfl rfl
theorem dksX0_digest_9 : cX0_digest.data.toList.drop 210 = dktX0_digest_9 := dk_seg dksX0_digest_8 23 rfl rfl
theorem dksX0_digest_10 : cX0_digest.data.toList.drop 234 = dktX0_digest_10 := dk_seg dksX0_digest_9 24 rfl rfl
theorem dksX0_digest_11 : cX0_digest.data.toList.drop 258 = dktX0_digest_11 := dk_seg dksX0_digest_10 24 rfl rfl
theorem dX0_digest_0 : decode cX0_digest 0 = .ok (.ldc2_w 218, 3) := dk_20 0 218 (dk_at dksX0_digest_0 0 rfl rfl)
theorem dX0_digest_3 : decode cX0_digest 3 = .ok (.iconst 5, 1) := dk_8 (dk_at dksX0_digest_0 3 rfl rfl)
theorem dX0_digest_4 : decode cX0_digest 4 = .ok (.newarray .int, 2) := dk_188_10 (dk_at dksX0_digest_0 4 rfl rfl)
theorem dX0_digest_6 : decode cX0_digest 6 = .ok (.dup, 1) := dk_89 (dk_at dksX0_digest_0 6 rfl rfl)
theorem dX0_digest_7 : decode cX0_digest 7 = .ok (.iconst 0, 1) := dk_3 (dk_at dksX0_digest_0 7 rfl rfl)
theorem dX0_digest_8 : decode cX0_digest 8 = .ok (.aload_n 0, 1) := dk_42 (dk_at dksX0_digest_0 8 rfl rfl)
theorem dX0_digest_9 : decode cX0_digest 9 = .ok (.getfield 24, 3) := dk_180 0 24 (dk_at dksX0_digest_0 9 rfl rfl)
theorem dX0_digest_12 : decode cX0_digest 12 = .ok (.iconst 2, 1) := dk_5 (dk_at dksX0_digest_0 12 rfl rfl)
theorem dX0_digest_13 : decode cX0_digest 13 = .ok (.iaload, 1) := dk_46 (dk_at dksX0_digest_0 13 rfl rfl)
theorem dX0_digest_14 : decode cX0_digest 14 = .ok (.iastore, 1) := dk_79 (dk_at dksX0_digest_0 14 rfl rfl)
theorem dX0_digest_15 : decode cX0_digest 15 = .ok (.dup, 1) := dk_89 (dk_at dksX0_digest_0 15 rfl rfl)
theorem dX0_digest_16 : decode cX0_digest 16 = .ok (.iconst 1, 1) := dk_4 (dk_at dksX0_digest_0 16 rfl rfl)
theorem dX0_digest_17 : decode cX0_digest 17 = .ok (.aload_n 0, 1) := dk_42 (dk_at dksX0_digest_0 17 rfl rfl)
theorem dX0_digest_18 : decode cX0_digest 18 = .ok (.getfield 24, 3) := dk_180 0 24 (dk_at dksX0_digest_0 18 rfl rfl)
theorem dX0_digest_21 : decode cX0_digest 21 = .ok (.iconst 3, 1) := dk_6 (dk_at dksX0_digest_0 21 rfl rfl)
theorem dX0_digest_22 : decode cX0_digest 22 = .ok (.iaload, 1) := dk_46 (dk_at dksX0_digest_0 22 rfl rfl)
theorem dX0_digest_23 : decode cX0_digest 23 = .ok (.iastore, 1) := dk_79 (dk_at dksX0_digest_0 23 rfl rfl)
theorem dX0_digest_24 : decode cX0_digest 24 = .ok (.dup, 1) := dk_89 (dk_at dksX0_digest_1 0 rfl rfl)
theorem dX0_digest_25 : decode cX0_digest 25 = .ok (.iconst 2, 1) := dk_5 (dk_at dksX0_digest_1 1 rfl rfl)
theorem dX0_digest_26 : decode cX0_digest 26 = .ok (.aload_n 0, 1) := dk_42 (dk_at dksX0_digest_1 2 rfl rfl)
theorem dX0_digest_27 : decode cX0_digest 27 = .ok (.getfield 24, 3) := dk_180 0 24 (dk_at dksX0_digest_1 3 rfl rfl)
theorem dX0_digest_30 : decode cX0_digest 30 = .ok (.iconst 4, 1) := dk_7 (dk_at dksX0_digest_1 6 rfl rfl)
theorem dX0_digest_31 : decode cX0_digest 31 = .ok (.iaload, 1) := dk_46 (dk_at dksX0_digest_1 7 rfl rfl)
theorem dX0_digest_32 : decode cX0_digest 32 = .ok (.iastore, 1) := dk_79 (dk_at dksX0_digest_1 8 rfl rfl)
theorem dX0_digest_33 : decode cX0_digest 33 = .ok (.dup, 1) := dk_89 (dk_at dksX0_digest_1 9 rfl rfl)
theorem dX0_digest_34 : decode cX0_digest 34 = .ok (.iconst 3, 1) := dk_6 (dk_at dksX0_digest_1 10 rfl rfl)
theorem dX0_digest_35 : decode cX0_digest 35 = .ok (.aload_n 0, 1) := dk_42 (dk_at dksX0_digest_1 11 rfl rfl)
theorem dX0_digest_36 : decode cX0_digest 36 = .ok (.getfield 24, 3) := dk_180 0 24 (dk_at dksX0_digest_1 12 rfl rfl)
theorem dX0_digest_39 : decode cX0_digest 39 = .ok (.iconst 5, 1) := dk_8 (dk_at dksX0_digest_1 15 rfl rfl)
theorem dX0_digest_40 : decode cX0_digest 40 = .ok (.iaload, 1) := dk_46 (dk_at dksX0_digest_1 16 rfl rfl)
theorem dX0_digest_41 : decode cX0_digest 41 = .ok (.iastore, 1) := dk_79 (dk_at dksX0_digest_1 17 rfl rfl)
theorem dX0_digest_42 : decode cX0_digest 42 = .ok (.dup, 1) := dk_89 (dk_at dksX0_digest_1 18 rfl rfl)
theorem dX0_digest_43 : decode cX0_digest 43 = .ok (.iconst 4, 1) := dk_7 (dk_at dksX0_digest_1 19 rfl rfl)
theorem dX0_digest_44 : decode cX0_digest 44 = .ok (.aload_n 0, 1) := dk_42 (dk_at dksX0_digest_1 20 rfl rfl)
theorem dX0_digest_45 : decode cX0_digest 45 = .ok (.getfield 137, 3) := dk_180 0 137 (dk_at dksX0_digest_1 21 rfl rfl)
theorem dX0_digest_48 : decode cX0_digest 48 = .ok (.iastore, 1) := dk_79 (dk_at dksX0_digest_2 0 rfl rfl)
theorem dX0_digest_49 : decode cX0_digest 49 = .ok (.invokestatic 211, 3) := dk_184 0 211 (dk_at dksX0_digest_2 1 rfl rfl)
theorem dX0_digest_52 : decode cX0_digest 52 = .ok (.lstore_n 1, 1) := dk_64 (dk_at dksX0_digest_2 4 rfl rfl)
theorem dX0_digest_53 : decode cX0_digest 53 = .ok (.lload_n 1, 1) := dk_31 (dk_at dksX0_digest_2 5 rfl rfl)
theorem dX0_digest_54 : decode cX0_digest 54 = .ok (.aload_n 0, 1) := dk_42 (dk_at dksX0_digest_2 6 rfl rfl)
theorem dX0_digest_55 : decode cX0_digest 55 = .ok (.getfield 10, 3) := dk_180 0 10 (dk_at dksX0_digest_2 7 rfl rfl)
theorem dX0_digest_58 : decode cX0_digest 58 = .ok (.getfield 81, 3) := dk_180 0 81 (dk_at dksX0_digest_2 10 rfl rfl)
theorem dX0_digest_61 : decode cX0_digest 61 = .ok (.invokestatic 220, 3) := dk_184 0 220 (dk_at dksX0_digest_2 13 rfl rfl)
theorem dX0_digest_64 : decode cX0_digest 64 = .ok (.aload_n 0, 1) := dk_42 (dk_at dksX0_digest_2 16 rfl rfl)
theorem dX0_digest_65 : decode cX0_digest 65 = .ok (.getfield 10, 3) := dk_180 0 10 (dk_at dksX0_digest_2 17 rfl rfl)
theorem dX0_digest_68 : decode cX0_digest 68 = .ok (.getfield 89, 3) := dk_180 0 89 (dk_at dksX0_digest_2 20 rfl rfl)
theorem dX0_digest_71 : decode cX0_digest 71 = .ok (.invokestatic 220, 3) := dk_184 0 220 (dk_at dksX0_digest_3 0 rfl rfl)
theorem dX0_digest_74 : decode cX0_digest 74 = .ok (.lstore_n 1, 1) := dk_64 (dk_at dksX0_digest_3 3 rfl rfl)
theorem dX0_digest_75 : decode cX0_digest 75 = .ok (.iconst 0, 1) := dk_3 (dk_at dksX0_digest_3 4 rfl rfl)
theorem dX0_digest_76 : decode cX0_digest 76 = .ok (.istore_n 3, 1) := dk_62 (dk_at dksX0_digest_3 5 rfl rfl)
theorem dX0_digest_77 : decode cX0_digest 77 = .ok (.iload_n 3, 1) := dk_29 (dk_at dksX0_digest_3 6 rfl rfl)
theorem dX0_digest_78 : decode cX0_digest 78 = .ok (.bipush 6, 2) := dk_16 6 (dk_at dksX0_digest_3 7 rfl rfl)
theorem dX0_digest_80 : decode cX0_digest 80 = .ok (.if_icmp .ge 55, 3) := dk_162 0 55 (dk_at dksX0_digest_3 9 rfl rfl)
theorem dX0_digest_83 : decode cX0_digest 83 = .ok (.lload_n 1, 1) := dk_31 (dk_at dksX0_digest_3 12 rfl rfl)
theorem dX0_digest_84 : decode cX0_digest 84 = .ok (.iconst 2, 1) := dk_5 (dk_at dksX0_digest_3 13 rfl rfl)
theorem dX0_digest_85 : decode cX0_digest 85 = .ok (.newarray .int, 2) := dk_188_10 (dk_at dksX0_digest_3 14 rfl rfl)
theorem dX0_digest_87 : decode cX0_digest 87 = .ok (.dup, 1) := dk_89 (dk_at dksX0_digest_3 16 rfl rfl)
theorem dX0_digest_88 : decode cX0_digest 88 = .ok (.iconst 0, 1) := dk_3 (dk_at dksX0_digest_3 17 rfl rfl)
theorem dX0_digest_89 : decode cX0_digest 89 = .ok (.aload_n 0, 1) := dk_42 (dk_at dksX0_digest_3 18 rfl rfl)
theorem dX0_digest_90 : decode cX0_digest 90 = .ok (.getfield 10, 3) := dk_180 0 10 (dk_at dksX0_digest_3 19 rfl rfl)
theorem dX0_digest_93 : decode cX0_digest 93 = .ok (.getfield 99, 3) := dk_180 0 99 (dk_at dksX0_digest_4 0 rfl rfl)
theorem dX0_digest_96 : decode cX0_digest 96 = .ok (.iload_n 3, 1) := dk_29 (dk_at dksX0_digest_4 3 rfl rfl)
theorem dX0_digest_97 : decode cX0_digest 97 = .ok (.aaload, 1) := dk_50 (dk_at dksX0_digest_4 4 rfl rfl)
theorem dX0_digest_98 : decode cX0_digest 98 = .ok (.ifnonnull 7, 3) := dk_199 0 7 (dk_at dksX0_digest_4 5 rfl rfl)
theorem dX0_digest_101 : decode cX0_digest 101 = .ok (.iconst 0, 1) := dk_3 (dk_at dksX0_digest_4 8 rfl rfl)
theorem dX0_digest_102 : decode cX0_digest 102 = .ok (.goto 10, 3) := dk_167 0 10 (dk_at dksX0_digest_4 9 rfl rfl)
theorem dX0_digest_105 : decode cX0_digest 105 = .ok (.iconst 1, 1) := dk_4 (dk_at dksX0_digest_4 12 rfl rfl)
theorem dX0_digest_106 : decode cX0_digest 106 = .ok (.aload_n 0, 1) := dk_42 (dk_at dksX0_digest_4 13 rfl rfl)
theorem dX0_digest_107 : decode cX0_digest 107 = .ok (.iload_n 3, 1) := dk_29 (dk_at dksX0_digest_4 14 rfl rfl)
theorem dX0_digest_108 : decode cX0_digest 108 = .ok (.invokevirtual 114, 3) := dk_182 0 114 (dk_at dksX0_digest_4 15 rfl rfl)
theorem dX0_digest_111 : decode cX0_digest 111 = .ok (.iadd, 1) := dk_96 (dk_at dksX0_digest_4 18 rfl rfl)
theorem dX0_digest_112 : decode cX0_digest 112 = .ok (.iastore, 1) := dk_79 (dk_at dksX0_digest_4 19 rfl rfl)
theorem dX0_digest_113 : decode cX0_digest 113 = .ok (.dup, 1) := dk_89 (dk_at dksX0_digest_4 20 rfl rfl)
theorem dX0_digest_114 : decode cX0_digest 114 = .ok (.iconst 1, 1) := dk_4 (dk_at dksX0_digest_4 21 rfl rfl)
theorem dX0_digest_115 : decode cX0_digest 115 = .ok (.aload_n 0, 1) := dk_42 (dk_at dksX0_digest_4 22 rfl rfl)
theorem dX0_digest_116 : decode cX0_digest 116 = .ok (.getfield 10, 3) := dk_180 0 10 (dk_at dksX0_digest_5 0 rfl rfl)
theorem dX0_digest_119 : decode cX0_digest 119 = .ok (.getfield 134, 3) := dk_180 0 134 (dk_at dksX0_digest_5 3 rfl rfl)
theorem dX0_digest_122 : decode cX0_digest 122 = .ok (.iload_n 3, 1) := dk_29 (dk_at dksX0_digest_5 6 rfl rfl)
theorem dX0_digest_123 : decode cX0_digest 123 = .ok (.iaload, 1) := dk_46 (dk_at dksX0_digest_5 7 rfl rfl)
theorem dX0_digest_124 : decode cX0_digest 124 = .ok (.iastore, 1) := dk_79 (dk_at dksX0_digest_5 8 rfl rfl)
theorem dX0_digest_125 : decode cX0_digest 125 = .ok (.invokestatic 211, 3) := dk_184 0 211 (dk_at dksX0_digest_5 9 rfl rfl)
theorem dX0_digest_128 : decode cX0_digest 128 = .ok (.lstore_n 1, 1) := dk_64 (dk_at dksX0_digest_5 12 rfl rfl)
theorem dX0_digest_129 : decode cX0_digest 129 = .ok (.iinc 3 1, 3) := dk_132 3 1 (dk_at dksX0_digest_5 13 rfl rfl)
theorem dX0_digest_132 : decode cX0_digest 132 = .ok (.goto (-55), 3) := dk_167 255 201 (dk_at dksX0_digest_5 16 rfl rfl)
theorem dX0_digest_135 : decode cX0_digest 135 = .ok (.lload_n 1, 1) := dk_31 (dk_at dksX0_digest_5 19 rfl rfl)
theorem dX0_digest_136 : decode cX0_digest 136 = .ok (.iconst 1, 1) := dk_4 (dk_at dksX0_digest_5 20 rfl rfl)
theorem dX0_digest_137 : decode cX0_digest 137 = .ok (.newarray .int, 2) := dk_188_10 (dk_at dksX0_digest_5 21 rfl rfl)
theorem dX0_digest_139 : decode cX0_digest 139 = .ok (.dup, 1) := dk_89 (dk_at dksX0_digest_5 23 rfl rfl)
theorem dX0_digest_140 : decode cX0_digest 140 = .ok (.iconst 0, 1) := dk_3 (dk_at dksX0_digest_6 0 rfl rfl)
theorem dX0_digest_141 : decode cX0_digest 141 = .ok (.aload_n 0, 1) := dk_42 (dk_at dksX0_digest_6 1 rfl rfl)
theorem dX0_digest_142 : decode cX0_digest 142 = .ok (.getfield 10, 3) := dk_180 0 10 (dk_at dksX0_digest_6 2 rfl rfl)
theorem dX0_digest_145 : decode cX0_digest 145 = .ok (.getfield 131, 3) := dk_180 0 131 (dk_at dksX0_digest_6 5 rfl rfl)
theorem dX0_digest_148 : decode cX0_digest 148 = .ok (.iastore, 1) := dk_79 (dk_at dksX0_digest_6 8 rfl rfl)
theorem dX0_digest_149 : decode cX0_digest 149 = .ok (.invokestatic 211, 3) := dk_184 0 211 (dk_at dksX0_digest_6 9 rfl rfl)
theorem dX0_digest_152 : decode cX0_digest 152 = .ok (.lstore_n 1, 1) := dk_64 (dk_at dksX0_digest_6 12 rfl rfl)
theorem dX0_digest_153 : decode cX0_digest 153 = .ok (.aload_n 0, 1) := dk_42 (dk_at dksX0_digest_6 13 rfl rfl)
theorem dX0_digest_154 : decode cX0_digest 154 = .ok (.invokevirtual 192, 3) := dk_182 0 192 (dk_at dksX0_digest_6 14 rfl rfl)
theorem dX0_digest_157 : decode cX0_digest 157 = .ok (.astore_n 3, 1) := dk_78 (dk_at dksX0_digest_6 17 rfl rfl)
theorem dX0_digest_158 : decode cX0_digest 158 = .ok (.iconst 0, 1) := dk_3 (dk_at dksX0_digest_6 18 rfl rfl)
theorem dX0_digest_159 : decode cX0_digest 159 = .ok (.istore 4, 2) := dk_54 4 (dk_at dksX0_digest_6 19 rfl rfl)
theorem dX0_digest_161 : decode cX0_digest 161 = .ok (.iload 4, 2) := dk_21 4 (dk_at dksX0_digest_6 21 rfl rfl)
theorem dX0_digest_163 : decode cX0_digest 163 = .ok (.aload_n 3, 1) := dk_45 (dk_at dksX0_digest_6 23 rfl rfl)
theorem dX0_digest_164 : decode cX0_digest 164 = .ok (.invokevirtual 196, 3) := dk_182 0 196 (dk_at dksX0_digest_7 0 rfl rfl)
theorem dX0_digest_167 : decode cX0_digest 167 = .ok (.if_icmp .ge 26, 3) := dk_162 0 26 (dk_at dksX0_digest_7 3 rfl rfl)
theorem dX0_digest_170 : decode cX0_digest 170 = .ok (.lload_n 1, 1) := dk_31 (dk_at dksX0_digest_7 6 rfl rfl)
theorem dX0_digest_171 : decode cX0_digest 171 = .ok (.iconst 1, 1) := dk_4 (dk_at dksX0_digest_7 7 rfl rfl)
theorem dX0_digest_172 : decode cX0_digest 172 = .ok (.newarray .int, 2) := dk_188_10 (dk_at dksX0_digest_7 8 rfl rfl)
theorem dX0_digest_174 : decode cX0_digest 174 = .ok (.dup, 1) := dk_89 (dk_at dksX0_digest_7 10 rfl rfl)
theorem dX0_digest_175 : decode cX0_digest 175 = .ok (.iconst 0, 1) := dk_3 (dk_at dksX0_digest_7 11 rfl rfl)
theorem dX0_digest_176 : decode cX0_digest 176 = .ok (.aload_n 3, 1) := dk_45 (dk_at dksX0_digest_7 12 rfl rfl)
theorem dX0_digest_177 : decode cX0_digest 177 = .ok (.iload 4, 2) := dk_21 4 (dk_at dksX0_digest_7 13 rfl rfl)
theorem dX0_digest_179 : decode cX0_digest 179 = .ok (.invokevirtual 199, 3) := dk_182 0 199 (dk_at dksX0_digest_7 15 rfl rfl)
theorem dX0_digest_182 : decode cX0_digest 182 = .ok (.iastore, 1) := dk_79 (dk_at dksX0_digest_7 18 rfl rfl)
theorem dX0_digest_183 : decode cX0_digest 183 = .ok (.invokestatic 211, 3) := dk_184 0 211 (dk_at dksX0_digest_7 19 rfl rfl)
theorem dX0_digest_186 : decode cX0_digest 186 = .ok (.lstore_n 1, 1) := dk_64 (dk_at dksX0_digest_7 22 rfl rfl)
theorem dX0_digest_187 : decode cX0_digest 187 = .ok (.iinc 4 1, 3) := dk_132 4 1 (dk_at dksX0_digest_8 0 rfl rfl)
theorem dX0_digest_190 : decode cX0_digest 190 = .ok (.goto (-29), 3) := dk_167 255 227 (dk_at dksX0_digest_8 3 rfl rfl)
theorem dX0_digest_193 : decode cX0_digest 193 = .ok (.lload_n 1, 1) := dk_31 (dk_at dksX0_digest_8 6 rfl rfl)
theorem dX0_digest_194 : decode cX0_digest 194 = .ok (.iconst 1, 1) := dk_4 (dk_at dksX0_digest_8 7 rfl rfl)
theorem dX0_digest_195 : decode cX0_digest 195 = .ok (.newarray .int, 2) := dk_188_10 (dk_at dksX0_digest_8 8 rfl rfl)
theorem dX0_digest_197 : decode cX0_digest 197 = .ok (.dup, 1) := dk_89 (dk_at dksX0_digest_8 10 rfl rfl)
theorem dX0_digest_198 : decode cX0_digest 198 = .ok (.iconst 0, 1) := dk_3 (dk_at dksX0_digest_8 11 rfl rfl)
theorem dX0_digest_199 : decode cX0_digest 199 = .ok (.aload_n 0, 1) := dk_42 (dk_at dksX0_digest_8 12 rfl rfl)
theorem dX0_digest_200 : decode cX0_digest 200 = .ok (.getfield 10, 3) := dk_180 0 10 (dk_at dksX0_digest_8 13 rfl rfl)
theorem dX0_digest_203 : decode cX0_digest 203 = .ok (.getfield 144, 3) := dk_180 0 144 (dk_at dksX0_digest_8 16 rfl rfl)
theorem dX0_digest_206 : decode cX0_digest 206 = .ok (.invokevirtual 177, 3) := dk_182 0 177 (dk_at dksX0_digest_8 19 rfl rfl)
theorem dX0_digest_209 : decode cX0_digest 209 = .ok (.iastore, 1) := dk_79 (dk_at dksX0_digest_8 22 rfl rfl)
theorem dX0_digest_210 : decode cX0_digest 210 = .ok (.invokestatic 211, 3) := dk_184 0 211 (dk_at dksX0_digest_9 0 rfl rfl)
theorem dX0_digest_213 : decode cX0_digest 213 = .ok (.lstore_n 1, 1) := dk_64 (dk_at dksX0_digest_9 3 rfl rfl)
theorem dX0_digest_214 : decode cX0_digest 214 = .ok (.iconst 1, 1) := dk_4 (dk_at dksX0_digest_9 4 rfl rfl)
theorem dX0_digest_215 : decode cX0_digest 215 = .ok (.istore 4, 2) := dk_54 4 (dk_at dksX0_digest_9 5 rfl rfl)
theorem dX0_digest_217 : decode cX0_digest 217 = .ok (.iload 4, 2) := dk_21 4 (dk_at dksX0_digest_9 7 rfl rfl)
theorem dX0_digest_219 : decode cX0_digest 219 = .ok (.bipush 7, 2) := dk_16 7 (dk_at dksX0_digest_9 9 rfl rfl)
theorem dX0_digest_221 : decode cX0_digest 221 = .ok (.if_icmp .gt 30, 3) := dk_163 0 30 (dk_at dksX0_digest_9 11 rfl rfl)
theorem dX0_digest_224 : decode cX0_digest 224 = .ok (.lload_n 1, 1) := dk_31 (dk_at dksX0_digest_9 14 rfl rfl)
theorem dX0_digest_225 : decode cX0_digest 225 = .ok (.iconst 1, 1) := dk_4 (dk_at dksX0_digest_9 15 rfl rfl)
theorem dX0_digest_226 : decode cX0_digest 226 = .ok (.newarray .int, 2) := dk_188_10 (dk_at dksX0_digest_9 16 rfl rfl)
theorem dX0_digest_228 : decode cX0_digest 228 = .ok (.dup, 1) := dk_89 (dk_at dksX0_digest_9 18 rfl rfl)
theorem dX0_digest_229 : decode cX0_digest 229 = .ok (.iconst 0, 1) := dk_3 (dk_at dksX0_digest_9 19 rfl rfl)
theorem dX0_digest_230 : decode cX0_digest 230 = .ok (.aload_n 0, 1) := dk_42 (dk_at dksX0_digest_9 20 rfl rfl)
theorem dX0_digest_231 : decode cX0_digest 231 = .ok (.getfield 10, 3) := dk_180 0 10 (dk_at dksX0_digest_9 21 rfl rfl)
theorem dX0_digest_234 : decode cX0_digest 234 = .ok (.getfield 158, 3) := dk_180 0 158 (dk_at dksX0_digest_10 0 rfl rfl)
theorem dX0_digest_237 : decode cX0_digest 237 = .ok (.iload 4, 2) := dk_21 4 (dk_at dksX0_digest_10 3 rfl rfl)
theorem dX0_digest_239 : decode cX0_digest 239 = .ok (.iaload, 1) := dk_46 (dk_at dksX0_digest_10 5 rfl rfl)
theorem dX0_digest_240 : decode cX0_digest 240 = .ok (.iastore, 1) := dk_79 (dk_at dksX0_digest_10 6 rfl rfl)
theorem dX0_digest_241 : decode cX0_digest 241 = .ok (.invokestatic 211, 3) := dk_184 0 211 (dk_at dksX0_digest_10 7 rfl rfl)
theorem dX0_digest_244 : decode cX0_digest 244 = .ok (.lstore_n 1, 1) := dk_64 (dk_at dksX0_digest_10 10 rfl rfl)
theorem dX0_digest_245 : decode cX0_digest 245 = .ok (.iinc 4 1, 3) := dk_132 4 1 (dk_at dksX0_digest_10 11 rfl rfl)
theorem dX0_digest_248 : decode cX0_digest 248 = .ok (.goto (-31), 3) := dk_167 255 225 (dk_at dksX0_digest_10 14 rfl rfl)
theorem dX0_digest_251 : decode cX0_digest 251 = .ok (.lload_n 1, 1) := dk_31 (dk_at dksX0_digest_10 17 rfl rfl)
theorem dX0_digest_252 : decode cX0_digest 252 = .ok (.iconst 1, 1) := dk_4 (dk_at dksX0_digest_10 18 rfl rfl)
theorem dX0_digest_253 : decode cX0_digest 253 = .ok (.newarray .int, 2) := dk_188_10 (dk_at dksX0_digest_10 19 rfl rfl)
theorem dX0_digest_255 : decode cX0_digest 255 = .ok (.dup, 1) := dk_89 (dk_at dksX0_digest_10 21 rfl rfl)
theorem dX0_digest_256 : decode cX0_digest 256 = .ok (.iconst 0, 1) := dk_3 (dk_at dksX0_digest_10 22 rfl rfl)
theorem dX0_digest_257 : decode cX0_digest 257 = .ok (.aload_n 0, 1) := dk_42 (dk_at dksX0_digest_10 23 rfl rfl)
theorem dX0_digest_258 : decode cX0_digest 258 = .ok (.getfield 37, 3) := dk_180 0 37 (dk_at dksX0_digest_11 0 rfl rfl)
theorem dX0_digest_261 : decode cX0_digest 261 = .ok (.iastore, 1) := dk_79 (dk_at dksX0_digest_11 3 rfl rfl)
theorem dX0_digest_262 : decode cX0_digest 262 = .ok (.invokestatic 211, 3) := dk_184 0 211 (dk_at dksX0_digest_11 4 rfl rfl)
theorem dX0_digest_265 : decode cX0_digest 265 = .ok (.lreturn, 1) := dk_173 (dk_at dksX0_digest_11 7 rfl rfl)
abbrev cX0_mix : ByteArray := prog_1_method_34_code
def yX0_mix : MethodName := ⟨RX0, "mix", "(J[I)J"⟩
def dkwX0_mix_1 : List UInt8 := [46, 54, 8, 20, 0, 203, 33, 105, 21, 8, 133, 97, 66, 132, 7, 1, 167, 255, 229, 33, 173]
abbrev dktX0_mix_1 : List UInt8 := dkwX0_mix_1 ++ []
def dkwX0_mix_0 : List UInt8 := [30, 66, 44, 58, 5, 25, 5, 190, 54, 6, 3, 54, 7, 21, 7, 21, 6, 162, 0, 26, 25, 5, 21, 7]
abbrev dktX0_mix_0 : List UInt8 := dkwX0_mix_0 ++ dktX0_mix_1
theorem dksX0_mix_0 : cX0_mix.data.toList.drop 0 = dktX0_mix_0 := by decide +kernel
theorem dksX0_mix_1 : cX0_mix.data.toList.drop 24 = dktX0_mix_1 := dk_seg dksX0_mix_0 24 rfl rfl
theorem dX0_mix_0 : decode cX0_mix 0 = .ok (.lload_n 0, 1) := dk_30 (dk_at dksX0_mix_0 0 rfl rfl)
theorem dX0_mix_1 : decode cX0_mix 1 = .ok (.lstore_n 3, 1) := dk_66 (dk_at dksX0_mix_0 1 rfl rfl)
theorem dX0_mix_2 : decode cX0_mix 2 = .ok (.aload_n 2, 1) := dk_44 (dk_at dksX0_mix_0 2 rfl rfl)
theorem dX0_mix_3 : decode cX0_mix 3 = .ok (.astore 5, 2) := dk_58 5 (dk_at dksX0_mix_0 3 rfl rfl)
theorem dX0_mix_5 : decode cX0_mix 5 = .ok (.aload 5, 2) := dk_25 5 (dk_at dksX0_mix_0 5 rfl rfl)
theorem dX0_mix_7 : decode cX0_mix 7 = .ok (.arraylength, 1) := dk_190 (dk_at dksX0_mix_0 7 rfl rfl)
theorem dX0_mix_8 : decode cX0_mix 8 = .ok (.istore 6, 2) := dk_54 6 (dk_at dksX0_mix_0 8 rfl rfl)
theorem dX0_mix_10 : decode cX0_mix 10 = .ok (.iconst 0, 1) := dk_3 (dk_at dksX0_mix_0 10 rfl rfl)
theorem dX0_mix_11 : decode cX0_mix 11 = .ok (.istore 7, 2) := dk_54 7 (dk_at dksX0_mix_0 11 rfl rfl)
theorem dX0_mix_13 : decode cX0_mix 13 = .ok (.iload 7, 2) := dk_21 7 (dk_at dksX0_mix_0 13 rfl rfl)
theorem dX0_mix_15 : decode cX0_mix 15 = .ok (.iload 6, 2) := dk_21 6 (dk_at dksX0_mix_0 15 rfl rfl)
theorem dX0_mix_17 : decode cX0_mix 17 = .ok (.if_icmp .ge 26, 3) := dk_162 0 26 (dk_at dksX0_mix_0 17 rfl rfl)
theorem dX0_mix_20 : decode cX0_mix 20 = .ok (.aload 5, 2) := dk_25 5 (dk_at dksX0_mix_0 20 rfl rfl)
theorem dX0_mix_22 : decode cX0_mix 22 = .ok (.iload 7, 2) := dk_21 7 (dk_at dksX0_mix_0 22 rfl rfl)
theorem dX0_mix_24 : decode cX0_mix 24 = .ok (.iaload, 1) := dk_46 (dk_at dksX0_mix_1 0 rfl rfl)
theorem dX0_mix_25 : decode cX0_mix 25 = .ok (.istore 8, 2) := dk_54 8 (dk_at dksX0_mix_1 1 rfl rfl)
theorem dX0_mix_27 : decode cX0_mix 27 = .ok (.ldc2_w 203, 3) := dk_20 0 203 (dk_at dksX0_mix_1 3 rfl rfl)
theorem dX0_mix_30 : decode cX0_mix 30 = .ok (.lload_n 3, 1) := dk_33 (dk_at dksX0_mix_1 6 rfl rfl)
theorem dX0_mix_31 : decode cX0_mix 31 = .ok (.lmul, 1) := dk_105 (dk_at dksX0_mix_1 7 rfl rfl)
theorem dX0_mix_32 : decode cX0_mix 32 = .ok (.iload 8, 2) := dk_21 8 (dk_at dksX0_mix_1 8 rfl rfl)
theorem dX0_mix_34 : decode cX0_mix 34 = .ok (.i2l, 1) := dk_133 (dk_at dksX0_mix_1 10 rfl rfl)
theorem dX0_mix_35 : decode cX0_mix 35 = .ok (.ladd, 1) := dk_97 (dk_at dksX0_mix_1 11 rfl rfl)
theorem dX0_mix_36 : decode cX0_mix 36 = .ok (.lstore_n 3, 1) := dk_66 (dk_at dksX0_mix_1 12 rfl rfl)
theorem dX0_mix_37 : decode cX0_mix 37 = .ok (.iinc 7 1, 3) := dk_132 7 1 (dk_at dksX0_mix_1 13 rfl rfl)
theorem dX0_mix_40 : decode cX0_mix 40 = .ok (.goto (-27), 3) := dk_167 255 229 (dk_at dksX0_mix_1 16 rfl rfl)
theorem dX0_mix_43 : decode cX0_mix 43 = .ok (.lload_n 3, 1) := dk_33 (dk_at dksX0_mix_1 19 rfl rfl)
theorem dX0_mix_44 : decode cX0_mix 44 = .ok (.lreturn, 1) := dk_173 (dk_at dksX0_mix_1 20 rfl rfl)
abbrev cX0_mixAll : ByteArray := prog_1_method_35_code
def yX0_mixAll : MethodName := ⟨RX0, "mixAll", "(J[LCallMigrator$Function;)J"⟩
def dkwX0_mixAll_3 : List UInt8 := [167, 255, 199, 33, 173]
abbrev dktX0_mixAll_3 : List UInt8 := dkwX0_mixAll_3 ++ []
def dkwX0_mixAll_2 : List UInt8 := [5, 25, 8, 180, 0, 208, 79, 184, 0, 211, 25, 8, 180, 0, 215, 184, 0, 211, 66, 132, 7, 1]
abbrev dktX0_mixAll_2 : List UInt8 := dkwX0_mixAll_2 ++ dktX0_mixAll_3
def dkwX0_mixAll_1 : List UInt8 := [50, 58, 8, 33, 6, 188, 10, 89, 3, 25, 8, 180, 0, 66, 79, 89, 4, 25, 8, 180, 0, 205, 79, 89]
abbrev dktX0_mixAll_1 : List UInt8 := dkwX0_mixAll_1 ++ dktX0_mixAll_2
def dkwX0_mixAll_0 : List UInt8 := [30, 66, 44, 58, 5, 25, 5, 190, 54, 6, 3, 54, 7, 21, 7, 21, 6, 162, 0, 56, 25, 5, 21, 7]
abbrev dktX0_mixAll_0 : List UInt8 := dkwX0_mixAll_0 ++ dktX0_mixAll_1
theorem dksX0_mixAll_0 : cX0_mixAll.data.toList.drop 0 = dktX0_mixAll_0 := by decide +kernel
theorem dksX0_mixAll_1 : cX0_mixAll.data.toList.drop 24 = dktX0_mixAll_1 := dk_seg dksX0_mixAll_0 24 rfl rfl
theorem dksX0_mixAll_2 : cX0_mixAll.data.toList.drop 48 = dktX0_mixAll_2 := dk_seg dksX0_mixAll_1 24 rfl rfl
theorem dksX0_mixAll_3 : cX0_mixAll.data.toList.drop 70 = dktX0_mixAll_3 := dk_seg dksX0_mixAll_2 22 rfl rfl
theorem dX0_mixAll_0 : decode cX0_mixAll 0 = .ok (.lload_n 0, 1) := dk_30 (dk_at dksX0_mixAll_0 0 rfl rfl)
theorem dX0_mixAll_1 : decode cX0_mixAll 1 = .ok (.lstore_n 3, 1) := dk_66 (dk_at dksX0_mixAll_0 1 rfl rfl)
theorem dX0_mixAll_2 : decode cX0_mixAll 2 = .ok (.aload_n 2, 1) := dk_44 (dk_at dksX0_mixAll_0 2 rfl rfl)
theorem dX0_mixAll_3 : decode cX0_mixAll 3 = .ok (.astore 5, 2) := dk_58 5 (dk_at dksX0_mixAll_0 3 rfl rfl)
theorem dX0_mixAll_5 : decode cX0_mixAll 5 = .ok (.aload 5, 2) := dk_25 5 (dk_at dksX0_mixAll_0 5 rfl rfl)
theorem dX0_mixAll_7 : decode cX0_mixAll 7 = .ok (.arraylength, 1) := dk_190 (dk_at dksX0_mixAll_0 7 rfl rfl)
theorem dX0_mixAll_8 : decode cX0_mixAll 8 = .ok (.istore 6, 2) := dk_54 6 (dk_at dksX0_mixAll_0 8 rfl rfl)
theorem dX0_mixAll_10 : decode cX0_mixAll 10 = .ok (.iconst 0, 1) := dk_3 (dk_at dksX0_mixAll_0 10 rfl rfl)
theorem dX0_mixAll_11 : decode cX0_mixAll 11 = .ok (.istore 7, 2) := dk_54 7 (dk_at dksX0_mixAll_0 11 rfl rfl)
theorem dX0_mixAll_13 : decode cX0_mixAll 13 = .ok (.iload 7, 2) := dk_21 7 (dk_at dksX0_mixAll_0 13 rfl rfl)
theorem dX0_mixAll_15 : decode cX0_mixAll 15 = .ok (.iload 6, 2) := dk_21 6 (dk_at dksX0_mixAll_0 15 rfl rfl)
theorem dX0_mixAll_17 : decode cX0_mixAll 17 = .ok (.if_icmp .ge 56, 3) := dk_162 0 56 (dk_at dksX0_mixAll_0 17 rfl rfl)
theorem dX0_mixAll_20 : decode cX0_mixAll 20 = .ok (.aload 5, 2) := dk_25 5 (dk_at dksX0_mixAll_0 20 rfl rfl)
theorem dX0_mixAll_22 : decode cX0_mixAll 22 = .ok (.iload 7, 2) := dk_21 7 (dk_at dksX0_mixAll_0 22 rfl rfl)
theorem dX0_mixAll_24 : decode cX0_mixAll 24 = .ok (.aaload, 1) := dk_50 (dk_at dksX0_mixAll_1 0 rfl rfl)
theorem dX0_mixAll_25 : decode cX0_mixAll 25 = .ok (.astore 8, 2) := dk_58 8 (dk_at dksX0_mixAll_1 1 rfl rfl)
theorem dX0_mixAll_27 : decode cX0_mixAll 27 = .ok (.lload_n 3, 1) := dk_33 (dk_at dksX0_mixAll_1 3 rfl rfl)
theorem dX0_mixAll_28 : decode cX0_mixAll 28 = .ok (.iconst 3, 1) := dk_6 (dk_at dksX0_mixAll_1 4 rfl rfl)
theorem dX0_mixAll_29 : decode cX0_mixAll 29 = .ok (.newarray .int, 2) := dk_188_10 (dk_at dksX0_mixAll_1 5 rfl rfl)
theorem dX0_mixAll_31 : decode cX0_mixAll 31 = .ok (.dup, 1) := dk_89 (dk_at dksX0_mixAll_1 7 rfl rfl)
theorem dX0_mixAll_32 : decode cX0_mixAll 32 = .ok (.iconst 0, 1) := dk_3 (dk_at dksX0_mixAll_1 8 rfl rfl)
theorem dX0_mixAll_33 : decode cX0_mixAll 33 = .ok (.aload 8, 2) := dk_25 8 (dk_at dksX0_mixAll_1 9 rfl rfl)
theorem dX0_mixAll_35 : decode cX0_mixAll 35 = .ok (.getfield 66, 3) := dk_180 0 66 (dk_at dksX0_mixAll_1 11 rfl rfl)
theorem dX0_mixAll_38 : decode cX0_mixAll 38 = .ok (.iastore, 1) := dk_79 (dk_at dksX0_mixAll_1 14 rfl rfl)
theorem dX0_mixAll_39 : decode cX0_mixAll 39 = .ok (.dup, 1) := dk_89 (dk_at dksX0_mixAll_1 15 rfl rfl)
theorem dX0_mixAll_40 : decode cX0_mixAll 40 = .ok (.iconst 1, 1) := dk_4 (dk_at dksX0_mixAll_1 16 rfl rfl)
theorem dX0_mixAll_41 : decode cX0_mixAll 41 = .ok (.aload 8, 2) := dk_25 8 (dk_at dksX0_mixAll_1 17 rfl rfl)
theorem dX0_mixAll_43 : decode cX0_mixAll 43 = .ok (.getfield 205, 3) := dk_180 0 205 (dk_at dksX0_mixAll_1 19 rfl rfl)
theorem dX0_mixAll_46 : decode cX0_mixAll 46 = .ok (.iastore, 1) := dk_79 (dk_at dksX0_mixAll_1 22 rfl rfl)
theorem dX0_mixAll_47 : decode cX0_mixAll 47 = .ok (.dup, 1) := dk_89 (dk_at dksX0_mixAll_1 23 rfl rfl)
theorem dX0_mixAll_48 : decode cX0_mixAll 48 = .ok (.iconst 2, 1) := dk_5 (dk_at dksX0_mixAll_2 0 rfl rfl)
theorem dX0_mixAll_49 : decode cX0_mixAll 49 = .ok (.aload 8, 2) := dk_25 8 (dk_at dksX0_mixAll_2 1 rfl rfl)
theorem dX0_mixAll_51 : decode cX0_mixAll 51 = .ok (.getfield 208, 3) := dk_180 0 208 (dk_at dksX0_mixAll_2 3 rfl rfl)
theorem dX0_mixAll_54 : decode cX0_mixAll 54 = .ok (.iastore, 1) := dk_79 (dk_at dksX0_mixAll_2 6 rfl rfl)
theorem dX0_mixAll_55 : decode cX0_mixAll 55 = .ok (.invokestatic 211, 3) := dk_184 0 211 (dk_at dksX0_mixAll_2 7 rfl rfl)
theorem dX0_mixAll_58 : decode cX0_mixAll 58 = .ok (.aload 8, 2) := dk_25 8 (dk_at dksX0_mixAll_2 10 rfl rfl)
theorem dX0_mixAll_60 : decode cX0_mixAll 60 = .ok (.getfield 215, 3) := dk_180 0 215 (dk_at dksX0_mixAll_2 12 rfl rfl)
theorem dX0_mixAll_63 : decode cX0_mixAll 63 = .ok (.invokestatic 211, 3) := dk_184 0 211 (dk_at dksX0_mixAll_2 15 rfl rfl)
theorem dX0_mixAll_66 : decode cX0_mixAll 66 = .ok (.lstore_n 3, 1) := dk_66 (dk_at dksX0_mixAll_2 18 rfl rfl)
theorem dX0_mixAll_67 : decode cX0_mixAll 67 = .ok (.iinc 7 1, 3) := dk_132 7 1 (dk_at dksX0_mixAll_2 19 rfl rfl)
theorem dX0_mixAll_70 : decode cX0_mixAll 70 = .ok (.goto (-57), 3) := dk_167 255 199 (dk_at dksX0_mixAll_3 0 rfl rfl)
theorem dX0_mixAll_73 : decode cX0_mixAll 73 = .ok (.lload_n 3, 1) := dk_33 (dk_at dksX0_mixAll_3 3 rfl rfl)
theorem dX0_mixAll_74 : decode cX0_mixAll 74 = .ok (.lreturn, 1) := dk_173 (dk_at dksX0_mixAll_3 4 rfl rfl)
theorem q56 : (Jvm.Cond.initialized "CallMigrator") ∈ lw_all := lw_g (lw_at lw_m1 1 rfl) rfl
theorem q80 : (Jvm.Cond.instantiable "CallMigrator" (7 : Nat)) ∈ lw_all := lw_g (lw_at lw_m1 25 rfl) rfl
theorem q82 : (Jvm.Cond.instanceMethod ({ cls := "CallMigrator", name := "<init>", desc := "()V" } : Jvm.MethodName)) ∈ lw_all := lw_g (lw_at lw_m1 27 rfl) rfl
theorem q83 : (Jvm.Cond.code ({ cls := "CallMigrator", name := "<init>", desc := "()V" } : Jvm.MethodName) prog_1_method_2_code (2 : Nat) (Option.none : Option Jvm.ClassFile.FieldType)) ∈ lw_all := lw_g (lw_at lw_m1 28 rfl) rfl
theorem q84 : (Jvm.Cond.methodLink "CallMigrator" (1 : Nat) ({ cls := "java/lang/Object", name := "<init>", desc := "()V" } : Jvm.MethodName)) ∈ lw_all := lw_g (lw_at lw_m1 29 rfl) rfl
theorem q87 : (Jvm.Cond.classLink "CallMigrator" (7 : Nat) "CallMigrator$State") ∈ lw_all := lw_g (lw_at lw_m1 32 rfl) rfl
theorem q89 : (Jvm.Cond.methodLinkNest "CallMigrator" (9 : Nat) ({ cls := "CallMigrator$State", name := "<init>", desc := "()V" } : Jvm.MethodName) "CallMigrator") ∈ lw_tbl := lw_at lw_m1 34 rfl
theorem q115 : (Jvm.Cond.fieldLinkNest "CallMigrator" (148 : Nat) "CallMigrator$Node" "size" "I" "CallMigrator") ∈ lw_tbl := lw_at lw_m1 60 rfl
theorem q137 : (Jvm.Cond.fieldLinkNest "CallMigrator" (66 : Nat) "CallMigrator$Function" "arity" "I" "CallMigrator") ∈ lw_tbl := lw_at lw_m1 82 rfl
theorem q141 : (Jvm.Cond.fieldLinkNest "CallMigrator" (205 : Nat) "CallMigrator$Function" "effect" "I" "CallMigrator") ∈ lw_tbl := lw_at lw_m1 86 rfl
theorem q145 : (Jvm.Cond.fieldLinkNest "CallMigrator" (208 : Nat) "CallMigrator$Function" "constant" "I" "CallMigrator") ∈ lw_tbl := lw_at lw_m1 90 rfl
theorem q149 : (Jvm.Cond.fieldLinkNest "CallMigrator" (215 : Nat) "CallMigrator$Function" "coefficients" "[I" "CallMigrator") ∈ lw_tbl := lw_at lw_m1 94 rfl
theorem q168 : (Jvm.Cond.fieldLinkNest "CallMigrator" (81 : Nat) "CallMigrator$State" "olds" "[LCallMigrator$Function;" "CallMigrator") ∈ lw_tbl := lw_at lw_m1 113 rfl
theorem q172 : (Jvm.Cond.fieldLinkNest "CallMigrator" (89 : Nat) "CallMigrator$State" "news" "[LCallMigrator$Function;" "CallMigrator") ∈ lw_tbl := lw_at lw_m1 117 rfl
theorem q181 : (Jvm.Cond.fieldLinkNest "CallMigrator" (134 : Nat) "CallMigrator$State" "adapterOf" "[I" "CallMigrator") ∈ lw_tbl := lw_at lw_m1 126 rfl
theorem q184 : (Jvm.Cond.fieldLinkNest "CallMigrator" (99 : Nat) "CallMigrator$State" "mappings" "[LCallMigrator$Mapping;" "CallMigrator") ∈ lw_tbl := lw_at lw_m1 129 rfl
theorem q187 : (Jvm.Cond.fieldLinkNest "CallMigrator" (131 : Nat) "CallMigrator$State" "allowed" "I" "CallMigrator") ∈ lw_tbl := lw_at lw_m1 132 rfl
theorem q190 : (Jvm.Cond.fieldLinkNest "CallMigrator" (144 : Nat) "CallMigrator$State" "program" "LCallMigrator$Node;" "CallMigrator") ∈ lw_tbl := lw_at lw_m1 135 rfl
theorem q193 : (Jvm.Cond.fieldLinkNest "CallMigrator" (158 : Nat) "CallMigrator$State" "left" "[I" "CallMigrator") ∈ lw_tbl := lw_at lw_m1 138 rfl
theorem q214 : (Jvm.Cond.classLink "CallMigrator" (28 : Nat) "CallMigrator$Parser") ∈ lw_all := lw_g (lw_at lw_m1 159 rfl) rfl
theorem q216 : (Jvm.Cond.methodLinkNest "CallMigrator" (30 : Nat) ({ cls := "CallMigrator$Parser", name := "<init>", desc := "(LCallMigrator;)V" } : Jvm.MethodName) "CallMigrator") ∈ lw_tbl := lw_at lw_m1 161 rfl
theorem q232 : (Jvm.Cond.fieldLink "CallMigrator" (10 : Nat) "CallMigrator" "state" "LCallMigrator$State;") ∈ lw_all := lw_g (lw_at lw_m1 177 rfl) rfl
theorem q234 : (Jvm.Cond.fieldLink "CallMigrator" (16 : Nat) "CallMigrator" "saved" "[LCallMigrator$State;") ∈ lw_all := lw_g (lw_at lw_m1 179 rfl) rfl
theorem q235 : (Jvm.Cond.fieldLink "CallMigrator" (37 : Nat) "CallMigrator" "savedCount" "I") ∈ lw_all := lw_g (lw_at lw_m1 180 rfl) rfl
theorem q237 : (Jvm.Cond.fieldLink "CallMigrator" (20 : Nat) "CallMigrator" "text" "[B") ∈ lw_all := lw_g (lw_at lw_m1 182 rfl) rfl
theorem q239 : (Jvm.Cond.fieldLink "CallMigrator" (137 : Nat) "CallMigrator" "textLength" "I") ∈ lw_all := lw_g (lw_at lw_m1 184 rfl) rfl
theorem q240 : (Jvm.Cond.fieldLink "CallMigrator" (24 : Nat) "CallMigrator" "errors" "[I") ∈ lw_all := lw_g (lw_at lw_m1 185 rfl) rfl
theorem q241 : (Jvm.Cond.fieldLink "CallMigrator" (33 : Nat) "CallMigrator" "parser" "LCallMigrator$Parser;") ∈ lw_all := lw_g (lw_at lw_m1 186 rfl) rfl
theorem q242 : (Jvm.Cond.laysFinal "CallMigrator" "CallMigrator" "state" "LCallMigrator$State;") ∈ lw_all := lw_g (lw_at lw_m1 187 rfl) rfl
theorem q243 : (Jvm.Cond.soleField "CallMigrator" "state") ∈ lw_all := lw_g (lw_at lw_m1 188 rfl) rfl
theorem q244 : (Jvm.Cond.laysFinal "CallMigrator" "CallMigrator" "saved" "[LCallMigrator$State;") ∈ lw_all := lw_g (lw_at lw_m1 189 rfl) rfl
theorem q245 : (Jvm.Cond.soleField "CallMigrator" "saved") ∈ lw_all := lw_g (lw_at lw_m1 190 rfl) rfl
theorem q246 : (Jvm.Cond.lays "CallMigrator" "CallMigrator" "savedCount" "I") ∈ lw_all := lw_g (lw_at lw_m1 191 rfl) rfl
theorem q247 : (Jvm.Cond.soleField "CallMigrator" "savedCount") ∈ lw_all := lw_g (lw_at lw_m1 192 rfl) rfl
theorem q248 : (Jvm.Cond.laysFinal "CallMigrator" "CallMigrator" "text" "[B") ∈ lw_all := lw_g (lw_at lw_m1 193 rfl) rfl
theorem q249 : (Jvm.Cond.soleField "CallMigrator" "text") ∈ lw_all := lw_g (lw_at lw_m1 194 rfl) rfl
theorem q250 : (Jvm.Cond.lays "CallMigrator" "CallMigrator" "textLength" "I") ∈ lw_all := lw_g (lw_at lw_m1 195 rfl) rfl
theorem q251 : (Jvm.Cond.soleField "CallMigrator" "textLength") ∈ lw_all := lw_g (lw_at lw_m1 196 rfl) rfl
theorem q252 : (Jvm.Cond.laysFinal "CallMigrator" "CallMigrator" "errors" "[I") ∈ lw_all := lw_g (lw_at lw_m1 197 rfl) rfl
theorem q253 : (Jvm.Cond.soleField "CallMigrator" "errors") ∈ lw_all := lw_g (lw_at lw_m1 198 rfl) rfl
theorem q254 : (Jvm.Cond.laysFinal "CallMigrator" "CallMigrator" "parser" "LCallMigrator$Parser;") ∈ lw_all := lw_g (lw_at lw_m1 199 rfl) rfl
theorem q255 : (Jvm.Cond.soleField "CallMigrator" "parser") ∈ lw_all := lw_g (lw_at lw_m1 200 rfl) rfl
theorem q256 : (Jvm.Cond.superclass "CallMigrator" "java/lang/Object") ∈ lw_all := lw_g (lw_at lw_m1 201 rfl) rfl
theorem q258 : (Jvm.Cond.instanceMethod ({ cls := "CallMigrator", name := "setOld", desc := "(III)I" } : Jvm.MethodName)) ∈ lw_all := lw_g (lw_at lw_m1 203 rfl) rfl
theorem q259 : (Jvm.Cond.selects "CallMigrator" ({ cls := "CallMigrator", name := "setOld", desc := "(III)I" } : Jvm.MethodName) ({ cls := "CallMigrator", name := "setOld", desc := "(III)I" } : Jvm.MethodName)) ∈ lw_all := lw_g (lw_at lw_m1 204 rfl) rfl
theorem q260 : (Jvm.Cond.code ({ cls := "CallMigrator", name := "setOld", desc := "(III)I" } : Jvm.MethodName) prog_1_method_9_code (4 : Nat) (Option.some Jvm.ClassFile.FieldType.int)) ∈ lw_all := lw_g (lw_at lw_m1 205 rfl) rfl
theorem q261 : (Jvm.Cond.methodLink "CallMigrator" (85 : Nat) ({ cls := "CallMigrator", name := "set", desc := "([LCallMigrator$Function;IIII)I" } : Jvm.MethodName)) ∈ lw_all := lw_g (lw_at lw_m1 206 rfl) rfl
theorem q262 : (Jvm.Cond.privateMethod ({ cls := "CallMigrator", name := "set", desc := "([LCallMigrator$Function;IIII)I" } : Jvm.MethodName)) ∈ lw_tbl := lw_at lw_m1 207 rfl
theorem q263 : (Jvm.Cond.instanceMethod ({ cls := "CallMigrator", name := "set", desc := "([LCallMigrator$Function;IIII)I" } : Jvm.MethodName)) ∈ lw_all := lw_g (lw_at lw_m1 208 rfl) rfl
theorem q264 : (Jvm.Cond.code ({ cls := "CallMigrator", name := "set", desc := "([LCallMigrator$Function;IIII)I" } : Jvm.MethodName) prog_1_method_7_code (7 : Nat) (Option.some Jvm.ClassFile.FieldType.int)) ∈ lw_all := lw_g (lw_at lw_m1 209 rfl) rfl
theorem q265 : (Jvm.Cond.methodLink "CallMigrator" (55 : Nat) ({ cls := "CallMigrator", name := "isFunction", desc := "(I)Z" } : Jvm.MethodName)) ∈ lw_all := lw_g (lw_at lw_m1 210 rfl) rfl
theorem q266 : (Jvm.Cond.static ({ cls := "CallMigrator", name := "isFunction", desc := "(I)Z" } : Jvm.MethodName)) ∈ lw_all := lw_g (lw_at lw_m1 211 rfl) rfl
theorem q267 : (Jvm.Cond.code ({ cls := "CallMigrator", name := "isFunction", desc := "(I)Z" } : Jvm.MethodName) prog_1_method_5_code (1 : Nat) (Option.some Jvm.ClassFile.FieldType.boolean)) ∈ lw_all := lw_g (lw_at lw_m1 212 rfl) rfl
theorem q268 : (Jvm.Cond.methodLink "CallMigrator" (51 : Nat) ({ cls := "CallMigrator", name := "inRange", desc := "(III)Z" } : Jvm.MethodName)) ∈ lw_all := lw_g (lw_at lw_m1 213 rfl) rfl
theorem q269 : (Jvm.Cond.static ({ cls := "CallMigrator", name := "inRange", desc := "(III)Z" } : Jvm.MethodName)) ∈ lw_all := lw_g (lw_at lw_m1 214 rfl) rfl
theorem q270 : (Jvm.Cond.code ({ cls := "CallMigrator", name := "inRange", desc := "(III)Z" } : Jvm.MethodName) prog_1_method_1_code (3 : Nat) (Option.some Jvm.ClassFile.FieldType.boolean)) ∈ lw_all := lw_g (lw_at lw_m1 215 rfl) rfl
theorem q271 : (Jvm.Cond.methodLink "CallMigrator" (59 : Nat) ({ cls := "CallMigrator", name := "error", desc := "(I)I" } : Jvm.MethodName)) ∈ lw_all := lw_g (lw_at lw_m1 216 rfl) rfl
theorem q272 : (Jvm.Cond.privateMethod ({ cls := "CallMigrator", name := "error", desc := "(I)I" } : Jvm.MethodName)) ∈ lw_tbl := lw_at lw_m1 217 rfl
theorem q273 : (Jvm.Cond.instanceMethod ({ cls := "CallMigrator", name := "error", desc := "(I)I" } : Jvm.MethodName)) ∈ lw_all := lw_g (lw_at lw_m1 218 rfl) rfl
theorem q274 : (Jvm.Cond.code ({ cls := "CallMigrator", name := "error", desc := "(I)I" } : Jvm.MethodName) prog_1_method_3_code (2 : Nat) (Option.some Jvm.ClassFile.FieldType.int)) ∈ lw_all := lw_g (lw_at lw_m1 219 rfl) rfl
theorem q275 : (Jvm.Cond.methodLink "CallMigrator" (63 : Nat) ({ cls := "CallMigrator", name := "save", desc := "()V" } : Jvm.MethodName)) ∈ lw_all := lw_g (lw_at lw_m1 220 rfl) rfl
theorem q276 : (Jvm.Cond.privateMethod ({ cls := "CallMigrator", name := "save", desc := "()V" } : Jvm.MethodName)) ∈ lw_tbl := lw_at lw_m1 221 rfl
theorem q277 : (Jvm.Cond.instanceMethod ({ cls := "CallMigrator", name := "save", desc := "()V" } : Jvm.MethodName)) ∈ lw_all := lw_g (lw_at lw_m1 222 rfl) rfl
theorem q278 : (Jvm.Cond.code ({ cls := "CallMigrator", name := "save", desc := "()V" } : Jvm.MethodName) prog_1_method_4_code (2 : Nat) (Option.none : Option Jvm.ClassFile.FieldType)) ∈ lw_all := lw_g (lw_at lw_m1 223 rfl) rfl
theorem q279 : (Jvm.Cond.methodLink "CallMigrator" (41 : Nat) ({ cls := "java/lang/System", name := "arraycopy", desc := "(Ljava/lang/Object;ILjava/lang/Object;II)V" } : Jvm.MethodName)) ∈ lw_all := lw_g (lw_at lw_m1 224 rfl) rfl
theorem q282 : (Jvm.Cond.methodLink "CallMigrator" (47 : Nat) ({ cls := "CallMigrator$State", name := "copyFrom", desc := "(LCallMigrator$State;)V" } : Jvm.MethodName)) ∈ lw_all := lw_g (lw_at lw_m1 227 rfl) rfl
theorem q287 : (Jvm.Cond.methodLink "CallMigrator" (71 : Nat) ({ cls := "CallMigrator$Function", name := "with", desc := "(II)LCallMigrator$Function;" } : Jvm.MethodName)) ∈ lw_all := lw_g (lw_at lw_m1 232 rfl) rfl
theorem q293 : (Jvm.Cond.instanceMethod ({ cls := "CallMigrator", name := "setNew", desc := "(III)I" } : Jvm.MethodName)) ∈ lw_all := lw_g (lw_at lw_m1 238 rfl) rfl
theorem q294 : (Jvm.Cond.selects "CallMigrator" ({ cls := "CallMigrator", name := "setNew", desc := "(III)I" } : Jvm.MethodName) ({ cls := "CallMigrator", name := "setNew", desc := "(III)I" } : Jvm.MethodName)) ∈ lw_all := lw_g (lw_at lw_m1 239 rfl) rfl
theorem q295 : (Jvm.Cond.code ({ cls := "CallMigrator", name := "setNew", desc := "(III)I" } : Jvm.MethodName) prog_1_method_10_code (4 : Nat) (Option.some Jvm.ClassFile.FieldType.int)) ∈ lw_all := lw_g (lw_at lw_m2 0 rfl) rfl
theorem q297 : (Jvm.Cond.instanceMethod ({ cls := "CallMigrator", name := "setOldTerm", desc := "(III)I" } : Jvm.MethodName)) ∈ lw_all := lw_g (lw_at lw_m2 2 rfl) rfl
theorem q298 : (Jvm.Cond.selects "CallMigrator" ({ cls := "CallMigrator", name := "setOldTerm", desc := "(III)I" } : Jvm.MethodName) ({ cls := "CallMigrator", name := "setOldTerm", desc := "(III)I" } : Jvm.MethodName)) ∈ lw_all := lw_g (lw_at lw_m2 3 rfl) rfl
theorem q299 : (Jvm.Cond.code ({ cls := "CallMigrator", name := "setOldTerm", desc := "(III)I" } : Jvm.MethodName) prog_1_method_11_code (4 : Nat) (Option.some Jvm.ClassFile.FieldType.int)) ∈ lw_all := lw_g (lw_at lw_m2 4 rfl) rfl
theorem q300 : (Jvm.Cond.methodLink "CallMigrator" (92 : Nat) ({ cls := "CallMigrator", name := "setTerm", desc := "([LCallMigrator$Function;III)I" } : Jvm.MethodName)) ∈ lw_all := lw_g (lw_at lw_m2 5 rfl) rfl
theorem q301 : (Jvm.Cond.privateMethod ({ cls := "CallMigrator", name := "setTerm", desc := "([LCallMigrator$Function;III)I" } : Jvm.MethodName)) ∈ lw_tbl := lw_at lw_m2 6 rfl
theorem q302 : (Jvm.Cond.instanceMethod ({ cls := "CallMigrator", name := "setTerm", desc := "([LCallMigrator$Function;III)I" } : Jvm.MethodName)) ∈ lw_all := lw_g (lw_at lw_m2 7 rfl) rfl
theorem q303 : (Jvm.Cond.code ({ cls := "CallMigrator", name := "setTerm", desc := "([LCallMigrator$Function;III)I" } : Jvm.MethodName) prog_1_method_8_code (6 : Nat) (Option.some Jvm.ClassFile.FieldType.int)) ∈ lw_all := lw_g (lw_at lw_m2 8 rfl) rfl
theorem q304 : (Jvm.Cond.methodLink "CallMigrator" (75 : Nat) ({ cls := "CallMigrator$Function", name := "term", desc := "(I)I" } : Jvm.MethodName)) ∈ lw_all := lw_g (lw_at lw_m2 9 rfl) rfl
theorem q308 : (Jvm.Cond.methodLink "CallMigrator" (78 : Nat) ({ cls := "CallMigrator$Function", name := "withTerm", desc := "(II)LCallMigrator$Function;" } : Jvm.MethodName)) ∈ lw_all := lw_g (lw_at lw_m2 13 rfl) rfl
theorem q320 : (Jvm.Cond.instanceMethod ({ cls := "CallMigrator", name := "setNewTerm", desc := "(III)I" } : Jvm.MethodName)) ∈ lw_all := lw_g (lw_at lw_m2 25 rfl) rfl
theorem q321 : (Jvm.Cond.selects "CallMigrator" ({ cls := "CallMigrator", name := "setNewTerm", desc := "(III)I" } : Jvm.MethodName) ({ cls := "CallMigrator", name := "setNewTerm", desc := "(III)I" } : Jvm.MethodName)) ∈ lw_all := lw_g (lw_at lw_m2 26 rfl) rfl
theorem q322 : (Jvm.Cond.code ({ cls := "CallMigrator", name := "setNewTerm", desc := "(III)I" } : Jvm.MethodName) prog_1_method_12_code (4 : Nat) (Option.some Jvm.ClassFile.FieldType.int)) ∈ lw_all := lw_g (lw_at lw_m2 27 rfl) rfl
theorem q324 : (Jvm.Cond.instanceMethod ({ cls := "CallMigrator", name := "map", desc := "(II)I" } : Jvm.MethodName)) ∈ lw_all := lw_g (lw_at lw_m2 29 rfl) rfl
theorem q325 : (Jvm.Cond.selects "CallMigrator" ({ cls := "CallMigrator", name := "map", desc := "(II)I" } : Jvm.MethodName) ({ cls := "CallMigrator", name := "map", desc := "(II)I" } : Jvm.MethodName)) ∈ lw_all := lw_g (lw_at lw_m2 30 rfl) rfl
theorem q326 : (Jvm.Cond.code ({ cls := "CallMigrator", name := "map", desc := "(II)I" } : Jvm.MethodName) prog_1_method_14_code (4 : Nat) (Option.some Jvm.ClassFile.FieldType.int)) ∈ lw_all := lw_g (lw_at lw_m2 31 rfl) rfl
theorem q327 : (Jvm.Cond.classLink "CallMigrator" (103 : Nat) "CallMigrator$Mapping") ∈ lw_all := lw_g (lw_at lw_m2 32 rfl) rfl
theorem q329 : (Jvm.Cond.methodLink "CallMigrator" (105 : Nat) ({ cls := "CallMigrator$Mapping", name := "<init>", desc := "(I)V" } : Jvm.MethodName)) ∈ lw_all := lw_g (lw_at lw_m2 34 rfl) rfl
theorem q339 : (Jvm.Cond.fieldLinkNest "CallMigrator" (117 : Nat) "CallMigrator$Mapping" "target" "I" "CallMigrator") ∈ lw_tbl := lw_at lw_m2 44 rfl
theorem q342 : (Jvm.Cond.fieldLinkNest "CallMigrator" (108 : Nat) "CallMigrator$Mapping" "template" "[I" "CallMigrator") ∈ lw_tbl := lw_at lw_m2 47 rfl
theorem q348 : (Jvm.Cond.methodLink "CallMigrator" (111 : Nat) ({ cls := "CallMigrator$Mapping", name := "<init>", desc := "(I[I)V" } : Jvm.MethodName)) ∈ lw_all := lw_g (lw_at lw_m2 53 rfl) rfl
theorem q349 : (Jvm.Cond.methodLink "CallMigrator" (114 : Nat) ({ cls := "CallMigrator", name := "faithful", desc := "(I)I" } : Jvm.MethodName)) ∈ lw_all := lw_g (lw_at lw_m2 54 rfl) rfl
theorem q350 : (Jvm.Cond.privateMethod ({ cls := "CallMigrator", name := "faithful", desc := "(I)I" } : Jvm.MethodName)) ∈ lw_tbl := lw_at lw_m2 55 rfl
theorem q351 : (Jvm.Cond.instanceMethod ({ cls := "CallMigrator", name := "faithful", desc := "(I)I" } : Jvm.MethodName)) ∈ lw_all := lw_g (lw_at lw_m2 56 rfl) rfl
theorem q352 : (Jvm.Cond.code ({ cls := "CallMigrator", name := "faithful", desc := "(I)I" } : Jvm.MethodName) prog_1_method_13_code (2 : Nat) (Option.some Jvm.ClassFile.FieldType.int)) ∈ lw_all := lw_g (lw_at lw_m2 57 rfl) rfl
theorem q353 : (Jvm.Cond.methodLink "CallMigrator" (96 : Nat) ({ cls := "CallMigrator$State", name := "isFaithful", desc := "(I)Z" } : Jvm.MethodName)) ∈ lw_all := lw_g (lw_at lw_m2 58 rfl) rfl
theorem q374 : (Jvm.Cond.instanceMethod ({ cls := "CallMigrator", name := "unmap", desc := "(I)I" } : Jvm.MethodName)) ∈ lw_all := lw_g (lw_at lw_m2 79 rfl) rfl
theorem q375 : (Jvm.Cond.selects "CallMigrator" ({ cls := "CallMigrator", name := "unmap", desc := "(I)I" } : Jvm.MethodName) ({ cls := "CallMigrator", name := "unmap", desc := "(I)I" } : Jvm.MethodName)) ∈ lw_all := lw_g (lw_at lw_m2 80 rfl) rfl
theorem q376 : (Jvm.Cond.code ({ cls := "CallMigrator", name := "unmap", desc := "(I)I" } : Jvm.MethodName) prog_1_method_15_code (3 : Nat) (Option.some Jvm.ClassFile.FieldType.int)) ∈ lw_all := lw_g (lw_at lw_m2 81 rfl) rfl
theorem q378 : (Jvm.Cond.instanceMethod ({ cls := "CallMigrator", name := "setSource", desc := "(III)I" } : Jvm.MethodName)) ∈ lw_all := lw_g (lw_at lw_m2 83 rfl) rfl
theorem q379 : (Jvm.Cond.selects "CallMigrator" ({ cls := "CallMigrator", name := "setSource", desc := "(III)I" } : Jvm.MethodName) ({ cls := "CallMigrator", name := "setSource", desc := "(III)I" } : Jvm.MethodName)) ∈ lw_all := lw_g (lw_at lw_m2 84 rfl) rfl
theorem q380 : (Jvm.Cond.code ({ cls := "CallMigrator", name := "setSource", desc := "(III)I" } : Jvm.MethodName) prog_1_method_17_code (4 : Nat) (Option.some Jvm.ClassFile.FieldType.int)) ∈ lw_all := lw_g (lw_at lw_m2 85 rfl) rfl
theorem q381 : (Jvm.Cond.methodLink "CallMigrator" (127 : Nat) ({ cls := "CallMigrator", name := "setEntry", desc := "(IIIZ)I" } : Jvm.MethodName)) ∈ lw_all := lw_g (lw_at lw_m2 86 rfl) rfl
theorem q382 : (Jvm.Cond.privateMethod ({ cls := "CallMigrator", name := "setEntry", desc := "(IIIZ)I" } : Jvm.MethodName)) ∈ lw_tbl := lw_at lw_m2 87 rfl
theorem q383 : (Jvm.Cond.instanceMethod ({ cls := "CallMigrator", name := "setEntry", desc := "(IIIZ)I" } : Jvm.MethodName)) ∈ lw_all := lw_g (lw_at lw_m2 88 rfl) rfl
theorem q384 : (Jvm.Cond.code ({ cls := "CallMigrator", name := "setEntry", desc := "(IIIZ)I" } : Jvm.MethodName) prog_1_method_16_code (5 : Nat) (Option.some Jvm.ClassFile.FieldType.int)) ∈ lw_all := lw_g (lw_at lw_m2 89 rfl) rfl
theorem q385 : (Jvm.Cond.methodLink "CallMigrator" (120 : Nat) ({ cls := "CallMigrator", name := "isPosition", desc := "(I)Z" } : Jvm.MethodName)) ∈ lw_all := lw_g (lw_at lw_m2 90 rfl) rfl
theorem q386 : (Jvm.Cond.static ({ cls := "CallMigrator", name := "isPosition", desc := "(I)Z" } : Jvm.MethodName)) ∈ lw_all := lw_g (lw_at lw_m2 91 rfl) rfl
theorem q387 : (Jvm.Cond.code ({ cls := "CallMigrator", name := "isPosition", desc := "(I)Z" } : Jvm.MethodName) prog_1_method_6_code (1 : Nat) (Option.some Jvm.ClassFile.FieldType.boolean)) ∈ lw_all := lw_g (lw_at lw_m2 92 rfl) rfl
theorem q388 : (Jvm.Cond.methodLink "CallMigrator" (123 : Nat) ({ cls := "CallMigrator$Mapping", name := "withEntry", desc := "(II)LCallMigrator$Mapping;" } : Jvm.MethodName)) ∈ lw_all := lw_g (lw_at lw_m2 93 rfl) rfl
theorem q396 : (Jvm.Cond.instanceMethod ({ cls := "CallMigrator", name := "setConstant", desc := "(III)I" } : Jvm.MethodName)) ∈ lw_all := lw_g (lw_at lw_m2 101 rfl) rfl
theorem q397 : (Jvm.Cond.selects "CallMigrator" ({ cls := "CallMigrator", name := "setConstant", desc := "(III)I" } : Jvm.MethodName) ({ cls := "CallMigrator", name := "setConstant", desc := "(III)I" } : Jvm.MethodName)) ∈ lw_all := lw_g (lw_at lw_m2 102 rfl) rfl
theorem q398 : (Jvm.Cond.code ({ cls := "CallMigrator", name := "setConstant", desc := "(III)I" } : Jvm.MethodName) prog_1_method_18_code (4 : Nat) (Option.some Jvm.ClassFile.FieldType.int)) ∈ lw_all := lw_g (lw_at lw_m2 103 rfl) rfl
theorem q400 : (Jvm.Cond.instanceMethod ({ cls := "CallMigrator", name := "isFaithful", desc := "(I)I" } : Jvm.MethodName)) ∈ lw_all := lw_g (lw_at lw_m2 105 rfl) rfl
theorem q401 : (Jvm.Cond.selects "CallMigrator" ({ cls := "CallMigrator", name := "isFaithful", desc := "(I)I" } : Jvm.MethodName) ({ cls := "CallMigrator", name := "isFaithful", desc := "(I)I" } : Jvm.MethodName)) ∈ lw_all := lw_g (lw_at lw_m2 106 rfl) rfl
theorem q402 : (Jvm.Cond.code ({ cls := "CallMigrator", name := "isFaithful", desc := "(I)I" } : Jvm.MethodName) prog_1_method_19_code (2 : Nat) (Option.some Jvm.ClassFile.FieldType.int)) ∈ lw_all := lw_g (lw_at lw_m2 107 rfl) rfl
theorem q404 : (Jvm.Cond.instanceMethod ({ cls := "CallMigrator", name := "allowAdapters", desc := "(I)I" } : Jvm.MethodName)) ∈ lw_all := lw_g (lw_at lw_m2 109 rfl) rfl
theorem q405 : (Jvm.Cond.selects "CallMigrator" ({ cls := "CallMigrator", name := "allowAdapters", desc := "(I)I" } : Jvm.MethodName) ({ cls := "CallMigrator", name := "allowAdapters", desc := "(I)I" } : Jvm.MethodName)) ∈ lw_all := lw_g (lw_at lw_m2 110 rfl) rfl
theorem q406 : (Jvm.Cond.code ({ cls := "CallMigrator", name := "allowAdapters", desc := "(I)I" } : Jvm.MethodName) prog_1_method_20_code (3 : Nat) (Option.some Jvm.ClassFile.FieldType.int)) ∈ lw_all := lw_g (lw_at lw_m2 111 rfl) rfl
theorem q408 : (Jvm.Cond.instanceMethod ({ cls := "CallMigrator", name := "adapterOf", desc := "(I)I" } : Jvm.MethodName)) ∈ lw_all := lw_g (lw_at lw_m2 113 rfl) rfl
theorem q409 : (Jvm.Cond.selects "CallMigrator" ({ cls := "CallMigrator", name := "adapterOf", desc := "(I)I" } : Jvm.MethodName) ({ cls := "CallMigrator", name := "adapterOf", desc := "(I)I" } : Jvm.MethodName)) ∈ lw_all := lw_g (lw_at lw_m2 114 rfl) rfl
theorem q410 : (Jvm.Cond.code ({ cls := "CallMigrator", name := "adapterOf", desc := "(I)I" } : Jvm.MethodName) prog_1_method_21_code (2 : Nat) (Option.some Jvm.ClassFile.FieldType.int)) ∈ lw_all := lw_g (lw_at lw_m2 115 rfl) rfl
theorem q412 : (Jvm.Cond.instanceMethod ({ cls := "CallMigrator", name := "append", desc := "(I)I" } : Jvm.MethodName)) ∈ lw_all := lw_g (lw_at lw_m2 117 rfl) rfl
theorem q413 : (Jvm.Cond.selects "CallMigrator" ({ cls := "CallMigrator", name := "append", desc := "(I)I" } : Jvm.MethodName) ({ cls := "CallMigrator", name := "append", desc := "(I)I" } : Jvm.MethodName)) ∈ lw_all := lw_g (lw_at lw_m2 118 rfl) rfl
theorem q414 : (Jvm.Cond.code ({ cls := "CallMigrator", name := "append", desc := "(I)I" } : Jvm.MethodName) prog_1_method_22_code (2 : Nat) (Option.some Jvm.ClassFile.FieldType.int)) ∈ lw_all := lw_g (lw_at lw_m2 119 rfl) rfl
theorem q416 : (Jvm.Cond.instanceMethod ({ cls := "CallMigrator", name := "clearText", desc := "()I" } : Jvm.MethodName)) ∈ lw_all := lw_g (lw_at lw_m2 121 rfl) rfl
theorem q417 : (Jvm.Cond.selects "CallMigrator" ({ cls := "CallMigrator", name := "clearText", desc := "()I" } : Jvm.MethodName) ({ cls := "CallMigrator", name := "clearText", desc := "()I" } : Jvm.MethodName)) ∈ lw_all := lw_g (lw_at lw_m2 122 rfl) rfl
theorem q418 : (Jvm.Cond.code ({ cls := "CallMigrator", name := "clearText", desc := "()I" } : Jvm.MethodName) prog_1_method_23_code (2 : Nat) (Option.some Jvm.ClassFile.FieldType.int)) ∈ lw_all := lw_g (lw_at lw_m2 123 rfl) rfl
theorem q420 : (Jvm.Cond.instanceMethod ({ cls := "CallMigrator", name := "parse", desc := "()I" } : Jvm.MethodName)) ∈ lw_all := lw_g (lw_at lw_m2 125 rfl) rfl
theorem q421 : (Jvm.Cond.selects "CallMigrator" ({ cls := "CallMigrator", name := "parse", desc := "()I" } : Jvm.MethodName) ({ cls := "CallMigrator", name := "parse", desc := "()I" } : Jvm.MethodName)) ∈ lw_all := lw_g (lw_at lw_m2 126 rfl) rfl
theorem q422 : (Jvm.Cond.codeWith ({ cls := "CallMigrator", name := "parse", desc := "()I" } : Jvm.MethodName) prog_1_method_24_code (2 : Nat) (Option.some Jvm.ClassFile.FieldType.int) [((0 : Nat), (24 : Nat), (25 : Nat), (153 : Nat))]) ∈ lw_all := lw_g (lw_at lw_m2 127 rfl) rfl
theorem q423 : (Jvm.Cond.classLink "CallMigrator" (153 : Nat) "CallMigrator$SyntaxError") ∈ lw_all := lw_g (lw_at lw_m2 128 rfl) rfl
theorem q424 : (Jvm.Cond.methodLink "CallMigrator" (140 : Nat) ({ cls := "CallMigrator$Parser", name := "parse", desc := "()LCallMigrator$Node;" } : Jvm.MethodName)) ∈ lw_all := lw_g (lw_at lw_m2 129 rfl) rfl
theorem q483 : (Jvm.Cond.fieldLinkNest "CallMigrator" (155 : Nat) "CallMigrator$SyntaxError" "position" "I" "CallMigrator") ∈ lw_tbl := lw_at lw_m2 188 rfl
theorem q519 : (Jvm.Cond.instanceMethod ({ cls := "CallMigrator", name := "migrate", desc := "()I" } : Jvm.MethodName)) ∈ lw_all := lw_g (lw_at lw_m2 224 rfl) rfl
theorem q520 : (Jvm.Cond.selects "CallMigrator" ({ cls := "CallMigrator", name := "migrate", desc := "()I" } : Jvm.MethodName) ({ cls := "CallMigrator", name := "migrate", desc := "()I" } : Jvm.MethodName)) ∈ lw_all := lw_g (lw_at lw_m2 225 rfl) rfl
theorem q521 : (Jvm.Cond.code ({ cls := "CallMigrator", name := "migrate", desc := "()I" } : Jvm.MethodName) prog_1_method_25_code (2 : Nat) (Option.some Jvm.ClassFile.FieldType.int)) ∈ lw_all := lw_g (lw_at lw_m2 226 rfl) rfl
theorem q522 : (Jvm.Cond.methodLink "CallMigrator" (161 : Nat) ({ cls := "java/util/Arrays", name := "fill", desc := "([II)V" } : Jvm.MethodName)) ∈ lw_all := lw_g (lw_at lw_m2 227 rfl) rfl
theorem q523 : (Jvm.Cond.classLink "CallMigrator" (167 : Nat) "CallMigrator$Migration") ∈ lw_all := lw_g (lw_at lw_m2 228 rfl) rfl
theorem q525 : (Jvm.Cond.methodLinkNest "CallMigrator" (169 : Nat) ({ cls := "CallMigrator$Migration", name := "<init>", desc := "(LCallMigrator;)V" } : Jvm.MethodName) "CallMigrator") ∈ lw_tbl := lw_at lw_m2 230 rfl
theorem q531 : (Jvm.Cond.fieldLinkNest "CallMigrator" (174 : Nat) "CallMigrator$Migration" "replaced" "I" "CallMigrator") ∈ lw_tbl := lw_at lw_m2 236 rfl
theorem q540 : (Jvm.Cond.methodLink "CallMigrator" (170 : Nat) ({ cls := "CallMigrator$Migration", name := "migrate", desc := "(LCallMigrator$Node;)LCallMigrator$Node;" } : Jvm.MethodName)) ∈ lw_all := lw_g (lw_at lw_m3 5 rfl) rfl
theorem q578 : (Jvm.Cond.instanceMethod ({ cls := "CallMigrator", name := "left", desc := "(I)I" } : Jvm.MethodName)) ∈ lw_all := lw_g (lw_at lw_m3 43 rfl) rfl
theorem q579 : (Jvm.Cond.selects "CallMigrator" ({ cls := "CallMigrator", name := "left", desc := "(I)I" } : Jvm.MethodName) ({ cls := "CallMigrator", name := "left", desc := "(I)I" } : Jvm.MethodName)) ∈ lw_all := lw_g (lw_at lw_m3 44 rfl) rfl
theorem q580 : (Jvm.Cond.code ({ cls := "CallMigrator", name := "left", desc := "(I)I" } : Jvm.MethodName) prog_1_method_26_code (2 : Nat) (Option.some Jvm.ClassFile.FieldType.int)) ∈ lw_all := lw_g (lw_at lw_m3 45 rfl) rfl
theorem q582 : (Jvm.Cond.instanceMethod ({ cls := "CallMigrator", name := "sites", desc := "()I" } : Jvm.MethodName)) ∈ lw_all := lw_g (lw_at lw_m3 47 rfl) rfl
theorem q583 : (Jvm.Cond.selects "CallMigrator" ({ cls := "CallMigrator", name := "sites", desc := "()I" } : Jvm.MethodName) ({ cls := "CallMigrator", name := "sites", desc := "()I" } : Jvm.MethodName)) ∈ lw_all := lw_g (lw_at lw_m3 48 rfl) rfl
theorem q584 : (Jvm.Cond.code ({ cls := "CallMigrator", name := "sites", desc := "()I" } : Jvm.MethodName) prog_1_method_27_code (1 : Nat) (Option.some Jvm.ClassFile.FieldType.int)) ∈ lw_all := lw_g (lw_at lw_m3 49 rfl) rfl
theorem q585 : (Jvm.Cond.methodLink "CallMigrator" (177 : Nat) ({ cls := "CallMigrator$Node", name := "sites", desc := "()I" } : Jvm.MethodName)) ∈ lw_all := lw_g (lw_at lw_m3 50 rfl) rfl
theorem q591 : (Jvm.Cond.instanceMethod ({ cls := "CallMigrator", name := "nodes", desc := "()I" } : Jvm.MethodName)) ∈ lw_all := lw_g (lw_at lw_m3 56 rfl) rfl
theorem q592 : (Jvm.Cond.selects "CallMigrator" ({ cls := "CallMigrator", name := "nodes", desc := "()I" } : Jvm.MethodName) ({ cls := "CallMigrator", name := "nodes", desc := "()I" } : Jvm.MethodName)) ∈ lw_all := lw_g (lw_at lw_m3 57 rfl) rfl
theorem q593 : (Jvm.Cond.code ({ cls := "CallMigrator", name := "nodes", desc := "()I" } : Jvm.MethodName) prog_1_method_28_code (1 : Nat) (Option.some Jvm.ClassFile.FieldType.int)) ∈ lw_all := lw_g (lw_at lw_m3 58 rfl) rfl
theorem q595 : (Jvm.Cond.instanceMethod ({ cls := "CallMigrator", name := "value", desc := "(II)I" } : Jvm.MethodName)) ∈ lw_all := lw_g (lw_at lw_m3 60 rfl) rfl
theorem q596 : (Jvm.Cond.selects "CallMigrator" ({ cls := "CallMigrator", name := "value", desc := "(II)I" } : Jvm.MethodName) ({ cls := "CallMigrator", name := "value", desc := "(II)I" } : Jvm.MethodName)) ∈ lw_all := lw_g (lw_at lw_m3 61 rfl) rfl
theorem q597 : (Jvm.Cond.code ({ cls := "CallMigrator", name := "value", desc := "(II)I" } : Jvm.MethodName) prog_1_method_29_code (3 : Nat) (Option.some Jvm.ClassFile.FieldType.int)) ∈ lw_all := lw_g (lw_at lw_m3 62 rfl) rfl
theorem q598 : (Jvm.Cond.methodLink "CallMigrator" (181 : Nat) ({ cls := "CallMigrator$State", name := "value", desc := "(LCallMigrator$Node;II)I" } : Jvm.MethodName)) ∈ lw_all := lw_g (lw_at lw_m3 63 rfl) rfl
theorem q604 : (Jvm.Cond.instanceMethod ({ cls := "CallMigrator", name := "textByte", desc := "(I)I" } : Jvm.MethodName)) ∈ lw_all := lw_g (lw_at lw_m3 69 rfl) rfl
theorem q605 : (Jvm.Cond.selects "CallMigrator" ({ cls := "CallMigrator", name := "textByte", desc := "(I)I" } : Jvm.MethodName) ({ cls := "CallMigrator", name := "textByte", desc := "(I)I" } : Jvm.MethodName)) ∈ lw_all := lw_g (lw_at lw_m3 70 rfl) rfl
theorem q606 : (Jvm.Cond.code ({ cls := "CallMigrator", name := "textByte", desc := "(I)I" } : Jvm.MethodName) prog_1_method_31_code (3 : Nat) (Option.some Jvm.ClassFile.FieldType.int)) ∈ lw_all := lw_g (lw_at lw_m3 71 rfl) rfl
theorem q607 : (Jvm.Cond.methodLink "CallMigrator" (192 : Nat) ({ cls := "CallMigrator", name := "programText", desc := "()Ljava/lang/StringBuilder;" } : Jvm.MethodName)) ∈ lw_all := lw_g (lw_at lw_m3 72 rfl) rfl
theorem q608 : (Jvm.Cond.privateMethod ({ cls := "CallMigrator", name := "programText", desc := "()Ljava/lang/StringBuilder;" } : Jvm.MethodName)) ∈ lw_tbl := lw_at lw_m3 73 rfl
theorem q609 : (Jvm.Cond.instanceMethod ({ cls := "CallMigrator", name := "programText", desc := "()Ljava/lang/StringBuilder;" } : Jvm.MethodName)) ∈ lw_all := lw_g (lw_at lw_m3 74 rfl) rfl
theorem q610 : (Jvm.Cond.code ({ cls := "CallMigrator", name := "programText", desc := "()Ljava/lang/StringBuilder;" } : Jvm.MethodName) prog_1_method_30_code (2 : Nat) (Option.some (Jvm.ClassFile.FieldType.object "java/lang/StringBuilder"))) ∈ lw_all := lw_g (lw_at lw_m3 75 rfl) rfl
theorem q611 : (Jvm.Cond.classLink "CallMigrator" (185 : Nat) "java/lang/StringBuilder") ∈ lw_all := lw_g (lw_at lw_m3 76 rfl) rfl
theorem q613 : (Jvm.Cond.methodLink "CallMigrator" (187 : Nat) ({ cls := "java/lang/StringBuilder", name := "<init>", desc := "()V" } : Jvm.MethodName)) ∈ lw_all := lw_g (lw_at lw_m3 78 rfl) rfl
theorem q641 : (Jvm.Cond.methodLink "CallMigrator" (188 : Nat) ({ cls := "CallMigrator$Node", name := "write", desc := "(Ljava/lang/StringBuilder;)V" } : Jvm.MethodName)) ∈ lw_all := lw_g (lw_at lw_m3 106 rfl) rfl
theorem q830 : (Jvm.Cond.methodLink "CallMigrator" (196 : Nat) ({ cls := "java/lang/StringBuilder", name := "length", desc := "()I" } : Jvm.MethodName)) ∈ lw_all := lw_g (lw_at lw_m4 55 rfl) rfl
theorem q837 : (Jvm.Cond.methodLink "CallMigrator" (199 : Nat) ({ cls := "java/lang/StringBuilder", name := "charAt", desc := "(I)C" } : Jvm.MethodName)) ∈ lw_all := lw_g (lw_at lw_m4 62 rfl) rfl
theorem q848 : (Jvm.Cond.instanceMethod ({ cls := "CallMigrator", name := "undo", desc := "()I" } : Jvm.MethodName)) ∈ lw_all := lw_g (lw_at lw_m4 73 rfl) rfl
theorem q849 : (Jvm.Cond.selects "CallMigrator" ({ cls := "CallMigrator", name := "undo", desc := "()I" } : Jvm.MethodName) ({ cls := "CallMigrator", name := "undo", desc := "()I" } : Jvm.MethodName)) ∈ lw_all := lw_g (lw_at lw_m4 74 rfl) rfl
theorem q850 : (Jvm.Cond.code ({ cls := "CallMigrator", name := "undo", desc := "()I" } : Jvm.MethodName) prog_1_method_32_code (1 : Nat) (Option.some Jvm.ClassFile.FieldType.int)) ∈ lw_all := lw_g (lw_at lw_m4 75 rfl) rfl
theorem q852 : (Jvm.Cond.instanceMethod ({ cls := "CallMigrator", name := "errorCount", desc := "(I)I" } : Jvm.MethodName)) ∈ lw_all := lw_g (lw_at lw_m4 77 rfl) rfl
theorem q853 : (Jvm.Cond.selects "CallMigrator" ({ cls := "CallMigrator", name := "errorCount", desc := "(I)I" } : Jvm.MethodName) ({ cls := "CallMigrator", name := "errorCount", desc := "(I)I" } : Jvm.MethodName)) ∈ lw_all := lw_g (lw_at lw_m4 78 rfl) rfl
theorem q854 : (Jvm.Cond.code ({ cls := "CallMigrator", name := "errorCount", desc := "(I)I" } : Jvm.MethodName) prog_1_method_33_code (2 : Nat) (Option.some Jvm.ClassFile.FieldType.int)) ∈ lw_all := lw_g (lw_at lw_m4 79 rfl) rfl
theorem q856 : (Jvm.Cond.instanceMethod ({ cls := "CallMigrator", name := "digest", desc := "()J" } : Jvm.MethodName)) ∈ lw_all := lw_g (lw_at lw_m4 81 rfl) rfl
theorem q857 : (Jvm.Cond.selects "CallMigrator" ({ cls := "CallMigrator", name := "digest", desc := "()J" } : Jvm.MethodName) ({ cls := "CallMigrator", name := "digest", desc := "()J" } : Jvm.MethodName)) ∈ lw_all := lw_g (lw_at lw_m4 82 rfl) rfl
theorem q858 : (Jvm.Cond.code ({ cls := "CallMigrator", name := "digest", desc := "()J" } : Jvm.MethodName) prog_1_method_36_code (5 : Nat) (Option.some Jvm.ClassFile.FieldType.long)) ∈ lw_all := lw_g (lw_at lw_m4 83 rfl) rfl
theorem q859 : (Jvm.Cond.constantLong "CallMigrator" (218 : Nat) (2683 : Int64)) ∈ lw_all := lw_g (lw_at lw_m4 84 rfl) rfl
theorem q860 : (Jvm.Cond.methodLink "CallMigrator" (211 : Nat) ({ cls := "CallMigrator", name := "mix", desc := "(J[I)J" } : Jvm.MethodName)) ∈ lw_all := lw_g (lw_at lw_m4 85 rfl) rfl
theorem q861 : (Jvm.Cond.static ({ cls := "CallMigrator", name := "mix", desc := "(J[I)J" } : Jvm.MethodName)) ∈ lw_all := lw_g (lw_at lw_m4 86 rfl) rfl
theorem q862 : (Jvm.Cond.code ({ cls := "CallMigrator", name := "mix", desc := "(J[I)J" } : Jvm.MethodName) prog_1_method_34_code (9 : Nat) (Option.some Jvm.ClassFile.FieldType.long)) ∈ lw_all := lw_g (lw_at lw_m4 87 rfl) rfl
theorem q863 : (Jvm.Cond.constantLong "CallMigrator" (203 : Nat) (31 : Int64)) ∈ lw_all := lw_g (lw_at lw_m4 88 rfl) rfl
theorem q864 : (Jvm.Cond.methodLink "CallMigrator" (220 : Nat) ({ cls := "CallMigrator", name := "mixAll", desc := "(J[LCallMigrator$Function;)J" } : Jvm.MethodName)) ∈ lw_all := lw_g (lw_at lw_m4 89 rfl) rfl
theorem q865 : (Jvm.Cond.static ({ cls := "CallMigrator", name := "mixAll", desc := "(J[LCallMigrator$Function;)J" } : Jvm.MethodName)) ∈ lw_all := lw_g (lw_at lw_m4 90 rfl) rfl
theorem q866 : (Jvm.Cond.code ({ cls := "CallMigrator", name := "mixAll", desc := "(J[LCallMigrator$Function;)J" } : Jvm.MethodName) prog_1_method_35_code (9 : Nat) (Option.some Jvm.ClassFile.FieldType.long)) ∈ lw_all := lw_g (lw_at lw_m4 91 rfl) rfl
theorem in_X0 : ∀ w ∈ wsX00, w ∈ lw_all := lw_in wsX00 [242, 244, 246, 248, 250, 252, 254] (by decide +kernel) (by decide +kernel)

/-! CallMigrator$State -/
set_option maxRecDepth 100000
def RX1 : String := "CallMigrator$State"
def TX1 : u_T := fun k => match k with
  | 0 => ("CallMigrator$State", "olds", "[LCallMigrator$Function;", true)
  | 1 => ("CallMigrator$State", "news", "[LCallMigrator$Function;", true)
  | 2 => ("CallMigrator$State", "adapters", "[LCallMigrator$Function;", true)
  | 3 => ("CallMigrator$State", "adapterCount", "I", false)
  | 4 => ("CallMigrator$State", "adapterOf", "[I", true)
  | 5 => ("CallMigrator$State", "mappings", "[LCallMigrator$Mapping;", true)
  | 6 => ("CallMigrator$State", "allowed", "I", false)
  | 7 => ("CallMigrator$State", "program", "LCallMigrator$Node;", false)
  | _ => ("CallMigrator$State", "left", "[I", true)
def tyX1 : Nat → FieldType := fun k => match k with
  | 0 => .array (.object "CallMigrator$Function")
  | 1 => .array (.object "CallMigrator$Function")
  | 2 => .array (.object "CallMigrator$Function")
  | 3 => .int
  | 4 => .array .int
  | 5 => .array (.object "CallMigrator$Mapping")
  | 6 => .int
  | 7 => .object "CallMigrator$Node"
  | _ => .array .int
abbrev wsX10 : List Cond := u_ws RX1 TX1 9
theorem nmX1 : ∀ a, a < 9 → ∀ b, b < 9 → a ≠ b → (TX1 a).2.1 ≠ (TX1 b).2.1 := by decide +kernel
theorem tyX1_ok : ∀ k, k < 9 → parseFieldDescriptor (TX1 k).2.2.1 = some (tyX1 k) := by decide +kernel
abbrev cX1_init : ByteArray := prog_7_method_1_code
def yX1_init : MethodName := ⟨RX1, "<init>", "()V"⟩
def dkwX1_init_4 : List UInt8 := [183, 0, 45, 184, 0, 46, 42, 180, 0, 23, 2, 184, 0, 52, 177]
abbrev dktX1_init_4 : List UInt8 := dkwX1_init_4 ++ []
def dkwX1_init_3 : List UInt8 := [42, 180, 0, 11, 187, 0, 9, 89, 183, 0, 45, 184, 0, 46, 42, 180, 0, 17, 187, 0, 9, 89]
abbrev dktX1_init_3 : List UInt8 := dkwX1_init_3 ++ dktX1_init_4
def dkwX1_init_2 : List UInt8 := [187, 0, 33, 89, 3, 3, 3, 189, 0, 33, 183, 0, 35, 181, 0, 38, 42, 16, 8, 188, 10, 181, 0, 42]
abbrev dktX1_init_2 : List UInt8 := dkwX1_init_2 ++ dktX1_init_3
def dkwX1_init_1 : List UInt8 := [189, 0, 9, 181, 0, 20, 42, 16, 6, 188, 10, 181, 0, 23, 42, 16, 6, 189, 0, 27, 181, 0, 29, 42]
abbrev dktX1_init_1 : List UInt8 := dkwX1_init_1 ++ dktX1_init_2
def dkwX1_init_0 : List UInt8 := [42, 183, 0, 3, 42, 16, 6, 189, 0, 9, 181, 0, 11, 42, 16, 6, 189, 0, 9, 181, 0, 17, 42, 7]
abbrev dktX1_init_0 : List UInt8 := dkwX1_init_0 ++ dktX1_init_1
theorem dksX1_init_0 : cX1_init.data.toList.drop 0 = dktX1_init_0 := by decide +kernel
theorem dksX1_init_1 : cX1_init.data.toList.drop 24 = dktX1_init_1 := dk_seg dksX1_init_0 24 rfl rfl
theorem dksX1_init_2 : cX1_init.data.toList.drop 48 = dktX1_init_2 := dk_seg dksX1_init_1 24 rfl rfl
theorem dksX1_init_3 : cX1_init.data.toList.drop 72 = dktX1_init_3 := dk_seg dksX1_init_2 24 rfl rfl
theorem dksX1_init_4 : cX1_init.data.toList.drop 94 = dktX1_init_4 := dk_seg dksX1_init_3 22 rfl rfl
theorem dX1_init_0 : decode cX1_init 0 = .ok (.aload_n 0, 1) := dk_42 (dk_at dksX1_init_0 0 rfl rfl)
theorem dX1_init_1 : decode cX1_init 1 = .ok (.invokespecial 3, 3) := dk_183 0 3 (dk_at dksX1_init_0 1 rfl rfl)
theorem dX1_init_4 : decode cX1_init 4 = .ok (.aload_n 0, 1) := dk_42 (dk_at dksX1_init_0 4 rfl rfl)
theorem dX1_init_5 : decode cX1_init 5 = .ok (.bipush 6, 2) := dk_16 6 (dk_at dksX1_init_0 5 rfl rfl)
theorem dX1_init_7 : decode cX1_init 7 = .ok (.anewarray 9, 3) := dk_189 0 9 (dk_at dksX1_init_0 7 rfl rfl)
theorem dX1_init_10 : decode cX1_init 10 = .ok (.putfield 11, 3) := dk_181 0 11 (dk_at dksX1_init_0 10 rfl rfl)
theorem dX1_init_13 : decode cX1_init 13 = .ok (.aload_n 0, 1) := dk_42 (dk_at dksX1_init_0 13 rfl rfl)
theorem dX1_init_14 : decode cX1_init 14 = .ok (.bipush 6, 2) := dk_16 6 (dk_at dksX1_init_0 14 rfl rfl)
theorem dX1_init_16 : decode cX1_init 16 = .ok (.anewarray 9, 3) := dk_189 0 9 (dk_at dksX1_init_0 16 rfl rfl)
theorem dX1_init_19 : decode cX1_init 19 = .ok (.putfield 17, 3) := dk_181 0 17 (dk_at dksX1_init_0 19 rfl rfl)
theorem dX1_init_22 : decode cX1_init 22 = .ok (.aload_n 0, 1) := dk_42 (dk_at dksX1_init_0 22 rfl rfl)
theorem dX1_init_23 : decode cX1_init 23 = .ok (.iconst 4, 1) := dk_7 (dk_at dksX1_init_0 23 rfl rfl)
theorem dX1_init_24 : decode cX1_init 24 = .ok (.anewarray 9, 3) := dk_189 0 9 (dk_at dksX1_init_1 0 rfl rfl)
theorem dX1_init_27 : decode cX1_init 27 = .ok (.putfield 20, 3) := dk_181 0 20 (dk_at dksX1_init_1 3 rfl rfl)
theorem dX1_init_30 : decode cX1_init 30 = .ok (.aload_n 0, 1) := dk_42 (dk_at dksX1_init_1 6 rfl rfl)
theorem dX1_init_31 : decode cX1_init 31 = .ok (.bipush 6, 2) := dk_16 6 (dk_at dksX1_init_1 7 rfl rfl)
theorem dX1_init_33 : decode cX1_init 33 = .ok (.newarray .int, 2) := dk_188_10 (dk_at dksX1_init_1 9 rfl rfl)
theorem dX1_init_35 : decode cX1_init 35 = .ok (.putfield 23, 3) := dk_181 0 23 (dk_at dksX1_init_1 11 rfl rfl)
theorem dX1_init_38 : decode cX1_init 38 = .ok (.aload_n 0, 1) := dk_42 (dk_at dksX1_init_1 14 rfl rfl)
theorem dX1_init_39 : decode cX1_init 39 = .ok (.bipush 6, 2) := dk_16 6 (dk_at dksX1_init_1 15 rfl rfl)
theorem dX1_init_41 : decode cX1_init 41 = .ok (.anewarray 27, 3) := dk_189 0 27 (dk_at dksX1_init_1 17 rfl rfl)
theorem dX1_init_44 : decode cX1_init 44 = .ok (.putfield 29, 3) := dk_181 0 29 (dk_at dksX1_init_1 20 rfl rfl)
theorem dX1_init_47 : decode cX1_init 47 = .ok (.aload_n 0, 1) := dk_42 (dk_at dksX1_init_1 23 rfl rfl)
theorem dX1_init_48 : decode cX1_init 48 = .ok (.new 33, 3) := dk_187 0 33 (dk_at dksX1_init_2 0 rfl rfl)
theorem dX1_init_51 : decode cX1_init 51 = .ok (.dup, 1) := dk_89 (dk_at dksX1_init_2 3 rfl rfl)
theorem dX1_init_52 : decode cX1_init 52 = .ok (.iconst 0, 1) := dk_3 (dk_at dksX1_init_2 4 rfl rfl)
theorem dX1_init_53 : decode cX1_init 53 = .ok (.iconst 0, 1) := dk_3 (dk_at dksX1_init_2 5 rfl rfl)
theorem dX1_init_54 : decode cX1_init 54 = .ok (.iconst 0, 1) := dk_3 (dk_at dksX1_init_2 6 rfl rfl)
theorem dX1_init_55 : decode cX1_init 55 = .ok (.anewarray 33, 3) := dk_189 0 33 (dk_at dksX1_init_2 7 rfl rfl)
theorem dX1_init_58 : decode cX1_init 58 = .ok (.invokespecial 35, 3) := dk_183 0 35 (dk_at dksX1_init_2 10 rfl rfl)
theorem dX1_init_61 : decode cX1_init 61 = .ok (.putfield 38, 3) := dk_181 0 38 (dk_at dksX1_init_2 13 rfl rfl)
theorem dX1_init_64 : decode cX1_init 64 = .ok (.aload_n 0, 1) := dk_42 (dk_at dksX1_init_2 16 rfl rfl)
theorem dX1_init_65 : decode cX1_init 65 = .ok (.bipush 8, 2) := dk_16 8 (dk_at dksX1_init_2 17 rfl rfl)
theorem dX1_init_67 : decode cX1_init 67 = .ok (.newarray .int, 2) := dk_188_10 (dk_at dksX1_init_2 19 rfl rfl)
theorem dX1_init_69 : decode cX1_init 69 = .ok (.putfield 42, 3) := dk_181 0 42 (dk_at dksX1_init_2 21 rfl rfl)
theorem dX1_init_72 : decode cX1_init 72 = .ok (.aload_n 0, 1) := dk_42 (dk_at dksX1_init_3 0 rfl rfl)
theorem dX1_init_73 : decode cX1_init 73 = .ok (.getfield 11, 3) := dk_180 0 11 (dk_at dksX1_init_3 1 rfl rfl)
theorem dX1_init_76 : decode cX1_init 76 = .ok (.new 9, 3) := dk_187 0 9 (dk_at dksX1_init_3 4 rfl rfl)
theorem dX1_init_79 : decode cX1_init 79 = .ok (.dup, 1) := dk_89 (dk_at dksX1_init_3 7 rfl rfl)
theorem dX1_init_80 : decode cX1_init 80 = .ok (.invokespecial 45, 3) := dk_183 0 45 (dk_at dksX1_init_3 8 rfl rfl)
theorem dX1_init_83 : decode cX1_init 83 = .ok (.invokestatic 46, 3) := dk_184 0 46 (dk_at dksX1_init_3 11 rfl rfl)
theorem dX1_init_86 : decode cX1_init 86 = .ok (.aload_n 0, 1) := dk_42 (dk_at dksX1_init_3 14 rfl rfl)
theorem dX1_init_87 : decode cX1_init 87 = .ok (.getfield 17, 3) := dk_180 0 17 (dk_at dksX1_init_3 15 rfl rfl)
theorem dX1_init_90 : decode cX1_init 90 = .ok (.new 9, 3) := dk_187 0 9 (dk_at dksX1_init_3 18 rfl rfl)
theorem dX1_init_93 : decode cX1_init 93 = .ok (.dup, 1) := dk_89 (dk_at dksX1_init_3 21 rfl rfl)
theorem dX1_init_94 : decode cX1_init 94 = .ok (.invokespecial 45, 3) := dk_183 0 45 (dk_at dksX1_init_4 0 rfl rfl)
theorem dX1_init_97 : decode cX1_init 97 = .ok (.invokestatic 46, 3) := dk_184 0 46 (dk_at dksX1_init_4 3 rfl rfl)
theorem dX1_init_100 : decode cX1_init 100 = .ok (.aload_n 0, 1) := dk_42 (dk_at dksX1_init_4 6 rfl rfl)
theorem dX1_init_101 : decode cX1_init 101 = .ok (.getfield 23, 3) := dk_180 0 23 (dk_at dksX1_init_4 7 rfl rfl)
theorem dX1_init_104 : decode cX1_init 104 = .ok (.iconst (-1), 1) := dk_2 (dk_at dksX1_init_4 10 rfl rfl)
theorem dX1_init_105 : decode cX1_init 105 = .ok (.invokestatic 52, 3) := dk_184 0 52 (dk_at dksX1_init_4 11 rfl rfl)
theorem dX1_init_108 : decode cX1_init 108 = .ok (.return_, 1) := dk_177 (dk_at dksX1_init_4 14 rfl rfl)
abbrev cX1_copyFrom : ByteArray := prog_7_method_2_code
def yX1_copyFrom : MethodName := ⟨RX1, "copyFrom", "(LCallMigrator$State;)V"⟩
def dkwX1_copyFrom_4 : List UInt8 := [180, 0, 38, 181, 0, 38, 43, 180, 0, 42, 3, 42, 180, 0, 42, 3, 16, 8, 184, 0, 55, 177]
abbrev dktX1_copyFrom_4 : List UInt8 := dkwX1_copyFrom_4 ++ []
def dkwX1_copyFrom_3 : List UInt8 := [180, 0, 29, 3, 42, 180, 0, 29, 3, 16, 6, 184, 0, 55, 42, 43, 180, 0, 65, 181, 0, 65, 42, 43]
abbrev dktX1_copyFrom_3 : List UInt8 := dkwX1_copyFrom_3 ++ dktX1_copyFrom_4
def dkwX1_copyFrom_2 : List UInt8 := [180, 0, 61, 181, 0, 61, 43, 180, 0, 23, 3, 42, 180, 0, 23, 3, 16, 6, 184, 0, 55, 43]
abbrev dktX1_copyFrom_2 : List UInt8 := dkwX1_copyFrom_2 ++ dktX1_copyFrom_3
def dkwX1_copyFrom_1 : List UInt8 := [3, 16, 6, 184, 0, 55, 43, 180, 0, 20, 3, 42, 180, 0, 20, 3, 7, 184, 0, 55, 42, 43]
abbrev dktX1_copyFrom_1 : List UInt8 := dkwX1_copyFrom_1 ++ dktX1_copyFrom_2
def dkwX1_copyFrom_0 : List UInt8 := [43, 180, 0, 11, 3, 42, 180, 0, 11, 3, 16, 6, 184, 0, 55, 43, 180, 0, 17, 3, 42, 180, 0, 17]
abbrev dktX1_copyFrom_0 : List UInt8 := dkwX1_copyFrom_0 ++ dktX1_copyFrom_1
theorem dksX1_copyFrom_0 : cX1_copyFrom.data.toList.drop 0 = dktX1_copyFrom_0 := by decide +kernel
theorem dksX1_copyFrom_1 : cX1_copyFrom.data.toList.drop 24 = dktX1_copyFrom_1 := dk_seg dksX1_copyFrom_0 24 rfl rfl
theorem dksX1_copyFrom_2 : cX1_copyFrom.data.toList.drop 46 = dktX1_copyFrom_2 := dk_seg dksX1_copyFrom_1 22 rfl rfl
theorem dksX1_copyFrom_3 : cX1_copyFrom.data.toList.drop 68 = dktX1_copyFrom_3 := dk_seg dksX1_copyFrom_2 22 rfl rfl
theorem dksX1_copyFrom_4 : cX1_copyFrom.data.toList.drop 92 = dktX1_copyFrom_4 := dk_seg dksX1_copyFrom_3 24 rfl rfl
theorem dX1_copyFrom_0 : decode cX1_copyFrom 0 = .ok (.aload_n 1, 1) := dk_43 (dk_at dksX1_copyFrom_0 0 rfl rfl)
theorem dX1_copyFrom_1 : decode cX1_copyFrom 1 = .ok (.getfield 11, 3) := dk_180 0 11 (dk_at dksX1_copyFrom_0 1 rfl rfl)
theorem dX1_copyFrom_4 : decode cX1_copyFrom 4 = .ok (.iconst 0, 1) := dk_3 (dk_at dksX1_copyFrom_0 4 rfl rfl)
theorem dX1_copyFrom_5 : decode cX1_copyFrom 5 = .ok (.aload_n 0, 1) := dk_42 (dk_at dksX1_copyFrom_0 5 rfl rfl)
theorem dX1_copyFrom_6 : decode cX1_copyFrom 6 = .ok (.getfield 11, 3) := dk_180 0 11 (dk_at dksX1_copyFrom_0 6 rfl rfl)
theorem dX1_copyFrom_9 : decode cX1_copyFrom 9 = .ok (.iconst 0, 1) := dk_3 (dk_at dksX1_copyFrom_0 9 rfl rfl)
theorem dX1_copyFrom_10 : decode cX1_copyFrom 10 = .ok (.bipush 6, 2) := dk_16 6 (dk_at dksX1_copyFrom_0 10 rfl rfl)
theorem dX1_copyFrom_12 : decode cX1_copyFrom 12 = .ok (.invokestatic 55, 3) := dk_184 0 55 (dk_at dksX1_copyFrom_0 12 rfl rfl)
theorem dX1_copyFrom_15 : decode cX1_copyFrom 15 = .ok (.aload_n 1, 1) := dk_43 (dk_at dksX1_copyFrom_0 15 rfl rfl)
theorem dX1_copyFrom_16 : decode cX1_copyFrom 16 = .ok (.getfield 17, 3) := dk_180 0 17 (dk_at dksX1_copyFrom_0 16 rfl rfl)
theorem dX1_copyFrom_19 : decode cX1_copyFrom 19 = .ok (.iconst 0, 1) := dk_3 (dk_at dksX1_copyFrom_0 19 rfl rfl)
theorem dX1_copyFrom_20 : decode cX1_copyFrom 20 = .ok (.aload_n 0, 1) := dk_42 (dk_at dksX1_copyFrom_0 20 rfl rfl)
theorem dX1_copyFrom_21 : decode cX1_copyFrom 21 = .ok (.getfield 17, 3) := dk_180 0 17 (dk_at dksX1_copyFrom_0 21 rfl rfl)
theorem dX1_copyFrom_24 : decode cX1_copyFrom 24 = .ok (.iconst 0, 1) := dk_3 (dk_at dksX1_copyFrom_1 0 rfl rfl)
theorem dX1_copyFrom_25 : decode cX1_copyFrom 25 = .ok (.bipush 6, 2) := dk_16 6 (dk_at dksX1_copyFrom_1 1 rfl rfl)
theorem dX1_copyFrom_27 : decode cX1_copyFrom 27 = .ok (.invokestatic 55, 3) := dk_184 0 55 (dk_at dksX1_copyFrom_1 3 rfl rfl)
theorem dX1_copyFrom_30 : decode cX1_copyFrom 30 = .ok (.aload_n 1, 1) := dk_43 (dk_at dksX1_copyFrom_1 6 rfl rfl)
theorem dX1_copyFrom_31 : decode cX1_copyFrom 31 = .ok (.getfield 20, 3) := dk_180 0 20 (dk_at dksX1_copyFrom_1 7 rfl rfl)
theorem dX1_copyFrom_34 : decode cX1_copyFrom 34 = .ok (.iconst 0, 1) := dk_3 (dk_at dksX1_copyFrom_1 10 rfl rfl)
theorem dX1_copyFrom_35 : decode cX1_copyFrom 35 = .ok (.aload_n 0, 1) := dk_42 (dk_at dksX1_copyFrom_1 11 rfl rfl)
theorem dX1_copyFrom_36 : decode cX1_copyFrom 36 = .ok (.getfield 20, 3) := dk_180 0 20 (dk_at dksX1_copyFrom_1 12 rfl rfl)
theorem dX1_copyFrom_39 : decode cX1_copyFrom 39 = .ok (.iconst 0, 1) := dk_3 (dk_at dksX1_copyFrom_1 15 rfl rfl)
theorem dX1_copyFrom_40 : decode cX1_copyFrom 40 = .ok (.iconst 4, 1) := dk_7 (dk_at dksX1_copyFrom_1 16 rfl rfl)
theorem dX1_copyFrom_41 : decode cX1_copyFrom 41 = .ok (.invokestatic 55, 3) := dk_184 0 55 (dk_at dksX1_copyFrom_1 17 rfl rfl)
theorem dX1_copyFrom_44 : decode cX1_copyFrom 44 = .ok (.aload_n 0, 1) := dk_42 (dk_at dksX1_copyFrom_1 20 rfl rfl)
theorem dX1_copyFrom_45 : decode cX1_copyFrom 45 = .ok (.aload_n 1, 1) := dk_43 (dk_at dksX1_copyFrom_1 21 rfl rfl)
theorem dX1_copyFrom_46 : decode cX1_copyFrom 46 = .ok (.getfield 61, 3) := dk_180 0 61 (dk_at dksX1_copyFrom_2 0 rfl rfl)
theorem dX1_copyFrom_49 : decode cX1_copyFrom 49 = .ok (.putfield 61, 3) := dk_181 0 61 (dk_at dksX1_copyFrom_2 3 rfl rfl)
theorem dX1_copyFrom_52 : decode cX1_copyFrom 52 = .ok (.aload_n 1, 1) := dk_43 (dk_at dksX1_copyFrom_2 6 rfl rfl)
theorem dX1_copyFrom_53 : decode cX1_copyFrom 53 = .ok (.getfield 23, 3) := dk_180 0 23 (dk_at dksX1_copyFrom_2 7 rfl rfl)
theorem dX1_copyFrom_56 : decode cX1_copyFrom 56 = .ok (.iconst 0, 1) := dk_3 (dk_at dksX1_copyFrom_2 10 rfl rfl)
theorem dX1_copyFrom_57 : decode cX1_copyFrom 57 = .ok (.aload_n 0, 1) := dk_42 (dk_at dksX1_copyFrom_2 11 rfl rfl)
theorem dX1_copyFrom_58 : decode cX1_copyFrom 58 = .ok (.getfield 23, 3) := dk_180 0 23 (dk_at dksX1_copyFrom_2 12 rfl rfl)
theorem dX1_copyFrom_61 : decode cX1_copyFrom 61 = .ok (.iconst 0, 1) := dk_3 (dk_at dksX1_copyFrom_2 15 rfl rfl)
theorem dX1_copyFrom_62 : decode cX1_copyFrom 62 = .ok (.bipush 6, 2) := dk_16 6 (dk_at dksX1_copyFrom_2 16 rfl rfl)
theorem dX1_copyFrom_64 : decode cX1_copyFrom 64 = .ok (.invokestatic 55, 3) := dk_184 0 55 (dk_at dksX1_copyFrom_2 18 rfl rfl)
theorem dX1_copyFrom_67 : decode cX1_copyFrom 67 = .ok (.aload_n 1, 1) := dk_43 (dk_at dksX1_copyFrom_2 21 rfl rfl)
theorem dX1_copyFrom_68 : decode cX1_copyFrom 68 = .ok (.getfield 29, 3) := dk_180 0 29 (dk_at dksX1_copyFrom_3 0 rfl rfl)
theorem dX1_copyFrom_71 : decode cX1_copyFrom 71 = .ok (.iconst 0, 1) := dk_3 (dk_at dksX1_copyFrom_3 3 rfl rfl)
theorem dX1_copyFrom_72 : decode cX1_copyFrom 72 = .ok (.aload_n 0, 1) := dk_42 (dk_at dksX1_copyFrom_3 4 rfl rfl)
theorem dX1_copyFrom_73 : decode cX1_copyFrom 73 = .ok (.getfield 29, 3) := dk_180 0 29 (dk_at dksX1_copyFrom_3 5 rfl rfl)
theorem dX1_copyFrom_76 : decode cX1_copyFrom 76 = .ok (.iconst 0, 1) := dk_3 (dk_at dksX1_copyFrom_3 8 rfl rfl)
theorem dX1_copyFrom_77 : decode cX1_copyFrom 77 = .ok (.bipush 6, 2) := dk_16 6 (dk_at dksX1_copyFrom_3 9 rfl rfl)
theorem dX1_copyFrom_79 : decode cX1_copyFrom 79 = .ok (.invokestatic 55, 3) := dk_184 0 55 (dk_at dksX1_copyFrom_3 11 rfl rfl)
theorem dX1_copyFrom_82 : decode cX1_copyFrom 82 = .ok (.aload_n 0, 1) := dk_42 (dk_at dksX1_copyFrom_3 14 rfl rfl)
theorem dX1_copyFrom_83 : decode cX1_copyFrom 83 = .ok (.aload_n 1, 1) := dk_43 (dk_at dksX1_copyFrom_3 15 rfl rfl)
theorem dX1_copyFrom_84 : decode cX1_copyFrom 84 = .ok (.getfield 65, 3) := dk_180 0 65 (dk_at dksX1_copyFrom_3 16 rfl rfl)
theorem dX1_copyFrom_87 : decode cX1_copyFrom 87 = .ok (.putfield 65, 3) := dk_181 0 65 (dk_at dksX1_copyFrom_3 19 rfl rfl)
theorem dX1_copyFrom_90 : decode cX1_copyFrom 90 = .ok (.aload_n 0, 1) := dk_42 (dk_at dksX1_copyFrom_3 22 rfl rfl)
theorem dX1_copyFrom_91 : decode cX1_copyFrom 91 = .ok (.aload_n 1, 1) := dk_43 (dk_at dksX1_copyFrom_3 23 rfl rfl)
theorem dX1_copyFrom_92 : decode cX1_copyFrom 92 = .ok (.getfield 38, 3) := dk_180 0 38 (dk_at dksX1_copyFrom_4 0 rfl rfl)
theorem dX1_copyFrom_95 : decode cX1_copyFrom 95 = .ok (.putfield 38, 3) := dk_181 0 38 (dk_at dksX1_copyFrom_4 3 rfl rfl)
theorem dX1_copyFrom_98 : decode cX1_copyFrom 98 = .ok (.aload_n 1, 1) := dk_43 (dk_at dksX1_copyFrom_4 6 rfl rfl)
theorem dX1_copyFrom_99 : decode cX1_copyFrom 99 = .ok (.getfield 42, 3) := dk_180 0 42 (dk_at dksX1_copyFrom_4 7 rfl rfl)
theorem dX1_copyFrom_102 : decode cX1_copyFrom 102 = .ok (.iconst 0, 1) := dk_3 (dk_at dksX1_copyFrom_4 10 rfl rfl)
theorem dX1_copyFrom_103 : decode cX1_copyFrom 103 = .ok (.aload_n 0, 1) := dk_42 (dk_at dksX1_copyFrom_4 11 rfl rfl)
theorem dX1_copyFrom_104 : decode cX1_copyFrom 104 = .ok (.getfield 42, 3) := dk_180 0 42 (dk_at dksX1_copyFrom_4 12 rfl rfl)
theorem dX1_copyFrom_107 : decode cX1_copyFrom 107 = .ok (.iconst 0, 1) := dk_3 (dk_at dksX1_copyFrom_4 15 rfl rfl)
theorem dX1_copyFrom_108 : decode cX1_copyFrom 108 = .ok (.bipush 8, 2) := dk_16 8 (dk_at dksX1_copyFrom_4 16 rfl rfl)
theorem dX1_copyFrom_110 : decode cX1_copyFrom 110 = .ok (.invokestatic 55, 3) := dk_184 0 55 (dk_at dksX1_copyFrom_4 18 rfl rfl)
theorem dX1_copyFrom_113 : decode cX1_copyFrom 113 = .ok (.return_, 1) := dk_177 (dk_at dksX1_copyFrom_4 21 rfl rfl)
abbrev cX1_isFaithful : ByteArray := prog_7_method_6_code
def yX1_isFaithful : MethodName := ⟨RX1, "isFaithful", "(I)Z"⟩
def dkwX1_isFaithful_2 : List UInt8 := [172]
abbrev dktX1_isFaithful_2 : List UInt8 := dkwX1_isFaithful_2 ++ []
def dkwX1_isFaithful_1 : List UInt8 := [180, 0, 17, 42, 180, 0, 29, 27, 50, 180, 0, 98, 50, 182, 0, 101, 153, 0, 7, 4, 167, 0, 4, 3]
abbrev dktX1_isFaithful_1 : List UInt8 := dkwX1_isFaithful_1 ++ dktX1_isFaithful_2
def dkwX1_isFaithful_0 : List UInt8 := [42, 180, 0, 29, 27, 50, 198, 0, 39, 42, 180, 0, 29, 27, 50, 42, 180, 0, 11, 27, 50, 42]
abbrev dktX1_isFaithful_0 : List UInt8 := dkwX1_isFaithful_0 ++ dktX1_isFaithful_1
theorem dksX1_isFaithful_0 : cX1_isFaithful.data.toList.drop 0 = dktX1_isFaithful_0 := by decide +kernel
theorem dksX1_isFaithful_1 : cX1_isFaithful.data.toList.drop 22 = dktX1_isFaithful_1 := dk_seg dksX1_isFaithful_0 22 rfl rfl
theorem dksX1_isFaithful_2 : cX1_isFaithful.data.toList.drop 46 = dktX1_isFaithful_2 := dk_seg dksX1_isFaithful_1 24 rfl rfl
theorem dX1_isFaithful_0 : decode cX1_isFaithful 0 = .ok (.aload_n 0, 1) := dk_42 (dk_at dksX1_isFaithful_0 0 rfl rfl)
theorem dX1_isFaithful_1 : decode cX1_isFaithful 1 = .ok (.getfield 29, 3) := dk_180 0 29 (dk_at dksX1_isFaithful_0 1 rfl rfl)
theorem dX1_isFaithful_4 : decode cX1_isFaithful 4 = .ok (.iload_n 1, 1) := dk_27 (dk_at dksX1_isFaithful_0 4 rfl rfl)
theorem dX1_isFaithful_5 : decode cX1_isFaithful 5 = .ok (.aaload, 1) := dk_50 (dk_at dksX1_isFaithful_0 5 rfl rfl)
theorem dX1_isFaithful_6 : decode cX1_isFaithful 6 = .ok (.ifnull 39, 3) := dk_198 0 39 (dk_at dksX1_isFaithful_0 6 rfl rfl)
theorem dX1_isFaithful_9 : decode cX1_isFaithful 9 = .ok (.aload_n 0, 1) := dk_42 (dk_at dksX1_isFaithful_0 9 rfl rfl)
theorem dX1_isFaithful_10 : decode cX1_isFaithful 10 = .ok (.getfield 29, 3) := dk_180 0 29 (dk_at dksX1_isFaithful_0 10 rfl rfl)
theorem dX1_isFaithful_13 : decode cX1_isFaithful 13 = .ok (.iload_n 1, 1) := dk_27 (dk_at dksX1_isFaithful_0 13 rfl rfl)
theorem dX1_isFaithful_14 : decode cX1_isFaithful 14 = .ok (.aaload, 1) := dk_50 (dk_at dksX1_isFaithful_0 14 rfl rfl)
theorem dX1_isFaithful_15 : decode cX1_isFaithful 15 = .ok (.aload_n 0, 1) := dk_42 (dk_at dksX1_isFaithful_0 15 rfl rfl)
theorem dX1_isFaithful_16 : decode cX1_isFaithful 16 = .ok (.getfield 11, 3) := dk_180 0 11 (dk_at dksX1_isFaithful_0 16 rfl rfl)
theorem dX1_isFaithful_19 : decode cX1_isFaithful 19 = .ok (.iload_n 1, 1) := dk_27 (dk_at dksX1_isFaithful_0 19 rfl rfl)
theorem dX1_isFaithful_20 : decode cX1_isFaithful 20 = .ok (.aaload, 1) := dk_50 (dk_at dksX1_isFaithful_0 20 rfl rfl)
theorem dX1_isFaithful_21 : decode cX1_isFaithful 21 = .ok (.aload_n 0, 1) := dk_42 (dk_at dksX1_isFaithful_0 21 rfl rfl)
theorem dX1_isFaithful_22 : decode cX1_isFaithful 22 = .ok (.getfield 17, 3) := dk_180 0 17 (dk_at dksX1_isFaithful_1 0 rfl rfl)
theorem dX1_isFaithful_25 : decode cX1_isFaithful 25 = .ok (.aload_n 0, 1) := dk_42 (dk_at dksX1_isFaithful_1 3 rfl rfl)
theorem dX1_isFaithful_26 : decode cX1_isFaithful 26 = .ok (.getfield 29, 3) := dk_180 0 29 (dk_at dksX1_isFaithful_1 4 rfl rfl)
theorem dX1_isFaithful_29 : decode cX1_isFaithful 29 = .ok (.iload_n 1, 1) := dk_27 (dk_at dksX1_isFaithful_1 7 rfl rfl)
theorem dX1_isFaithful_30 : decode cX1_isFaithful 30 = .ok (.aaload, 1) := dk_50 (dk_at dksX1_isFaithful_1 8 rfl rfl)
theorem dX1_isFaithful_31 : decode cX1_isFaithful 31 = .ok (.getfield 98, 3) := dk_180 0 98 (dk_at dksX1_isFaithful_1 9 rfl rfl)
theorem dX1_isFaithful_34 : decode cX1_isFaithful 34 = .ok (.aaload, 1) := dk_50 (dk_at dksX1_isFaithful_1 12 rfl rfl)
theorem dX1_isFaithful_35 : decode cX1_isFaithful 35 = .ok (.invokevirtual 101, 3) := dk_182 0 101 (dk_at dksX1_isFaithful_1 13 rfl rfl)
theorem dX1_isFaithful_38 : decode cX1_isFaithful 38 = .ok (.ifCond .eq 7, 3) := dk_153 0 7 (dk_at dksX1_isFaithful_1 16 rfl rfl)
theorem dX1_isFaithful_41 : decode cX1_isFaithful 41 = .ok (.iconst 1, 1) := dk_4 (dk_at dksX1_isFaithful_1 19 rfl rfl)
theorem dX1_isFaithful_42 : decode cX1_isFaithful 42 = .ok (.goto 4, 3) := dk_167 0 4 (dk_at dksX1_isFaithful_1 20 rfl rfl)
theorem dX1_isFaithful_45 : decode cX1_isFaithful 45 = .ok (.iconst 0, 1) := dk_3 (dk_at dksX1_isFaithful_1 23 rfl rfl)
theorem dX1_isFaithful_46 : decode cX1_isFaithful 46 = .ok (.ireturn, 1) := dk_172 (dk_at dksX1_isFaithful_2 0 rfl rfl)
abbrev cX1_hasEffect : ByteArray := prog_7_method_4_code
def yX1_hasEffect : MethodName := ⟨RX1, "hasEffect", "(LCallMigrator$Node;)Z"⟩
def dkwX1_hasEffect_2 : List UInt8 := [50, 58, 6, 28, 42, 25, 6, 182, 0, 85, 128, 61, 132, 5, 1, 167, 255, 231, 28, 172]
abbrev dktX1_hasEffect_2 : List UInt8 := dkwX1_hasEffect_2 ++ []
def dkwX1_hasEffect_1 : List UInt8 := [3, 61, 43, 180, 0, 81, 78, 45, 190, 54, 4, 3, 54, 5, 21, 5, 21, 4, 162, 0, 24, 45, 21, 5]
abbrev dktX1_hasEffect_1 : List UInt8 := dkwX1_hasEffect_1 ++ dktX1_hasEffect_2
def dkwX1_hasEffect_0 : List UInt8 := [43, 180, 0, 68, 5, 161, 0, 19, 42, 43, 182, 0, 74, 180, 0, 78, 4, 160, 0, 7, 4, 167, 0, 4]
abbrev dktX1_hasEffect_0 : List UInt8 := dkwX1_hasEffect_0 ++ dktX1_hasEffect_1
theorem dksX1_hasEffect_0 : cX1_hasEffect.data.toList.drop 0 = dktX1_hasEffect_0 := by decide +kernel
theorem dksX1_hasEffect_1 : cX1_hasEffect.data.toList.drop 24 = dktX1_hasEffect_1 := dk_seg dksX1_hasEffect_0 24 rfl rfl
theorem dksX1_hasEffect_2 : cX1_hasEffect.data.toList.drop 48 = dktX1_hasEffect_2 := dk_seg dksX1_hasEffect_1 24 rfl rfl
theorem dX1_hasEffect_0 : decode cX1_hasEffect 0 = .ok (.aload_n 1, 1) := dk_43 (dk_at dksX1_hasEffect_0 0 rfl rfl)
theorem dX1_hasEffect_1 : decode cX1_hasEffect 1 = .ok (.getfield 68, 3) := dk_180 0 68 (dk_at dksX1_hasEffect_0 1 rfl rfl)
theorem dX1_hasEffect_4 : decode cX1_hasEffect 4 = .ok (.iconst 2, 1) := dk_5 (dk_at dksX1_hasEffect_0 4 rfl rfl)
theorem dX1_hasEffect_5 : decode cX1_hasEffect 5 = .ok (.if_icmp .lt 19, 3) := dk_161 0 19 (dk_at dksX1_hasEffect_0 5 rfl rfl)
theorem dX1_hasEffect_8 : decode cX1_hasEffect 8 = .ok (.aload_n 0, 1) := dk_42 (dk_at dksX1_hasEffect_0 8 rfl rfl)
theorem dX1_hasEffect_9 : decode cX1_hasEffect 9 = .ok (.aload_n 1, 1) := dk_43 (dk_at dksX1_hasEffect_0 9 rfl rfl)
theorem dX1_hasEffect_10 : decode cX1_hasEffect 10 = .ok (.invokevirtual 74, 3) := dk_182 0 74 (dk_at dksX1_hasEffect_0 10 rfl rfl)
theorem dX1_hasEffect_13 : decode cX1_hasEffect 13 = .ok (.getfield 78, 3) := dk_180 0 78 (dk_at dksX1_hasEffect_0 13 rfl rfl)
theorem dX1_hasEffect_16 : decode cX1_hasEffect 16 = .ok (.iconst 1, 1) := dk_4 (dk_at dksX1_hasEffect_0 16 rfl rfl)
theorem dX1_hasEffect_17 : decode cX1_hasEffect 17 = .ok (.if_icmp .ne 7, 3) := dk_160 0 7 (dk_at dksX1_hasEffect_0 17 rfl rfl)
theorem dX1_hasEffect_20 : decode cX1_hasEffect 20 = .ok (.iconst 1, 1) := dk_4 (dk_at dksX1_hasEffect_0 20 rfl rfl)
theorem dX1_hasEffect_21 : decode cX1_hasEffect 21 = .ok (.goto 4, 3) := dk_167 0 4 (dk_at dksX1_hasEffect_0 21 rfl rfl)
theorem dX1_hasEffect_24 : decode cX1_hasEffect 24 = .ok (.iconst 0, 1) := dk_3 (dk_at dksX1_hasEffect_1 0 rfl rfl)
theorem dX1_hasEffect_25 : decode cX1_hasEffect 25 = .ok (.istore_n 2, 1) := dk_61 (dk_at dksX1_hasEffect_1 1 rfl rfl)
theorem dX1_hasEffect_26 : decode cX1_hasEffect 26 = .ok (.aload_n 1, 1) := dk_43 (dk_at dksX1_hasEffect_1 2 rfl rfl)
theorem dX1_hasEffect_27 : decode cX1_hasEffect 27 = .ok (.getfield 81, 3) := dk_180 0 81 (dk_at dksX1_hasEffect_1 3 rfl rfl)
theorem dX1_hasEffect_30 : decode cX1_hasEffect 30 = .ok (.astore_n 3, 1) := dk_78 (dk_at dksX1_hasEffect_1 6 rfl rfl)
theorem dX1_hasEffect_31 : decode cX1_hasEffect 31 = .ok (.aload_n 3, 1) := dk_45 (dk_at dksX1_hasEffect_1 7 rfl rfl)
theorem dX1_hasEffect_32 : decode cX1_hasEffect 32 = .ok (.arraylength, 1) := dk_190 (dk_at dksX1_hasEffect_1 8 rfl rfl)
theorem dX1_hasEffect_33 : decode cX1_hasEffect 33 = .ok (.istore 4, 2) := dk_54 4 (dk_at dksX1_hasEffect_1 9 rfl rfl)
theorem dX1_hasEffect_35 : decode cX1_hasEffect 35 = .ok (.iconst 0, 1) := dk_3 (dk_at dksX1_hasEffect_1 11 rfl rfl)
theorem dX1_hasEffect_36 : decode cX1_hasEffect 36 = .ok (.istore 5, 2) := dk_54 5 (dk_at dksX1_hasEffect_1 12 rfl rfl)
theorem dX1_hasEffect_38 : decode cX1_hasEffect 38 = .ok (.iload 5, 2) := dk_21 5 (dk_at dksX1_hasEffect_1 14 rfl rfl)
theorem dX1_hasEffect_40 : decode cX1_hasEffect 40 = .ok (.iload 4, 2) := dk_21 4 (dk_at dksX1_hasEffect_1 16 rfl rfl)
theorem dX1_hasEffect_42 : decode cX1_hasEffect 42 = .ok (.if_icmp .ge 24, 3) := dk_162 0 24 (dk_at dksX1_hasEffect_1 18 rfl rfl)
theorem dX1_hasEffect_45 : decode cX1_hasEffect 45 = .ok (.aload_n 3, 1) := dk_45 (dk_at dksX1_hasEffect_1 21 rfl rfl)
theorem dX1_hasEffect_46 : decode cX1_hasEffect 46 = .ok (.iload 5, 2) := dk_21 5 (dk_at dksX1_hasEffect_1 22 rfl rfl)
theorem dX1_hasEffect_48 : decode cX1_hasEffect 48 = .ok (.aaload, 1) := dk_50 (dk_at dksX1_hasEffect_2 0 rfl rfl)
theorem dX1_hasEffect_49 : decode cX1_hasEffect 49 = .ok (.astore 6, 2) := dk_58 6 (dk_at dksX1_hasEffect_2 1 rfl rfl)
theorem dX1_hasEffect_51 : decode cX1_hasEffect 51 = .ok (.iload_n 2, 1) := dk_28 (dk_at dksX1_hasEffect_2 3 rfl rfl)
theorem dX1_hasEffect_52 : decode cX1_hasEffect 52 = .ok (.aload_n 0, 1) := dk_42 (dk_at dksX1_hasEffect_2 4 rfl rfl)
theorem dX1_hasEffect_53 : decode cX1_hasEffect 53 = .ok (.aload 6, 2) := dk_25 6 (dk_at dksX1_hasEffect_2 5 rfl rfl)
theorem dX1_hasEffect_55 : decode cX1_hasEffect 55 = .ok (.invokevirtual 85, 3) := dk_182 0 85 (dk_at dksX1_hasEffect_2 7 rfl rfl)
theorem dX1_hasEffect_58 : decode cX1_hasEffect 58 = .ok (.ior, 1) := dk_128 (dk_at dksX1_hasEffect_2 10 rfl rfl)
theorem dX1_hasEffect_59 : decode cX1_hasEffect 59 = .ok (.istore_n 2, 1) := dk_61 (dk_at dksX1_hasEffect_2 11 rfl rfl)
theorem dX1_hasEffect_60 : decode cX1_hasEffect 60 = .ok (.iinc 5 1, 3) := dk_132 5 1 (dk_at dksX1_hasEffect_2 12 rfl rfl)
theorem dX1_hasEffect_63 : decode cX1_hasEffect 63 = .ok (.goto (-25), 3) := dk_167 255 231 (dk_at dksX1_hasEffect_2 15 rfl rfl)
theorem dX1_hasEffect_66 : decode cX1_hasEffect 66 = .ok (.iload_n 2, 1) := dk_28 (dk_at dksX1_hasEffect_2 18 rfl rfl)
theorem dX1_hasEffect_67 : decode cX1_hasEffect 67 = .ok (.ireturn, 1) := dk_172 (dk_at dksX1_hasEffect_2 19 rfl rfl)
abbrev cX1_function : ByteArray := prog_7_method_3_code
def yX1_function : MethodName := ⟨RX1, "function", "(LCallMigrator$Node;)LCallMigrator$Function;"⟩
def dkwX1_function_2 : List UInt8 := [50, 176]
abbrev dktX1_function_2 : List UInt8 := dkwX1_function_2 ++ []
def dkwX1_function_1 : List UInt8 := [6, 160, 0, 15, 42, 180, 0, 17, 43, 180, 0, 71, 50, 167, 0, 12, 42, 180, 0, 20, 43, 180, 0, 71]
abbrev dktX1_function_1 : List UInt8 := dkwX1_function_1 ++ dktX1_function_2
def dkwX1_function_0 : List UInt8 := [43, 180, 0, 68, 5, 160, 0, 15, 42, 180, 0, 11, 43, 180, 0, 71, 50, 167, 0, 32, 43, 180, 0, 68]
abbrev dktX1_function_0 : List UInt8 := dkwX1_function_0 ++ dktX1_function_1
theorem dksX1_function_0 : cX1_function.data.toList.drop 0 = dktX1_function_0 := by decide +kernel
theorem dksX1_function_1 : cX1_function.data.toList.drop 24 = dktX1_function_1 := dk_seg dksX1_function_0 24 rfl rfl
theorem dksX1_function_2 : cX1_function.data.toList.drop 48 = dktX1_function_2 := dk_seg dksX1_function_1 24 rfl rfl
theorem dX1_function_0 : decode cX1_function 0 = .ok (.aload_n 1, 1) := dk_43 (dk_at dksX1_function_0 0 rfl rfl)
theorem dX1_function_1 : decode cX1_function 1 = .ok (.getfield 68, 3) := dk_180 0 68 (dk_at dksX1_function_0 1 rfl rfl)
theorem dX1_function_4 : decode cX1_function 4 = .ok (.iconst 2, 1) := dk_5 (dk_at dksX1_function_0 4 rfl rfl)
theorem dX1_function_5 : decode cX1_function 5 = .ok (.if_icmp .ne 15, 3) := dk_160 0 15 (dk_at dksX1_function_0 5 rfl rfl)
theorem dX1_function_8 : decode cX1_function 8 = .ok (.aload_n 0, 1) := dk_42 (dk_at dksX1_function_0 8 rfl rfl)
theorem dX1_function_9 : decode cX1_function 9 = .ok (.getfield 11, 3) := dk_180 0 11 (dk_at dksX1_function_0 9 rfl rfl)
theorem dX1_function_12 : decode cX1_function 12 = .ok (.aload_n 1, 1) := dk_43 (dk_at dksX1_function_0 12 rfl rfl)
theorem dX1_function_13 : decode cX1_function 13 = .ok (.getfield 71, 3) := dk_180 0 71 (dk_at dksX1_function_0 13 rfl rfl)
theorem dX1_function_16 : decode cX1_function 16 = .ok (.aaload, 1) := dk_50 (dk_at dksX1_function_0 16 rfl rfl)
theorem dX1_function_17 : decode cX1_function 17 = .ok (.goto 32, 3) := dk_167 0 32 (dk_at dksX1_function_0 17 rfl rfl)
theorem dX1_function_20 : decode cX1_function 20 = .ok (.aload_n 1, 1) := dk_43 (dk_at dksX1_function_0 20 rfl rfl)
theorem dX1_function_21 : decode cX1_function 21 = .ok (.getfield 68, 3) := dk_180 0 68 (dk_at dksX1_function_0 21 rfl rfl)
theorem dX1_function_24 : decode cX1_function 24 = .ok (.iconst 3, 1) := dk_6 (dk_at dksX1_function_1 0 rfl rfl)
theorem dX1_function_25 : decode cX1_function 25 = .ok (.if_icmp .ne 15, 3) := dk_160 0 15 (dk_at dksX1_function_1 1 rfl rfl)
theorem dX1_function_28 : decode cX1_function 28 = .ok (.aload_n 0, 1) := dk_42 (dk_at dksX1_function_1 4 rfl rfl)
theorem dX1_function_29 : decode cX1_function 29 = .ok (.getfield 17, 3) := dk_180 0 17 (dk_at dksX1_function_1 5 rfl rfl)
theorem dX1_function_32 : decode cX1_function 32 = .ok (.aload_n 1, 1) := dk_43 (dk_at dksX1_function_1 8 rfl rfl)
theorem dX1_function_33 : decode cX1_function 33 = .ok (.getfield 71, 3) := dk_180 0 71 (dk_at dksX1_function_1 9 rfl rfl)
theorem dX1_function_36 : decode cX1_function 36 = .ok (.aaload, 1) := dk_50 (dk_at dksX1_function_1 12 rfl rfl)
theorem dX1_function_37 : decode cX1_function 37 = .ok (.goto 12, 3) := dk_167 0 12 (dk_at dksX1_function_1 13 rfl rfl)
theorem dX1_function_40 : decode cX1_function 40 = .ok (.aload_n 0, 1) := dk_42 (dk_at dksX1_function_1 16 rfl rfl)
theorem dX1_function_41 : decode cX1_function 41 = .ok (.getfield 20, 3) := dk_180 0 20 (dk_at dksX1_function_1 17 rfl rfl)
theorem dX1_function_44 : decode cX1_function 44 = .ok (.aload_n 1, 1) := dk_43 (dk_at dksX1_function_1 20 rfl rfl)
theorem dX1_function_45 : decode cX1_function 45 = .ok (.getfield 71, 3) := dk_180 0 71 (dk_at dksX1_function_1 21 rfl rfl)
theorem dX1_function_48 : decode cX1_function 48 = .ok (.aaload, 1) := dk_50 (dk_at dksX1_function_2 0 rfl rfl)
theorem dX1_function_49 : decode cX1_function 49 = .ok (.areturn, 1) := dk_176 (dk_at dksX1_function_2 1 rfl rfl)
abbrev cX1_value : ByteArray := prog_7_method_5_code
def yX1_value : MethodName := ⟨RX1, "value", "(LCallMigrator$Node;II)I"⟩
def dkwX1_value_4 : List UInt8 := [17, 3, 232, 112, 172]
abbrev dktX1_value_4 : List UInt8 := dkwX1_value_4 ++ []
def dkwX1_value_3 : List UInt8 := [180, 0, 81, 21, 6, 50, 28, 29, 182, 0, 95, 104, 96, 54, 5, 132, 6, 1, 167, 255, 216, 21, 5]
abbrev dktX1_value_3 : List UInt8 := dkwX1_value_3 ++ dktX1_value_4
def dkwX1_value_2 : List UInt8 := [54, 6, 21, 6, 43, 180, 0, 81, 190, 162, 0, 36, 21, 5, 25, 4, 180, 0, 92, 21, 6, 46, 42, 43]
abbrev dktX1_value_2 : List UInt8 := dkwX1_value_2 ++ dktX1_value_3
def dkwX1_value_1 : List UInt8 := [154, 0, 7, 28, 167, 0, 4, 29, 172, 42, 43, 182, 0, 74, 58, 4, 25, 4, 180, 0, 89, 54, 5, 3]
abbrev dktX1_value_1 : List UInt8 := dkwX1_value_1 ++ dktX1_value_2
def dkwX1_value_0 : List UInt8 := [43, 180, 0, 68, 154, 0, 8, 43, 180, 0, 71, 172, 43, 180, 0, 68, 4, 160, 0, 16, 43, 180, 0, 71]
abbrev dktX1_value_0 : List UInt8 := dkwX1_value_0 ++ dktX1_value_1
theorem dksX1_value_0 : cX1_value.data.toList.drop 0 = dktX1_value_0 := by decide +kernel
theorem dksX1_value_1 : cX1_value.data.toList.drop 24 = dktX1_value_1 := dk_seg dksX1_value_0 24 rfl rfl
theorem dksX1_value_2 : cX1_value.data.toList.drop 48 = dktX1_value_2 := dk_seg dksX1_value_1 24 rfl rfl
theorem dksX1_value_3 : cX1_value.data.toList.drop 72 = dktX1_value_3 := dk_seg dksX1_value_2 24 rfl rfl
theorem dksX1_value_4 : cX1_value.data.toList.drop 95 = dktX1_value_4 := dk_seg dksX1_value_3 23 rfl rfl
theorem dX1_value_0 : decode cX1_value 0 = .ok (.aload_n 1, 1) := dk_43 (dk_at dksX1_value_0 0 rfl rfl)
theorem dX1_value_1 : decode cX1_value 1 = .ok (.getfield 68, 3) := dk_180 0 68 (dk_at dksX1_value_0 1 rfl rfl)
theorem dX1_value_4 : decode cX1_value 4 = .ok (.ifCond .ne 8, 3) := dk_154 0 8 (dk_at dksX1_value_0 4 rfl rfl)
theorem dX1_value_7 : decode cX1_value 7 = .ok (.aload_n 1, 1) := dk_43 (dk_at dksX1_value_0 7 rfl rfl)
theorem dX1_value_8 : decode cX1_value 8 = .ok (.getfield 71, 3) := dk_180 0 71 (dk_at dksX1_value_0 8 rfl rfl)
theorem dX1_value_11 : decode cX1_value 11 = .ok (.ireturn, 1) := dk_172 (dk_at dksX1_value_0 11 rfl rfl)
theorem dX1_value_12 : decode cX1_value 12 = .ok (.aload_n 1, 1) := dk_43 (dk_at dksX1_value_0 12 rfl rfl)
theorem dX1_value_13 : decode cX1_value 13 = .ok (.getfield 68, 3) := dk_180 0 68 (dk_at dksX1_value_0 13 rfl rfl)
theorem dX1_value_16 : decode cX1_value 16 = .ok (.iconst 1, 1) := dk_4 (dk_at dksX1_value_0 16 rfl rfl)
theorem dX1_value_17 : decode cX1_value 17 = .ok (.if_icmp .ne 16, 3) := dk_160 0 16 (dk_at dksX1_value_0 17 rfl rfl)
theorem dX1_value_20 : decode cX1_value 20 = .ok (.aload_n 1, 1) := dk_43 (dk_at dksX1_value_0 20 rfl rfl)
theorem dX1_value_21 : decode cX1_value 21 = .ok (.getfield 71, 3) := dk_180 0 71 (dk_at dksX1_value_0 21 rfl rfl)
theorem dX1_value_24 : decode cX1_value 24 = .ok (.ifCond .ne 7, 3) := dk_154 0 7 (dk_at dksX1_value_1 0 rfl rfl)
theorem dX1_value_27 : decode cX1_value 27 = .ok (.iload_n 2, 1) := dk_28 (dk_at dksX1_value_1 3 rfl rfl)
theorem dX1_value_28 : decode cX1_value 28 = .ok (.goto 4, 3) := dk_167 0 4 (dk_at dksX1_value_1 4 rfl rfl)
theorem dX1_value_31 : decode cX1_value 31 = .ok (.iload_n 3, 1) := dk_29 (dk_at dksX1_value_1 7 rfl rfl)
theorem dX1_value_32 : decode cX1_value 32 = .ok (.ireturn, 1) := dk_172 (dk_at dksX1_value_1 8 rfl rfl)
theorem dX1_value_33 : decode cX1_value 33 = .ok (.aload_n 0, 1) := dk_42 (dk_at dksX1_value_1 9 rfl rfl)
theorem dX1_value_34 : decode cX1_value 34 = .ok (.aload_n 1, 1) := dk_43 (dk_at dksX1_value_1 10 rfl rfl)
theorem dX1_value_35 : decode cX1_value 35 = .ok (.invokevirtual 74, 3) := dk_182 0 74 (dk_at dksX1_value_1 11 rfl rfl)
theorem dX1_value_38 : decode cX1_value 38 = .ok (.astore 4, 2) := dk_58 4 (dk_at dksX1_value_1 14 rfl rfl)
theorem dX1_value_40 : decode cX1_value 40 = .ok (.aload 4, 2) := dk_25 4 (dk_at dksX1_value_1 16 rfl rfl)
theorem dX1_value_42 : decode cX1_value 42 = .ok (.getfield 89, 3) := dk_180 0 89 (dk_at dksX1_value_1 18 rfl rfl)
theorem dX1_value_45 : decode cX1_value 45 = .ok (.istore 5, 2) := dk_54 5 (dk_at dksX1_value_1 21 rfl rfl)
theorem dX1_value_47 : decode cX1_value 47 = .ok (.iconst 0, 1) := dk_3 (dk_at dksX1_value_1 23 rfl rfl)
theorem dX1_value_48 : decode cX1_value 48 = .ok (.istore 6, 2) := dk_54 6 (dk_at dksX1_value_2 0 rfl rfl)
theorem dX1_value_50 : decode cX1_value 50 = .ok (.iload 6, 2) := dk_21 6 (dk_at dksX1_value_2 2 rfl rfl)
theorem dX1_value_52 : decode cX1_value 52 = .ok (.aload_n 1, 1) := dk_43 (dk_at dksX1_value_2 4 rfl rfl)
theorem dX1_value_53 : decode cX1_value 53 = .ok (.getfield 81, 3) := dk_180 0 81 (dk_at dksX1_value_2 5 rfl rfl)
theorem dX1_value_56 : decode cX1_value 56 = .ok (.arraylength, 1) := dk_190 (dk_at dksX1_value_2 8 rfl rfl)
theorem dX1_value_57 : decode cX1_value 57 = .ok (.if_icmp .ge 36, 3) := dk_162 0 36 (dk_at dksX1_value_2 9 rfl rfl)
theorem dX1_value_60 : decode cX1_value 60 = .ok (.iload 5, 2) := dk_21 5 (dk_at dksX1_value_2 12 rfl rfl)
theorem dX1_value_62 : decode cX1_value 62 = .ok (.aload 4, 2) := dk_25 4 (dk_at dksX1_value_2 14 rfl rfl)
theorem dX1_value_64 : decode cX1_value 64 = .ok (.getfield 92, 3) := dk_180 0 92 (dk_at dksX1_value_2 16 rfl rfl)
theorem dX1_value_67 : decode cX1_value 67 = .ok (.iload 6, 2) := dk_21 6 (dk_at dksX1_value_2 19 rfl rfl)
theorem dX1_value_69 : decode cX1_value 69 = .ok (.iaload, 1) := dk_46 (dk_at dksX1_value_2 21 rfl rfl)
theorem dX1_value_70 : decode cX1_value 70 = .ok (.aload_n 0, 1) := dk_42 (dk_at dksX1_value_2 22 rfl rfl)
theorem dX1_value_71 : decode cX1_value 71 = .ok (.aload_n 1, 1) := dk_43 (dk_at dksX1_value_2 23 rfl rfl)
theorem dX1_value_72 : decode cX1_value 72 = .ok (.getfield 81, 3) := dk_180 0 81 (dk_at dksX1_value_3 0 rfl rfl)
theorem dX1_value_75 : decode cX1_value 75 = .ok (.iload 6, 2) := dk_21 6 (dk_at dksX1_value_3 3 rfl rfl)
theorem dX1_value_77 : decode cX1_value 77 = .ok (.aaload, 1) := dk_50 (dk_at dksX1_value_3 5 rfl rfl)
theorem dX1_value_78 : decode cX1_value 78 = .ok (.iload_n 2, 1) := dk_28 (dk_at dksX1_value_3 6 rfl rfl)
theorem dX1_value_79 : decode cX1_value 79 = .ok (.iload_n 3, 1) := dk_29 (dk_at dksX1_value_3 7 rfl rfl)
theorem dX1_value_80 : decode cX1_value 80 = .ok (.invokevirtual 95, 3) := dk_182 0 95 (dk_at dksX1_value_3 8 rfl rfl)
theorem dX1_value_83 : decode cX1_value 83 = .ok (.imul, 1) := dk_104 (dk_at dksX1_value_3 11 rfl rfl)
theorem dX1_value_84 : decode cX1_value 84 = .ok (.iadd, 1) := dk_96 (dk_at dksX1_value_3 12 rfl rfl)
theorem dX1_value_85 : decode cX1_value 85 = .ok (.istore 5, 2) := dk_54 5 (dk_at dksX1_value_3 13 rfl rfl)
theorem dX1_value_87 : decode cX1_value 87 = .ok (.iinc 6 1, 3) := dk_132 6 1 (dk_at dksX1_value_3 15 rfl rfl)
theorem dX1_value_90 : decode cX1_value 90 = .ok (.goto (-40), 3) := dk_167 255 216 (dk_at dksX1_value_3 18 rfl rfl)
theorem dX1_value_93 : decode cX1_value 93 = .ok (.iload 5, 2) := dk_21 5 (dk_at dksX1_value_3 21 rfl rfl)
theorem dX1_value_95 : decode cX1_value 95 = .ok (.sipush 1000, 3) := dk_17 3 232 (dk_at dksX1_value_4 0 rfl rfl)
theorem dX1_value_98 : decode cX1_value 98 = .ok (.irem, 1) := dk_112 (dk_at dksX1_value_4 3 rfl rfl)
theorem dX1_value_99 : decode cX1_value 99 = .ok (.ireturn, 1) := dk_172 (dk_at dksX1_value_4 4 rfl rfl)
theorem q57 : (Jvm.Cond.initialized "CallMigrator$State") ∈ lw_all := lw_g (lw_at lw_m1 2 rfl) rfl
theorem q88 : (Jvm.Cond.instantiable "CallMigrator$State" (9 : Nat)) ∈ lw_all := lw_g (lw_at lw_m1 33 rfl) rfl
theorem q90 : (Jvm.Cond.instanceMethod ({ cls := "CallMigrator$State", name := "<init>", desc := "()V" } : Jvm.MethodName)) ∈ lw_all := lw_g (lw_at lw_m1 35 rfl) rfl
theorem q91 : (Jvm.Cond.code ({ cls := "CallMigrator$State", name := "<init>", desc := "()V" } : Jvm.MethodName) prog_7_method_1_code (1 : Nat) (Option.none : Option Jvm.ClassFile.FieldType)) ∈ lw_all := lw_g (lw_at lw_m1 36 rfl) rfl
theorem q92 : (Jvm.Cond.methodLink "CallMigrator$State" (3 : Nat) ({ cls := "java/lang/Object", name := "<init>", desc := "()V" } : Jvm.MethodName)) ∈ lw_all := lw_g (lw_at lw_m1 37 rfl) rfl
theorem q93 : (Jvm.Cond.classLink "CallMigrator$State" (9 : Nat) "CallMigrator$Function") ∈ lw_all := lw_g (lw_at lw_m1 38 rfl) rfl
theorem q95 : (Jvm.Cond.classLink "CallMigrator$State" (27 : Nat) "CallMigrator$Mapping") ∈ lw_all := lw_g (lw_at lw_m1 40 rfl) rfl
theorem q97 : (Jvm.Cond.classLink "CallMigrator$State" (33 : Nat) "CallMigrator$Node") ∈ lw_all := lw_g (lw_at lw_m1 42 rfl) rfl
theorem q100 : (Jvm.Cond.methodLink "CallMigrator$State" (35 : Nat) ({ cls := "CallMigrator$Node", name := "<init>", desc := "(II[LCallMigrator$Node;)V" } : Jvm.MethodName)) ∈ lw_all := lw_g (lw_at lw_m1 45 rfl) rfl
theorem q106 : (Jvm.Cond.fieldLinkNest "CallMigrator$State" (68 : Nat) "CallMigrator$Node" "kind" "I" "CallMigrator") ∈ lw_tbl := lw_at lw_m1 51 rfl
theorem q109 : (Jvm.Cond.fieldLinkNest "CallMigrator$State" (71 : Nat) "CallMigrator$Node" "value" "I" "CallMigrator") ∈ lw_tbl := lw_at lw_m1 54 rfl
theorem q112 : (Jvm.Cond.fieldLinkNest "CallMigrator$State" (81 : Nat) "CallMigrator$Node" "arguments" "[LCallMigrator$Node;" "CallMigrator") ∈ lw_tbl := lw_at lw_m1 57 rfl
theorem q127 : (Jvm.Cond.methodLink "CallMigrator$State" (45 : Nat) ({ cls := "CallMigrator$Function", name := "<init>", desc := "()V" } : Jvm.MethodName)) ∈ lw_all := lw_g (lw_at lw_m1 72 rfl) rfl
theorem q140 : (Jvm.Cond.fieldLinkNest "CallMigrator$State" (78 : Nat) "CallMigrator$Function" "effect" "I" "CallMigrator") ∈ lw_tbl := lw_at lw_m1 85 rfl
theorem q144 : (Jvm.Cond.fieldLinkNest "CallMigrator$State" (89 : Nat) "CallMigrator$Function" "constant" "I" "CallMigrator") ∈ lw_tbl := lw_at lw_m1 89 rfl
theorem q148 : (Jvm.Cond.fieldLinkNest "CallMigrator$State" (92 : Nat) "CallMigrator$Function" "coefficients" "[I" "CallMigrator") ∈ lw_tbl := lw_at lw_m1 93 rfl
theorem q159 : (Jvm.Cond.methodLink "CallMigrator$State" (46 : Nat) ({ cls := "java/util/Arrays", name := "fill", desc := "([Ljava/lang/Object;Ljava/lang/Object;)V" } : Jvm.MethodName)) ∈ lw_all := lw_g (lw_at lw_m1 104 rfl) rfl
theorem q162 : (Jvm.Cond.methodLink "CallMigrator$State" (52 : Nat) ({ cls := "java/util/Arrays", name := "fill", desc := "([II)V" } : Jvm.MethodName)) ∈ lw_all := lw_g (lw_at lw_m1 107 rfl) rfl
theorem q165 : (Jvm.Cond.fieldLink "CallMigrator$State" (11 : Nat) "CallMigrator$State" "olds" "[LCallMigrator$Function;") ∈ lw_all := lw_g (lw_at lw_m1 110 rfl) rfl
theorem q169 : (Jvm.Cond.fieldLink "CallMigrator$State" (17 : Nat) "CallMigrator$State" "news" "[LCallMigrator$Function;") ∈ lw_all := lw_g (lw_at lw_m1 114 rfl) rfl
theorem q173 : (Jvm.Cond.fieldLink "CallMigrator$State" (20 : Nat) "CallMigrator$State" "adapters" "[LCallMigrator$Function;") ∈ lw_all := lw_g (lw_at lw_m1 118 rfl) rfl
theorem q176 : (Jvm.Cond.fieldLink "CallMigrator$State" (61 : Nat) "CallMigrator$State" "adapterCount" "I") ∈ lw_all := lw_g (lw_at lw_m1 121 rfl) rfl
theorem q179 : (Jvm.Cond.fieldLink "CallMigrator$State" (23 : Nat) "CallMigrator$State" "adapterOf" "[I") ∈ lw_all := lw_g (lw_at lw_m1 124 rfl) rfl
theorem q182 : (Jvm.Cond.fieldLink "CallMigrator$State" (29 : Nat) "CallMigrator$State" "mappings" "[LCallMigrator$Mapping;") ∈ lw_all := lw_g (lw_at lw_m1 127 rfl) rfl
theorem q185 : (Jvm.Cond.fieldLink "CallMigrator$State" (65 : Nat) "CallMigrator$State" "allowed" "I") ∈ lw_all := lw_g (lw_at lw_m1 130 rfl) rfl
theorem q189 : (Jvm.Cond.fieldLink "CallMigrator$State" (38 : Nat) "CallMigrator$State" "program" "LCallMigrator$Node;") ∈ lw_all := lw_g (lw_at lw_m1 134 rfl) rfl
theorem q191 : (Jvm.Cond.fieldLink "CallMigrator$State" (42 : Nat) "CallMigrator$State" "left" "[I") ∈ lw_all := lw_g (lw_at lw_m1 136 rfl) rfl
theorem q194 : (Jvm.Cond.laysFinal "CallMigrator$State" "CallMigrator$State" "olds" "[LCallMigrator$Function;") ∈ lw_all := lw_g (lw_at lw_m1 139 rfl) rfl
theorem q195 : (Jvm.Cond.soleField "CallMigrator$State" "olds") ∈ lw_all := lw_g (lw_at lw_m1 140 rfl) rfl
theorem q196 : (Jvm.Cond.laysFinal "CallMigrator$State" "CallMigrator$State" "news" "[LCallMigrator$Function;") ∈ lw_all := lw_g (lw_at lw_m1 141 rfl) rfl
theorem q197 : (Jvm.Cond.soleField "CallMigrator$State" "news") ∈ lw_all := lw_g (lw_at lw_m1 142 rfl) rfl
theorem q198 : (Jvm.Cond.laysFinal "CallMigrator$State" "CallMigrator$State" "adapters" "[LCallMigrator$Function;") ∈ lw_all := lw_g (lw_at lw_m1 143 rfl) rfl
theorem q199 : (Jvm.Cond.soleField "CallMigrator$State" "adapters") ∈ lw_all := lw_g (lw_at lw_m1 144 rfl) rfl
theorem q200 : (Jvm.Cond.lays "CallMigrator$State" "CallMigrator$State" "adapterCount" "I") ∈ lw_all := lw_g (lw_at lw_m1 145 rfl) rfl
theorem q201 : (Jvm.Cond.soleField "CallMigrator$State" "adapterCount") ∈ lw_all := lw_g (lw_at lw_m1 146 rfl) rfl
theorem q202 : (Jvm.Cond.laysFinal "CallMigrator$State" "CallMigrator$State" "adapterOf" "[I") ∈ lw_all := lw_g (lw_at lw_m1 147 rfl) rfl
theorem q203 : (Jvm.Cond.soleField "CallMigrator$State" "adapterOf") ∈ lw_all := lw_g (lw_at lw_m1 148 rfl) rfl
theorem q204 : (Jvm.Cond.laysFinal "CallMigrator$State" "CallMigrator$State" "mappings" "[LCallMigrator$Mapping;") ∈ lw_all := lw_g (lw_at lw_m1 149 rfl) rfl
theorem q205 : (Jvm.Cond.soleField "CallMigrator$State" "mappings") ∈ lw_all := lw_g (lw_at lw_m1 150 rfl) rfl
theorem q206 : (Jvm.Cond.lays "CallMigrator$State" "CallMigrator$State" "allowed" "I") ∈ lw_all := lw_g (lw_at lw_m1 151 rfl) rfl
theorem q207 : (Jvm.Cond.soleField "CallMigrator$State" "allowed") ∈ lw_all := lw_g (lw_at lw_m1 152 rfl) rfl
theorem q208 : (Jvm.Cond.lays "CallMigrator$State" "CallMigrator$State" "program" "LCallMigrator$Node;") ∈ lw_all := lw_g (lw_at lw_m1 153 rfl) rfl
theorem q209 : (Jvm.Cond.soleField "CallMigrator$State" "program") ∈ lw_all := lw_g (lw_at lw_m1 154 rfl) rfl
theorem q210 : (Jvm.Cond.laysFinal "CallMigrator$State" "CallMigrator$State" "left" "[I") ∈ lw_all := lw_g (lw_at lw_m1 155 rfl) rfl
theorem q211 : (Jvm.Cond.soleField "CallMigrator$State" "left") ∈ lw_all := lw_g (lw_at lw_m1 156 rfl) rfl
theorem q212 : (Jvm.Cond.superclass "CallMigrator$State" "java/lang/Object") ∈ lw_all := lw_g (lw_at lw_m1 157 rfl) rfl
theorem q283 : (Jvm.Cond.instanceMethod ({ cls := "CallMigrator$State", name := "copyFrom", desc := "(LCallMigrator$State;)V" } : Jvm.MethodName)) ∈ lw_all := lw_g (lw_at lw_m1 228 rfl) rfl
theorem q284 : (Jvm.Cond.selects "CallMigrator$State" ({ cls := "CallMigrator$State", name := "copyFrom", desc := "(LCallMigrator$State;)V" } : Jvm.MethodName) ({ cls := "CallMigrator$State", name := "copyFrom", desc := "(LCallMigrator$State;)V" } : Jvm.MethodName)) ∈ lw_all := lw_g (lw_at lw_m1 229 rfl) rfl
theorem q285 : (Jvm.Cond.code ({ cls := "CallMigrator$State", name := "copyFrom", desc := "(LCallMigrator$State;)V" } : Jvm.MethodName) prog_7_method_2_code (2 : Nat) (Option.none : Option Jvm.ClassFile.FieldType)) ∈ lw_all := lw_g (lw_at lw_m1 230 rfl) rfl
theorem q286 : (Jvm.Cond.methodLink "CallMigrator$State" (55 : Nat) ({ cls := "java/lang/System", name := "arraycopy", desc := "(Ljava/lang/Object;ILjava/lang/Object;II)V" } : Jvm.MethodName)) ∈ lw_all := lw_g (lw_at lw_m1 231 rfl) rfl
theorem q338 : (Jvm.Cond.fieldLinkNest "CallMigrator$State" (98 : Nat) "CallMigrator$Mapping" "target" "I" "CallMigrator") ∈ lw_tbl := lw_at lw_m2 43 rfl
theorem q354 : (Jvm.Cond.instanceMethod ({ cls := "CallMigrator$State", name := "isFaithful", desc := "(I)Z" } : Jvm.MethodName)) ∈ lw_all := lw_g (lw_at lw_m2 59 rfl) rfl
theorem q355 : (Jvm.Cond.selects "CallMigrator$State" ({ cls := "CallMigrator$State", name := "isFaithful", desc := "(I)Z" } : Jvm.MethodName) ({ cls := "CallMigrator$State", name := "isFaithful", desc := "(I)Z" } : Jvm.MethodName)) ∈ lw_all := lw_g (lw_at lw_m2 60 rfl) rfl
theorem q356 : (Jvm.Cond.code ({ cls := "CallMigrator$State", name := "isFaithful", desc := "(I)Z" } : Jvm.MethodName) prog_7_method_6_code (2 : Nat) (Option.some Jvm.ClassFile.FieldType.boolean)) ∈ lw_all := lw_g (lw_at lw_m2 61 rfl) rfl
theorem q357 : (Jvm.Cond.methodLink "CallMigrator$State" (101 : Nat) ({ cls := "CallMigrator$Mapping", name := "isFaithful", desc := "(LCallMigrator$Function;LCallMigrator$Function;)Z" } : Jvm.MethodName)) ∈ lw_all := lw_g (lw_at lw_m2 62 rfl) rfl
theorem q565 : (Jvm.Cond.instanceMethod ({ cls := "CallMigrator$State", name := "hasEffect", desc := "(LCallMigrator$Node;)Z" } : Jvm.MethodName)) ∈ lw_all := lw_g (lw_at lw_m3 30 rfl) rfl
theorem q566 : (Jvm.Cond.selects "CallMigrator$State" ({ cls := "CallMigrator$State", name := "hasEffect", desc := "(LCallMigrator$Node;)Z" } : Jvm.MethodName) ({ cls := "CallMigrator$State", name := "hasEffect", desc := "(LCallMigrator$Node;)Z" } : Jvm.MethodName)) ∈ lw_all := lw_g (lw_at lw_m3 31 rfl) rfl
theorem q567 : (Jvm.Cond.code ({ cls := "CallMigrator$State", name := "hasEffect", desc := "(LCallMigrator$Node;)Z" } : Jvm.MethodName) prog_7_method_4_code (7 : Nat) (Option.some Jvm.ClassFile.FieldType.boolean)) ∈ lw_all := lw_g (lw_at lw_m3 32 rfl) rfl
theorem q568 : (Jvm.Cond.methodLink "CallMigrator$State" (74 : Nat) ({ cls := "CallMigrator$State", name := "function", desc := "(LCallMigrator$Node;)LCallMigrator$Function;" } : Jvm.MethodName)) ∈ lw_all := lw_g (lw_at lw_m3 33 rfl) rfl
theorem q569 : (Jvm.Cond.instanceMethod ({ cls := "CallMigrator$State", name := "function", desc := "(LCallMigrator$Node;)LCallMigrator$Function;" } : Jvm.MethodName)) ∈ lw_all := lw_g (lw_at lw_m3 34 rfl) rfl
theorem q570 : (Jvm.Cond.selects "CallMigrator$State" ({ cls := "CallMigrator$State", name := "function", desc := "(LCallMigrator$Node;)LCallMigrator$Function;" } : Jvm.MethodName) ({ cls := "CallMigrator$State", name := "function", desc := "(LCallMigrator$Node;)LCallMigrator$Function;" } : Jvm.MethodName)) ∈ lw_all := lw_g (lw_at lw_m3 35 rfl) rfl
theorem q571 : (Jvm.Cond.code ({ cls := "CallMigrator$State", name := "function", desc := "(LCallMigrator$Node;)LCallMigrator$Function;" } : Jvm.MethodName) prog_7_method_3_code (2 : Nat) (Option.some (Jvm.ClassFile.FieldType.object "CallMigrator$Function"))) ∈ lw_all := lw_g (lw_at lw_m3 36 rfl) rfl
theorem q572 : (Jvm.Cond.methodLink "CallMigrator$State" (85 : Nat) ({ cls := "CallMigrator$State", name := "hasEffect", desc := "(LCallMigrator$Node;)Z" } : Jvm.MethodName)) ∈ lw_all := lw_g (lw_at lw_m3 37 rfl) rfl
theorem q599 : (Jvm.Cond.instanceMethod ({ cls := "CallMigrator$State", name := "value", desc := "(LCallMigrator$Node;II)I" } : Jvm.MethodName)) ∈ lw_all := lw_g (lw_at lw_m3 64 rfl) rfl
theorem q600 : (Jvm.Cond.selects "CallMigrator$State" ({ cls := "CallMigrator$State", name := "value", desc := "(LCallMigrator$Node;II)I" } : Jvm.MethodName) ({ cls := "CallMigrator$State", name := "value", desc := "(LCallMigrator$Node;II)I" } : Jvm.MethodName)) ∈ lw_all := lw_g (lw_at lw_m3 65 rfl) rfl
theorem q601 : (Jvm.Cond.code ({ cls := "CallMigrator$State", name := "value", desc := "(LCallMigrator$Node;II)I" } : Jvm.MethodName) prog_7_method_5_code (7 : Nat) (Option.some Jvm.ClassFile.FieldType.int)) ∈ lw_all := lw_g (lw_at lw_m3 66 rfl) rfl
theorem q602 : (Jvm.Cond.methodLink "CallMigrator$State" (95 : Nat) ({ cls := "CallMigrator$State", name := "value", desc := "(LCallMigrator$Node;II)I" } : Jvm.MethodName)) ∈ lw_all := lw_g (lw_at lw_m3 67 rfl) rfl
theorem in_X1 : ∀ w ∈ wsX10, w ∈ lw_all := lw_in wsX10 [194, 196, 198, 200, 202, 204, 206, 208, 210] (by decide +kernel) (by decide +kernel)

/-! CallMigrator$Node -/
set_option maxRecDepth 100000
def RX2 : String := "CallMigrator$Node"
def TX2 : u_T := fun k => match k with
  | 0 => ("CallMigrator$Node", "kind", "I", true)
  | 1 => ("CallMigrator$Node", "value", "I", true)
  | 2 => ("CallMigrator$Node", "arguments", "[LCallMigrator$Node;", true)
  | _ => ("CallMigrator$Node", "size", "I", true)
def tyX2 : Nat → FieldType := fun k => match k with
  | 0 => .int
  | 1 => .int
  | 2 => .array (.object "CallMigrator$Node")
  | _ => .int
abbrev wsX20 : List Cond := u_ws RX2 TX2 4
theorem nmX2 : ∀ a, a < 4 → ∀ b, b < 4 → a ≠ b → (TX2 a).2.1 ≠ (TX2 b).2.1 := by decide +kernel
theorem tyX2_ok : ∀ k, k < 4 → parseFieldDescriptor (TX2 k).2.2.1 = some (tyX2 k) := by decide +kernel
abbrev cX2_init : ByteArray := prog_5_method_1_code
def yX2_init : MethodName := ⟨RX2, "<init>", "(II[LCallMigrator$Node;)V"⟩
def dkwX2_init_2 : List UInt8 := [21, 4, 25, 8, 180, 0, 22, 96, 54, 4, 132, 7, 1, 167, 255, 229, 42, 21, 4, 181, 0, 22, 177]
abbrev dktX2_init_2 : List UInt8 := dkwX2_init_2 ++ []
def dkwX2_init_1 : List UInt8 := [58, 5, 25, 5, 190, 54, 6, 3, 54, 7, 21, 7, 21, 6, 162, 0, 26, 25, 5, 21, 7, 50, 58, 8]
abbrev dktX2_init_1 : List UInt8 := dkwX2_init_1 ++ dktX2_init_2
def dkwX2_init_0 : List UInt8 := [42, 183, 0, 3, 42, 27, 181, 0, 9, 42, 28, 181, 0, 15, 42, 45, 181, 0, 18, 4, 54, 4, 45]
abbrev dktX2_init_0 : List UInt8 := dkwX2_init_0 ++ dktX2_init_1
theorem dksX2_init_0 : cX2_init.data.toList.drop 0 = dktX2_init_0 := by decide +kernel
theorem dksX2_init_1 : cX2_init.data.toList.drop 23 = dktX2_init_1 := dk_seg dksX2_init_0 23 rfl rfl
theorem dksX2_init_2 : cX2_init.data.toList.drop 47 = dktX2_init_2 := dk_seg dksX2_init_1 24 rfl rfl
theorem dX2_init_0 : decode cX2_init 0 = .ok (.aload_n 0, 1) := dk_42 (dk_at dksX2_init_0 0 rfl rfl)
theorem dX2_init_1 : decode cX2_init 1 = .ok (.invokespecial 3, 3) := dk_183 0 3 (dk_at dksX2_init_0 1 rfl rfl)
theorem dX2_init_4 : decode cX2_init 4 = .ok (.aload_n 0, 1) := dk_42 (dk_at dksX2_init_0 4 rfl rfl)
theorem dX2_init_5 : decode cX2_init 5 = .ok (.iload_n 1, 1) := dk_27 (dk_at dksX2_init_0 5 rfl rfl)
theorem dX2_init_6 : decode cX2_init 6 = .ok (.putfield 9, 3) := dk_181 0 9 (dk_at dksX2_init_0 6 rfl rfl)
theorem dX2_init_9 : decode cX2_init 9 = .ok (.aload_n 0, 1) := dk_42 (dk_at dksX2_init_0 9 rfl rfl)
theorem dX2_init_10 : decode cX2_init 10 = .ok (.iload_n 2, 1) := dk_28 (dk_at dksX2_init_0 10 rfl rfl)
theorem dX2_init_11 : decode cX2_init 11 = .ok (.putfield 15, 3) := dk_181 0 15 (dk_at dksX2_init_0 11 rfl rfl)
theorem dX2_init_14 : decode cX2_init 14 = .ok (.aload_n 0, 1) := dk_42 (dk_at dksX2_init_0 14 rfl rfl)
theorem dX2_init_15 : decode cX2_init 15 = .ok (.aload_n 3, 1) := dk_45 (dk_at dksX2_init_0 15 rfl rfl)
theorem dX2_init_16 : decode cX2_init 16 = .ok (.putfield 18, 3) := dk_181 0 18 (dk_at dksX2_init_0 16 rfl rfl)
theorem dX2_init_19 : decode cX2_init 19 = .ok (.iconst 1, 1) := dk_4 (dk_at dksX2_init_0 19 rfl rfl)
theorem dX2_init_20 : decode cX2_init 20 = .ok (.istore 4, 2) := dk_54 4 (dk_at dksX2_init_0 20 rfl rfl)
theorem dX2_init_22 : decode cX2_init 22 = .ok (.aload_n 3, 1) := dk_45 (dk_at dksX2_init_0 22 rfl rfl)
theorem dX2_init_23 : decode cX2_init 23 = .ok (.astore 5, 2) := dk_58 5 (dk_at dksX2_init_1 0 rfl rfl)
theorem dX2_init_25 : decode cX2_init 25 = .ok (.aload 5, 2) := dk_25 5 (dk_at dksX2_init_1 2 rfl rfl)
theorem dX2_init_27 : decode cX2_init 27 = .ok (.arraylength, 1) := dk_190 (dk_at dksX2_init_1 4 rfl rfl)
theorem dX2_init_28 : decode cX2_init 28 = .ok (.istore 6, 2) := dk_54 6 (dk_at dksX2_init_1 5 rfl rfl)
theorem dX2_init_30 : decode cX2_init 30 = .ok (.iconst 0, 1) := dk_3 (dk_at dksX2_init_1 7 rfl rfl)
theorem dX2_init_31 : decode cX2_init 31 = .ok (.istore 7, 2) := dk_54 7 (dk_at dksX2_init_1 8 rfl rfl)
theorem dX2_init_33 : decode cX2_init 33 = .ok (.iload 7, 2) := dk_21 7 (dk_at dksX2_init_1 10 rfl rfl)
theorem dX2_init_35 : decode cX2_init 35 = .ok (.iload 6, 2) := dk_21 6 (dk_at dksX2_init_1 12 rfl rfl)
theorem dX2_init_37 : decode cX2_init 37 = .ok (.if_icmp .ge 26, 3) := dk_162 0 26 (dk_at dksX2_init_1 14 rfl rfl)
theorem dX2_init_40 : decode cX2_init 40 = .ok (.aload 5, 2) := dk_25 5 (dk_at dksX2_init_1 17 rfl rfl)
theorem dX2_init_42 : decode cX2_init 42 = .ok (.iload 7, 2) := dk_21 7 (dk_at dksX2_init_1 19 rfl rfl)
theorem dX2_init_44 : decode cX2_init 44 = .ok (.aaload, 1) := dk_50 (dk_at dksX2_init_1 21 rfl rfl)
theorem dX2_init_45 : decode cX2_init 45 = .ok (.astore 8, 2) := dk_58 8 (dk_at dksX2_init_1 22 rfl rfl)
theorem dX2_init_47 : decode cX2_init 47 = .ok (.iload 4, 2) := dk_21 4 (dk_at dksX2_init_2 0 rfl rfl)
theorem dX2_init_49 : decode cX2_init 49 = .ok (.aload 8, 2) := dk_25 8 (dk_at dksX2_init_2 2 rfl rfl)
theorem dX2_init_51 : decode cX2_init 51 = .ok (.getfield 22, 3) := dk_180 0 22 (dk_at dksX2_init_2 4 rfl rfl)
theorem dX2_init_54 : decode cX2_init 54 = .ok (.iadd, 1) := dk_96 (dk_at dksX2_init_2 7 rfl rfl)
theorem dX2_init_55 : decode cX2_init 55 = .ok (.istore 4, 2) := dk_54 4 (dk_at dksX2_init_2 8 rfl rfl)
theorem dX2_init_57 : decode cX2_init 57 = .ok (.iinc 7 1, 3) := dk_132 7 1 (dk_at dksX2_init_2 10 rfl rfl)
theorem dX2_init_60 : decode cX2_init 60 = .ok (.goto (-27), 3) := dk_167 255 229 (dk_at dksX2_init_2 13 rfl rfl)
theorem dX2_init_63 : decode cX2_init 63 = .ok (.aload_n 0, 1) := dk_42 (dk_at dksX2_init_2 16 rfl rfl)
theorem dX2_init_64 : decode cX2_init 64 = .ok (.iload 4, 2) := dk_21 4 (dk_at dksX2_init_2 17 rfl rfl)
theorem dX2_init_66 : decode cX2_init 66 = .ok (.putfield 22, 3) := dk_181 0 22 (dk_at dksX2_init_2 19 rfl rfl)
theorem dX2_init_69 : decode cX2_init 69 = .ok (.return_, 1) := dk_177 (dk_at dksX2_init_2 22 rfl rfl)
abbrev cX2_sites : ByteArray := prog_5_method_2_code
def yX2_sites : MethodName := ⟨RX2, "sites", "()I"⟩
def dkwX2_sites_2 : List UInt8 := [132, 4, 1, 167, 255, 233, 27, 172]
abbrev dktX2_sites_2 : List UInt8 := dkwX2_sites_2 ++ []
def dkwX2_sites_1 : List UInt8 := [54, 4, 21, 4, 29, 162, 0, 23, 44, 21, 4, 50, 58, 5, 27, 25, 5, 182, 0, 25, 96, 60]
abbrev dktX2_sites_1 : List UInt8 := dkwX2_sites_1 ++ dktX2_sites_2
def dkwX2_sites_0 : List UInt8 := [42, 180, 0, 9, 5, 160, 0, 7, 4, 167, 0, 4, 3, 60, 42, 180, 0, 18, 77, 44, 190, 62, 3]
abbrev dktX2_sites_0 : List UInt8 := dkwX2_sites_0 ++ dktX2_sites_1
theorem dksX2_sites_0 : cX2_sites.data.toList.drop 0 = dktX2_sites_0 := by decide +kernel
theorem dksX2_sites_1 : cX2_sites.data.toList.drop 23 = dktX2_sites_1 := dk_seg dksX2_sites_0 23 rfl rfl
theorem dksX2_sites_2 : cX2_sites.data.toList.drop 45 = dktX2_sites_2 := dk_seg dksX2_sites_1 22 rfl rfl
theorem dX2_sites_0 : decode cX2_sites 0 = .ok (.aload_n 0, 1) := dk_42 (dk_at dksX2_sites_0 0 rfl rfl)
theorem dX2_sites_1 : decode cX2_sites 1 = .ok (.getfield 9, 3) := dk_180 0 9 (dk_at dksX2_sites_0 1 rfl rfl)
theorem dX2_sites_4 : decode cX2_sites 4 = .ok (.iconst 2, 1) := dk_5 (dk_at dksX2_sites_0 4 rfl rfl)
theorem dX2_sites_5 : decode cX2_sites 5 = .ok (.if_icmp .ne 7, 3) := dk_160 0 7 (dk_at dksX2_sites_0 5 rfl rfl)
theorem dX2_sites_8 : decode cX2_sites 8 = .ok (.iconst 1, 1) := dk_4 (dk_at dksX2_sites_0 8 rfl rfl)
theorem dX2_sites_9 : decode cX2_sites 9 = .ok (.goto 4, 3) := dk_167 0 4 (dk_at dksX2_sites_0 9 rfl rfl)
theorem dX2_sites_12 : decode cX2_sites 12 = .ok (.iconst 0, 1) := dk_3 (dk_at dksX2_sites_0 12 rfl rfl)
theorem dX2_sites_13 : decode cX2_sites 13 = .ok (.istore_n 1, 1) := dk_60 (dk_at dksX2_sites_0 13 rfl rfl)
theorem dX2_sites_14 : decode cX2_sites 14 = .ok (.aload_n 0, 1) := dk_42 (dk_at dksX2_sites_0 14 rfl rfl)
theorem dX2_sites_15 : decode cX2_sites 15 = .ok (.getfield 18, 3) := dk_180 0 18 (dk_at dksX2_sites_0 15 rfl rfl)
theorem dX2_sites_18 : decode cX2_sites 18 = .ok (.astore_n 2, 1) := dk_77 (dk_at dksX2_sites_0 18 rfl rfl)
theorem dX2_sites_19 : decode cX2_sites 19 = .ok (.aload_n 2, 1) := dk_44 (dk_at dksX2_sites_0 19 rfl rfl)
theorem dX2_sites_20 : decode cX2_sites 20 = .ok (.arraylength, 1) := dk_190 (dk_at dksX2_sites_0 20 rfl rfl)
theorem dX2_sites_21 : decode cX2_sites 21 = .ok (.istore_n 3, 1) := dk_62 (dk_at dksX2_sites_0 21 rfl rfl)
theorem dX2_sites_22 : decode cX2_sites 22 = .ok (.iconst 0, 1) := dk_3 (dk_at dksX2_sites_0 22 rfl rfl)
theorem dX2_sites_23 : decode cX2_sites 23 = .ok (.istore 4, 2) := dk_54 4 (dk_at dksX2_sites_1 0 rfl rfl)
theorem dX2_sites_25 : decode cX2_sites 25 = .ok (.iload 4, 2) := dk_21 4 (dk_at dksX2_sites_1 2 rfl rfl)
theorem dX2_sites_27 : decode cX2_sites 27 = .ok (.iload_n 3, 1) := dk_29 (dk_at dksX2_sites_1 4 rfl rfl)
theorem dX2_sites_28 : decode cX2_sites 28 = .ok (.if_icmp .ge 23, 3) := dk_162 0 23 (dk_at dksX2_sites_1 5 rfl rfl)
theorem dX2_sites_31 : decode cX2_sites 31 = .ok (.aload_n 2, 1) := dk_44 (dk_at dksX2_sites_1 8 rfl rfl)
theorem dX2_sites_32 : decode cX2_sites 32 = .ok (.iload 4, 2) := dk_21 4 (dk_at dksX2_sites_1 9 rfl rfl)
theorem dX2_sites_34 : decode cX2_sites 34 = .ok (.aaload, 1) := dk_50 (dk_at dksX2_sites_1 11 rfl rfl)
theorem dX2_sites_35 : decode cX2_sites 35 = .ok (.astore 5, 2) := dk_58 5 (dk_at dksX2_sites_1 12 rfl rfl)
theorem dX2_sites_37 : decode cX2_sites 37 = .ok (.iload_n 1, 1) := dk_27 (dk_at dksX2_sites_1 14 rfl rfl)
theorem dX2_sites_38 : decode cX2_sites 38 = .ok (.aload 5, 2) := dk_25 5 (dk_at dksX2_sites_1 15 rfl rfl)
theorem dX2_sites_40 : decode cX2_sites 40 = .ok (.invokevirtual 25, 3) := dk_182 0 25 (dk_at dksX2_sites_1 17 rfl rfl)
theorem dX2_sites_43 : decode cX2_sites 43 = .ok (.iadd, 1) := dk_96 (dk_at dksX2_sites_1 20 rfl rfl)
theorem dX2_sites_44 : decode cX2_sites 44 = .ok (.istore_n 1, 1) := dk_60 (dk_at dksX2_sites_1 21 rfl rfl)
theorem dX2_sites_45 : decode cX2_sites 45 = .ok (.iinc 4 1, 3) := dk_132 4 1 (dk_at dksX2_sites_2 0 rfl rfl)
theorem dX2_sites_48 : decode cX2_sites 48 = .ok (.goto (-23), 3) := dk_167 255 233 (dk_at dksX2_sites_2 3 rfl rfl)
theorem dX2_sites_51 : decode cX2_sites 51 = .ok (.iload_n 1, 1) := dk_27 (dk_at dksX2_sites_2 6 rfl rfl)
theorem dX2_sites_52 : decode cX2_sites 52 = .ok (.ireturn, 1) := dk_172 (dk_at dksX2_sites_2 7 rfl rfl)
abbrev cX2_write : ByteArray := prog_5_method_3_code
def yX2_write : MethodName := ⟨RX2, "write", "(Ljava/lang/StringBuilder;)V"⟩
def dkwX2_write_4 : List UInt8 := [167, 255, 218, 43, 16, 41, 182, 0, 43, 87, 177]
abbrev dktX2_write_4 : List UInt8 := dkwX2_write_4 ++ []
def dkwX2_write_3 : List UInt8 := [167, 0, 5, 18, 48, 182, 0, 50, 87, 42, 180, 0, 18, 28, 50, 43, 182, 0, 53, 132, 2, 1]
abbrev dktX2_write_3 : List UInt8 := dkwX2_write_3 ++ dktX2_write_4
def dkwX2_write_2 : List UInt8 := [16, 40, 182, 0, 43, 87, 3, 61, 28, 42, 180, 0, 18, 190, 162, 0, 35, 43, 28, 154, 0, 8, 18, 46]
abbrev dktX2_write_2 : List UInt8 := dkwX2_write_2 ++ dktX2_write_3
def dkwX2_write_1 : List UInt8 := [182, 0, 37, 42, 180, 0, 15, 96, 146, 182, 0, 43, 87, 42, 180, 0, 9, 4, 160, 0, 4, 177, 43]
abbrev dktX2_write_1 : List UInt8 := dkwX2_write_1 ++ dktX2_write_2
def dkwX2_write_0 : List UInt8 := [42, 180, 0, 9, 154, 0, 13, 43, 42, 180, 0, 15, 182, 0, 29, 87, 177, 43, 18, 35, 42, 180, 0, 9]
abbrev dktX2_write_0 : List UInt8 := dkwX2_write_0 ++ dktX2_write_1
theorem dksX2_write_0 : cX2_write.data.toList.drop 0 = dktX2_write_0 := by decide +kernel
theorem dksX2_write_1 : cX2_write.data.toList.drop 24 = dktX2_write_1 := dk_seg dksX2_write_0 24 rfl rfl
theorem dksX2_write_2 : cX2_write.data.toList.drop 47 = dktX2_write_2 := dk_seg dksX2_write_1 23 rfl rfl
theorem dksX2_write_3 : cX2_write.data.toList.drop 71 = dktX2_write_3 := dk_seg dksX2_write_2 24 rfl rfl
theorem dksX2_write_4 : cX2_write.data.toList.drop 93 = dktX2_write_4 := dk_seg dksX2_write_3 22 rfl rfl
theorem dX2_write_0 : decode cX2_write 0 = .ok (.aload_n 0, 1) := dk_42 (dk_at dksX2_write_0 0 rfl rfl)
theorem dX2_write_1 : decode cX2_write 1 = .ok (.getfield 9, 3) := dk_180 0 9 (dk_at dksX2_write_0 1 rfl rfl)
theorem dX2_write_4 : decode cX2_write 4 = .ok (.ifCond .ne 13, 3) := dk_154 0 13 (dk_at dksX2_write_0 4 rfl rfl)
theorem dX2_write_7 : decode cX2_write 7 = .ok (.aload_n 1, 1) := dk_43 (dk_at dksX2_write_0 7 rfl rfl)
theorem dX2_write_8 : decode cX2_write 8 = .ok (.aload_n 0, 1) := dk_42 (dk_at dksX2_write_0 8 rfl rfl)
theorem dX2_write_9 : decode cX2_write 9 = .ok (.getfield 15, 3) := dk_180 0 15 (dk_at dksX2_write_0 9 rfl rfl)
theorem dX2_write_12 : decode cX2_write 12 = .ok (.invokevirtual 29, 3) := dk_182 0 29 (dk_at dksX2_write_0 12 rfl rfl)
theorem dX2_write_15 : decode cX2_write 15 = .ok (.pop, 1) := dk_87 (dk_at dksX2_write_0 15 rfl rfl)
theorem dX2_write_16 : decode cX2_write 16 = .ok (.return_, 1) := dk_177 (dk_at dksX2_write_0 16 rfl rfl)
theorem dX2_write_17 : decode cX2_write 17 = .ok (.aload_n 1, 1) := dk_43 (dk_at dksX2_write_0 17 rfl rfl)
theorem dX2_write_18 : decode cX2_write 18 = .ok (.ldc 35, 2) := dk_18 35 (dk_at dksX2_write_0 18 rfl rfl)
theorem dX2_write_20 : decode cX2_write 20 = .ok (.aload_n 0, 1) := dk_42 (dk_at dksX2_write_0 20 rfl rfl)
theorem dX2_write_21 : decode cX2_write 21 = .ok (.getfield 9, 3) := dk_180 0 9 (dk_at dksX2_write_0 21 rfl rfl)
theorem dX2_write_24 : decode cX2_write 24 = .ok (.invokevirtual 37, 3) := dk_182 0 37 (dk_at dksX2_write_1 0 rfl rfl)
theorem dX2_write_27 : decode cX2_write 27 = .ok (.aload_n 0, 1) := dk_42 (dk_at dksX2_write_1 3 rfl rfl)
theorem dX2_write_28 : decode cX2_write 28 = .ok (.getfield 15, 3) := dk_180 0 15 (dk_at dksX2_write_1 4 rfl rfl)
theorem dX2_write_31 : decode cX2_write 31 = .ok (.iadd, 1) := dk_96 (dk_at dksX2_write_1 7 rfl rfl)
theorem dX2_write_32 : decode cX2_write 32 = .ok (.i2c, 1) := dk_146 (dk_at dksX2_write_1 8 rfl rfl)
theorem dX2_write_33 : decode cX2_write 33 = .ok (.invokevirtual 43, 3) := dk_182 0 43 (dk_at dksX2_write_1 9 rfl rfl)
theorem dX2_write_36 : decode cX2_write 36 = .ok (.pop, 1) := dk_87 (dk_at dksX2_write_1 12 rfl rfl)
theorem dX2_write_37 : decode cX2_write 37 = .ok (.aload_n 0, 1) := dk_42 (dk_at dksX2_write_1 13 rfl rfl)
theorem dX2_write_38 : decode cX2_write 38 = .ok (.getfield 9, 3) := dk_180 0 9 (dk_at dksX2_write_1 14 rfl rfl)
theorem dX2_write_41 : decode cX2_write 41 = .ok (.iconst 1, 1) := dk_4 (dk_at dksX2_write_1 17 rfl rfl)
theorem dX2_write_42 : decode cX2_write 42 = .ok (.if_icmp .ne 4, 3) := dk_160 0 4 (dk_at dksX2_write_1 18 rfl rfl)
theorem dX2_write_45 : decode cX2_write 45 = .ok (.return_, 1) := dk_177 (dk_at dksX2_write_1 21 rfl rfl)
theorem dX2_write_46 : decode cX2_write 46 = .ok (.aload_n 1, 1) := dk_43 (dk_at dksX2_write_1 22 rfl rfl)
theorem dX2_write_47 : decode cX2_write 47 = .ok (.bipush 40, 2) := dk_16 40 (dk_at dksX2_write_2 0 rfl rfl)
theorem dX2_write_49 : decode cX2_write 49 = .ok (.invokevirtual 43, 3) := dk_182 0 43 (dk_at dksX2_write_2 2 rfl rfl)
theorem dX2_write_52 : decode cX2_write 52 = .ok (.pop, 1) := dk_87 (dk_at dksX2_write_2 5 rfl rfl)
theorem dX2_write_53 : decode cX2_write 53 = .ok (.iconst 0, 1) := dk_3 (dk_at dksX2_write_2 6 rfl rfl)
theorem dX2_write_54 : decode cX2_write 54 = .ok (.istore_n 2, 1) := dk_61 (dk_at dksX2_write_2 7 rfl rfl)
theorem dX2_write_55 : decode cX2_write 55 = .ok (.iload_n 2, 1) := dk_28 (dk_at dksX2_write_2 8 rfl rfl)
theorem dX2_write_56 : decode cX2_write 56 = .ok (.aload_n 0, 1) := dk_42 (dk_at dksX2_write_2 9 rfl rfl)
theorem dX2_write_57 : decode cX2_write 57 = .ok (.getfield 18, 3) := dk_180 0 18 (dk_at dksX2_write_2 10 rfl rfl)
theorem dX2_write_60 : decode cX2_write 60 = .ok (.arraylength, 1) := dk_190 (dk_at dksX2_write_2 13 rfl rfl)
theorem dX2_write_61 : decode cX2_write 61 = .ok (.if_icmp .ge 35, 3) := dk_162 0 35 (dk_at dksX2_write_2 14 rfl rfl)
theorem dX2_write_64 : decode cX2_write 64 = .ok (.aload_n 1, 1) := dk_43 (dk_at dksX2_write_2 17 rfl rfl)
theorem dX2_write_65 : decode cX2_write 65 = .ok (.iload_n 2, 1) := dk_28 (dk_at dksX2_write_2 18 rfl rfl)
theorem dX2_write_66 : decode cX2_write 66 = .ok (.ifCond .ne 8, 3) := dk_154 0 8 (dk_at dksX2_write_2 19 rfl rfl)
theorem dX2_write_69 : decode cX2_write 69 = .ok (.ldc 46, 2) := dk_18 46 (dk_at dksX2_write_2 22 rfl rfl)
theorem dX2_write_71 : decode cX2_write 71 = .ok (.goto 5, 3) := dk_167 0 5 (dk_at dksX2_write_3 0 rfl rfl)
theorem dX2_write_74 : decode cX2_write 74 = .ok (.ldc 48, 2) := dk_18 48 (dk_at dksX2_write_3 3 rfl rfl)
theorem dX2_write_76 : decode cX2_write 76 = .ok (.invokevirtual 50, 3) := dk_182 0 50 (dk_at dksX2_write_3 5 rfl rfl)
theorem dX2_write_79 : decode cX2_write 79 = .ok (.pop, 1) := dk_87 (dk_at dksX2_write_3 8 rfl rfl)
theorem dX2_write_80 : decode cX2_write 80 = .ok (.aload_n 0, 1) := dk_42 (dk_at dksX2_write_3 9 rfl rfl)
theorem dX2_write_81 : decode cX2_write 81 = .ok (.getfield 18, 3) := dk_180 0 18 (dk_at dksX2_write_3 10 rfl rfl)
theorem dX2_write_84 : decode cX2_write 84 = .ok (.iload_n 2, 1) := dk_28 (dk_at dksX2_write_3 13 rfl rfl)
theorem dX2_write_85 : decode cX2_write 85 = .ok (.aaload, 1) := dk_50 (dk_at dksX2_write_3 14 rfl rfl)
theorem dX2_write_86 : decode cX2_write 86 = .ok (.aload_n 1, 1) := dk_43 (dk_at dksX2_write_3 15 rfl rfl)
theorem dX2_write_87 : decode cX2_write 87 = .ok (.invokevirtual 53, 3) := dk_182 0 53 (dk_at dksX2_write_3 16 rfl rfl)
theorem dX2_write_90 : decode cX2_write 90 = .ok (.iinc 2 1, 3) := dk_132 2 1 (dk_at dksX2_write_3 19 rfl rfl)
theorem dX2_write_93 : decode cX2_write 93 = .ok (.goto (-38), 3) := dk_167 255 218 (dk_at dksX2_write_4 0 rfl rfl)
theorem dX2_write_96 : decode cX2_write 96 = .ok (.aload_n 1, 1) := dk_43 (dk_at dksX2_write_4 3 rfl rfl)
theorem dX2_write_97 : decode cX2_write 97 = .ok (.bipush 41, 2) := dk_16 41 (dk_at dksX2_write_4 4 rfl rfl)
theorem dX2_write_99 : decode cX2_write 99 = .ok (.invokevirtual 43, 3) := dk_182 0 43 (dk_at dksX2_write_4 6 rfl rfl)
theorem dX2_write_102 : decode cX2_write 102 = .ok (.pop, 1) := dk_87 (dk_at dksX2_write_4 9 rfl rfl)
theorem dX2_write_103 : decode cX2_write 103 = .ok (.return_, 1) := dk_177 (dk_at dksX2_write_4 10 rfl rfl)
theorem q58 : (Jvm.Cond.initialized "CallMigrator$Node") ∈ lw_all := lw_g (lw_at lw_m1 3 rfl) rfl
theorem q98 : (Jvm.Cond.instantiable "CallMigrator$Node" (4 : Nat)) ∈ lw_all := lw_g (lw_at lw_m1 43 rfl) rfl
theorem q101 : (Jvm.Cond.instanceMethod ({ cls := "CallMigrator$Node", name := "<init>", desc := "(II[LCallMigrator$Node;)V" } : Jvm.MethodName)) ∈ lw_all := lw_g (lw_at lw_m1 46 rfl) rfl
theorem q102 : (Jvm.Cond.code ({ cls := "CallMigrator$Node", name := "<init>", desc := "(II[LCallMigrator$Node;)V" } : Jvm.MethodName) prog_5_method_1_code (9 : Nat) (Option.none : Option Jvm.ClassFile.FieldType)) ∈ lw_all := lw_g (lw_at lw_m1 47 rfl) rfl
theorem q103 : (Jvm.Cond.methodLink "CallMigrator$Node" (3 : Nat) ({ cls := "java/lang/Object", name := "<init>", desc := "()V" } : Jvm.MethodName)) ∈ lw_all := lw_g (lw_at lw_m1 48 rfl) rfl
theorem q104 : (Jvm.Cond.fieldLink "CallMigrator$Node" (9 : Nat) "CallMigrator$Node" "kind" "I") ∈ lw_all := lw_g (lw_at lw_m1 49 rfl) rfl
theorem q107 : (Jvm.Cond.fieldLink "CallMigrator$Node" (15 : Nat) "CallMigrator$Node" "value" "I") ∈ lw_all := lw_g (lw_at lw_m1 52 rfl) rfl
theorem q110 : (Jvm.Cond.fieldLink "CallMigrator$Node" (18 : Nat) "CallMigrator$Node" "arguments" "[LCallMigrator$Node;") ∈ lw_all := lw_g (lw_at lw_m1 55 rfl) rfl
theorem q114 : (Jvm.Cond.fieldLink "CallMigrator$Node" (22 : Nat) "CallMigrator$Node" "size" "I") ∈ lw_all := lw_g (lw_at lw_m1 59 rfl) rfl
theorem q116 : (Jvm.Cond.laysFinal "CallMigrator$Node" "CallMigrator$Node" "kind" "I") ∈ lw_all := lw_g (lw_at lw_m1 61 rfl) rfl
theorem q117 : (Jvm.Cond.soleField "CallMigrator$Node" "kind") ∈ lw_all := lw_g (lw_at lw_m1 62 rfl) rfl
theorem q118 : (Jvm.Cond.laysFinal "CallMigrator$Node" "CallMigrator$Node" "value" "I") ∈ lw_all := lw_g (lw_at lw_m1 63 rfl) rfl
theorem q119 : (Jvm.Cond.soleField "CallMigrator$Node" "value") ∈ lw_all := lw_g (lw_at lw_m1 64 rfl) rfl
theorem q120 : (Jvm.Cond.laysFinal "CallMigrator$Node" "CallMigrator$Node" "arguments" "[LCallMigrator$Node;") ∈ lw_all := lw_g (lw_at lw_m1 65 rfl) rfl
theorem q121 : (Jvm.Cond.soleField "CallMigrator$Node" "arguments") ∈ lw_all := lw_g (lw_at lw_m1 66 rfl) rfl
theorem q122 : (Jvm.Cond.laysFinal "CallMigrator$Node" "CallMigrator$Node" "size" "I") ∈ lw_all := lw_g (lw_at lw_m1 67 rfl) rfl
theorem q123 : (Jvm.Cond.soleField "CallMigrator$Node" "size") ∈ lw_all := lw_g (lw_at lw_m1 68 rfl) rfl
theorem q124 : (Jvm.Cond.superclass "CallMigrator$Node" "java/lang/Object") ∈ lw_all := lw_g (lw_at lw_m1 69 rfl) rfl
theorem q586 : (Jvm.Cond.instanceMethod ({ cls := "CallMigrator$Node", name := "sites", desc := "()I" } : Jvm.MethodName)) ∈ lw_all := lw_g (lw_at lw_m3 51 rfl) rfl
theorem q587 : (Jvm.Cond.selects "CallMigrator$Node" ({ cls := "CallMigrator$Node", name := "sites", desc := "()I" } : Jvm.MethodName) ({ cls := "CallMigrator$Node", name := "sites", desc := "()I" } : Jvm.MethodName)) ∈ lw_all := lw_g (lw_at lw_m3 52 rfl) rfl
theorem q588 : (Jvm.Cond.code ({ cls := "CallMigrator$Node", name := "sites", desc := "()I" } : Jvm.MethodName) prog_5_method_2_code (6 : Nat) (Option.some Jvm.ClassFile.FieldType.int)) ∈ lw_all := lw_g (lw_at lw_m3 53 rfl) rfl
theorem q589 : (Jvm.Cond.methodLink "CallMigrator$Node" (25 : Nat) ({ cls := "CallMigrator$Node", name := "sites", desc := "()I" } : Jvm.MethodName)) ∈ lw_all := lw_g (lw_at lw_m3 54 rfl) rfl
theorem q642 : (Jvm.Cond.instanceMethod ({ cls := "CallMigrator$Node", name := "write", desc := "(Ljava/lang/StringBuilder;)V" } : Jvm.MethodName)) ∈ lw_all := lw_g (lw_at lw_m3 107 rfl) rfl
theorem q643 : (Jvm.Cond.selects "CallMigrator$Node" ({ cls := "CallMigrator$Node", name := "write", desc := "(Ljava/lang/StringBuilder;)V" } : Jvm.MethodName) ({ cls := "CallMigrator$Node", name := "write", desc := "(Ljava/lang/StringBuilder;)V" } : Jvm.MethodName)) ∈ lw_all := lw_g (lw_at lw_m3 108 rfl) rfl
theorem q644 : (Jvm.Cond.code ({ cls := "CallMigrator$Node", name := "write", desc := "(Ljava/lang/StringBuilder;)V" } : Jvm.MethodName) prog_5_method_3_code (3 : Nat) (Option.none : Option Jvm.ClassFile.FieldType)) ∈ lw_all := lw_g (lw_at lw_m3 109 rfl) rfl
theorem q645 : (Jvm.Cond.methodLink "CallMigrator$Node" (29 : Nat) ({ cls := "java/lang/StringBuilder", name := "append", desc := "(I)Ljava/lang/StringBuilder;" } : Jvm.MethodName)) ∈ lw_all := lw_g (lw_at lw_m3 110 rfl) rfl
theorem q729 : (Jvm.Cond.stringRef "CallMigrator$Node" (35 : Nat) " xaAp") ∈ lw_tbl := lw_at lw_m3 194 rfl
theorem q730 : (Jvm.Cond.methodLink "CallMigrator$Node" (37 : Nat) ({ cls := "java/lang/String", name := "charAt", desc := "(I)C" } : Jvm.MethodName)) ∈ lw_all := lw_g (lw_at lw_m3 195 rfl) rfl
theorem q758 : (Jvm.Cond.methodLink "CallMigrator$Node" (43 : Nat) ({ cls := "java/lang/StringBuilder", name := "append", desc := "(C)Ljava/lang/StringBuilder;" } : Jvm.MethodName)) ∈ lw_all := lw_g (lw_at lw_m3 223 rfl) rfl
theorem q790 : (Jvm.Cond.stringRef "CallMigrator$Node" (46 : Nat) "") ∈ lw_tbl := lw_at lw_m4 15 rfl
theorem q791 : (Jvm.Cond.stringRef "CallMigrator$Node" (48 : Nat) ",") ∈ lw_tbl := lw_at lw_m4 16 rfl
theorem q792 : (Jvm.Cond.methodLink "CallMigrator$Node" (50 : Nat) ({ cls := "java/lang/StringBuilder", name := "append", desc := "(Ljava/lang/String;)Ljava/lang/StringBuilder;" } : Jvm.MethodName)) ∈ lw_all := lw_g (lw_at lw_m4 17 rfl) rfl
theorem q829 : (Jvm.Cond.methodLink "CallMigrator$Node" (53 : Nat) ({ cls := "CallMigrator$Node", name := "write", desc := "(Ljava/lang/StringBuilder;)V" } : Jvm.MethodName)) ∈ lw_all := lw_g (lw_at lw_m4 54 rfl) rfl
theorem in_X2 : ∀ w ∈ wsX20, w ∈ lw_all := lw_in wsX20 [116, 118, 120, 122] (by decide +kernel) (by decide +kernel)

/-! CallMigrator$Function -/
set_option maxRecDepth 100000
def RX3 : String := "CallMigrator$Function"
def TX3 : u_T := fun k => match k with
  | 0 => ("CallMigrator$Function", "arity", "I", true)
  | 1 => ("CallMigrator$Function", "effect", "I", true)
  | 2 => ("CallMigrator$Function", "constant", "I", true)
  | _ => ("CallMigrator$Function", "coefficients", "[I", true)
def tyX3 : Nat → FieldType := fun k => match k with
  | 0 => .int
  | 1 => .int
  | 2 => .int
  | _ => .array .int
abbrev wsX30 : List Cond := u_ws RX3 TX3 4
theorem nmX3 : ∀ a, a < 4 → ∀ b, b < 4 → a ≠ b → (TX3 a).2.1 ≠ (TX3 b).2.1 := by decide +kernel
theorem tyX3_ok : ∀ k, k < 4 → parseFieldDescriptor (TX3 k).2.2.1 = some (tyX3 k) := by decide +kernel
abbrev cX3_init : ByteArray := prog_2_method_1_code
def yX3_init : MethodName := ⟨RX3, "<init>", "()V"⟩
def dkwX3_init_1 : List UInt8 := [183, 0, 3, 177]
abbrev dktX3_init_1 : List UInt8 := dkwX3_init_1 ++ []
def dkwX3_init_0 : List UInt8 := [42, 4, 3, 3, 7, 188, 10, 89, 3, 3, 79, 89, 4, 3, 79, 89, 5, 3, 79, 89, 6, 3, 79]
abbrev dktX3_init_0 : List UInt8 := dkwX3_init_0 ++ dktX3_init_1
theorem dksX3_init_0 : cX3_init.data.toList.drop 0 = dktX3_init_0 := by decide +kernel
theorem dksX3_init_1 : cX3_init.data.toList.drop 23 = dktX3_init_1 := dk_seg dksX3_init_0 23 rfl rfl
theorem dX3_init_0 : decode cX3_init 0 = .ok (.aload_n 0, 1) := dk_42 (dk_at dksX3_init_0 0 rfl rfl)
theorem dX3_init_1 : decode cX3_init 1 = .ok (.iconst 1, 1) := dk_4 (dk_at dksX3_init_0 1 rfl rfl)
theorem dX3_init_2 : decode cX3_init 2 = .ok (.iconst 0, 1) := dk_3 (dk_at dksX3_init_0 2 rfl rfl)
theorem dX3_init_3 : decode cX3_init 3 = .ok (.iconst 0, 1) := dk_3 (dk_at dksX3_init_0 3 rfl rfl)
theorem dX3_init_4 : decode cX3_init 4 = .ok (.iconst 4, 1) := dk_7 (dk_at dksX3_init_0 4 rfl rfl)
theorem dX3_init_5 : decode cX3_init 5 = .ok (.newarray .int, 2) := dk_188_10 (dk_at dksX3_init_0 5 rfl rfl)
theorem dX3_init_7 : decode cX3_init 7 = .ok (.dup, 1) := dk_89 (dk_at dksX3_init_0 7 rfl rfl)
theorem dX3_init_8 : decode cX3_init 8 = .ok (.iconst 0, 1) := dk_3 (dk_at dksX3_init_0 8 rfl rfl)
theorem dX3_init_9 : decode cX3_init 9 = .ok (.iconst 0, 1) := dk_3 (dk_at dksX3_init_0 9 rfl rfl)
theorem dX3_init_10 : decode cX3_init 10 = .ok (.iastore, 1) := dk_79 (dk_at dksX3_init_0 10 rfl rfl)
theorem dX3_init_11 : decode cX3_init 11 = .ok (.dup, 1) := dk_89 (dk_at dksX3_init_0 11 rfl rfl)
theorem dX3_init_12 : decode cX3_init 12 = .ok (.iconst 1, 1) := dk_4 (dk_at dksX3_init_0 12 rfl rfl)
theorem dX3_init_13 : decode cX3_init 13 = .ok (.iconst 0, 1) := dk_3 (dk_at dksX3_init_0 13 rfl rfl)
theorem dX3_init_14 : decode cX3_init 14 = .ok (.iastore, 1) := dk_79 (dk_at dksX3_init_0 14 rfl rfl)
theorem dX3_init_15 : decode cX3_init 15 = .ok (.dup, 1) := dk_89 (dk_at dksX3_init_0 15 rfl rfl)
theorem dX3_init_16 : decode cX3_init 16 = .ok (.iconst 2, 1) := dk_5 (dk_at dksX3_init_0 16 rfl rfl)
theorem dX3_init_17 : decode cX3_init 17 = .ok (.iconst 0, 1) := dk_3 (dk_at dksX3_init_0 17 rfl rfl)
theorem dX3_init_18 : decode cX3_init 18 = .ok (.iastore, 1) := dk_79 (dk_at dksX3_init_0 18 rfl rfl)
theorem dX3_init_19 : decode cX3_init 19 = .ok (.dup, 1) := dk_89 (dk_at dksX3_init_0 19 rfl rfl)
theorem dX3_init_20 : decode cX3_init 20 = .ok (.iconst 3, 1) := dk_6 (dk_at dksX3_init_0 20 rfl rfl)
theorem dX3_init_21 : decode cX3_init 21 = .ok (.iconst 0, 1) := dk_3 (dk_at dksX3_init_0 21 rfl rfl)
theorem dX3_init_22 : decode cX3_init 22 = .ok (.iastore, 1) := dk_79 (dk_at dksX3_init_0 22 rfl rfl)
theorem dX3_init_23 : decode cX3_init 23 = .ok (.invokespecial 3, 3) := dk_183 0 3 (dk_at dksX3_init_1 0 rfl rfl)
theorem dX3_init_26 : decode cX3_init 26 = .ok (.return_, 1) := dk_177 (dk_at dksX3_init_1 3 rfl rfl)
abbrev cX3_init_2 : ByteArray := prog_2_method_2_code
def yX3_init_2 : MethodName := ⟨RX3, "<init>", "(III[I)V"⟩
def dkwX3_init_2_1 : List UInt8 := [181, 0, 24, 177]
abbrev dktX3_init_2_1 : List UInt8 := dkwX3_init_2_1 ++ []
def dkwX3_init_2_0 : List UInt8 := [42, 183, 0, 9, 42, 27, 181, 0, 14, 42, 28, 181, 0, 18, 42, 29, 181, 0, 21, 42, 25, 4]
abbrev dktX3_init_2_0 : List UInt8 := dkwX3_init_2_0 ++ dktX3_init_2_1
theorem dksX3_init_2_0 : cX3_init_2.data.toList.drop 0 = dktX3_init_2_0 := by decide +kernel
theorem dksX3_init_2_1 : cX3_init_2.data.toList.drop 22 = dktX3_init_2_1 := dk_seg dksX3_init_2_0 22 rfl rfl
theorem dX3_init_2_0 : decode cX3_init_2 0 = .ok (.aload_n 0, 1) := dk_42 (dk_at dksX3_init_2_0 0 rfl rfl)
theorem dX3_init_2_1 : decode cX3_init_2 1 = .ok (.invokespecial 9, 3) := dk_183 0 9 (dk_at dksX3_init_2_0 1 rfl rfl)
theorem dX3_init_2_4 : decode cX3_init_2 4 = .ok (.aload_n 0, 1) := dk_42 (dk_at dksX3_init_2_0 4 rfl rfl)
theorem dX3_init_2_5 : decode cX3_init_2 5 = .ok (.iload_n 1, 1) := dk_27 (dk_at dksX3_init_2_0 5 rfl rfl)
theorem dX3_init_2_6 : decode cX3_init_2 6 = .ok (.putfield 14, 3) := dk_181 0 14 (dk_at dksX3_init_2_0 6 rfl rfl)
theorem dX3_init_2_9 : decode cX3_init_2 9 = .ok (.aload_n 0, 1) := dk_42 (dk_at dksX3_init_2_0 9 rfl rfl)
theorem dX3_init_2_10 : decode cX3_init_2 10 = .ok (.iload_n 2, 1) := dk_28 (dk_at dksX3_init_2_0 10 rfl rfl)
theorem dX3_init_2_11 : decode cX3_init_2 11 = .ok (.putfield 18, 3) := dk_181 0 18 (dk_at dksX3_init_2_0 11 rfl rfl)
theorem dX3_init_2_14 : decode cX3_init_2 14 = .ok (.aload_n 0, 1) := dk_42 (dk_at dksX3_init_2_0 14 rfl rfl)
theorem dX3_init_2_15 : decode cX3_init_2 15 = .ok (.iload_n 3, 1) := dk_29 (dk_at dksX3_init_2_0 15 rfl rfl)
theorem dX3_init_2_16 : decode cX3_init_2 16 = .ok (.putfield 21, 3) := dk_181 0 21 (dk_at dksX3_init_2_0 16 rfl rfl)
theorem dX3_init_2_19 : decode cX3_init_2 19 = .ok (.aload_n 0, 1) := dk_42 (dk_at dksX3_init_2_0 19 rfl rfl)
theorem dX3_init_2_20 : decode cX3_init_2 20 = .ok (.aload 4, 2) := dk_25 4 (dk_at dksX3_init_2_0 20 rfl rfl)
theorem dX3_init_2_22 : decode cX3_init_2 22 = .ok (.putfield 24, 3) := dk_181 0 24 (dk_at dksX3_init_2_1 0 rfl rfl)
theorem dX3_init_2_25 : decode cX3_init_2 25 = .ok (.return_, 1) := dk_177 (dk_at dksX3_init_2_1 3 rfl rfl)
abbrev cX3_with : ByteArray := prog_2_method_3_code
def yX3_with : MethodName := ⟨RX3, "with", "(II)LCallMigrator$Function;"⟩
def dkwX3_with_0 : List UInt8 := [187, 0, 4, 89, 27, 28, 42, 180, 0, 21, 42, 180, 0, 24, 183, 0, 3, 176]
abbrev dktX3_with_0 : List UInt8 := dkwX3_with_0 ++ []
theorem dksX3_with_0 : cX3_with.data.toList.drop 0 = dktX3_with_0 := by decide +kernel
theorem dX3_with_0 : decode cX3_with 0 = .ok (.new 4, 3) := dk_187 0 4 (dk_at dksX3_with_0 0 rfl rfl)
theorem dX3_with_3 : decode cX3_with 3 = .ok (.dup, 1) := dk_89 (dk_at dksX3_with_0 3 rfl rfl)
theorem dX3_with_4 : decode cX3_with 4 = .ok (.iload_n 1, 1) := dk_27 (dk_at dksX3_with_0 4 rfl rfl)
theorem dX3_with_5 : decode cX3_with 5 = .ok (.iload_n 2, 1) := dk_28 (dk_at dksX3_with_0 5 rfl rfl)
theorem dX3_with_6 : decode cX3_with 6 = .ok (.aload_n 0, 1) := dk_42 (dk_at dksX3_with_0 6 rfl rfl)
theorem dX3_with_7 : decode cX3_with 7 = .ok (.getfield 21, 3) := dk_180 0 21 (dk_at dksX3_with_0 7 rfl rfl)
theorem dX3_with_10 : decode cX3_with 10 = .ok (.aload_n 0, 1) := dk_42 (dk_at dksX3_with_0 10 rfl rfl)
theorem dX3_with_11 : decode cX3_with 11 = .ok (.getfield 24, 3) := dk_180 0 24 (dk_at dksX3_with_0 11 rfl rfl)
theorem dX3_with_14 : decode cX3_with 14 = .ok (.invokespecial 3, 3) := dk_183 0 3 (dk_at dksX3_with_0 14 rfl rfl)
theorem dX3_with_17 : decode cX3_with 17 = .ok (.areturn, 1) := dk_176 (dk_at dksX3_with_0 17 rfl rfl)
abbrev cX3_term : ByteArray := prog_2_method_4_code
def yX3_term : MethodName := ⟨RX3, "term", "(I)I"⟩
def dkwX3_term_0 : List UInt8 := [27, 2, 160, 0, 10, 42, 180, 0, 21, 167, 0, 9, 42, 180, 0, 24, 27, 46, 172]
abbrev dktX3_term_0 : List UInt8 := dkwX3_term_0 ++ []
theorem dksX3_term_0 : cX3_term.data.toList.drop 0 = dktX3_term_0 := by decide +kernel
theorem dX3_term_0 : decode cX3_term 0 = .ok (.iload_n 1, 1) := dk_27 (dk_at dksX3_term_0 0 rfl rfl)
theorem dX3_term_1 : decode cX3_term 1 = .ok (.iconst (-1), 1) := dk_2 (dk_at dksX3_term_0 1 rfl rfl)
theorem dX3_term_2 : decode cX3_term 2 = .ok (.if_icmp .ne 10, 3) := dk_160 0 10 (dk_at dksX3_term_0 2 rfl rfl)
theorem dX3_term_5 : decode cX3_term 5 = .ok (.aload_n 0, 1) := dk_42 (dk_at dksX3_term_0 5 rfl rfl)
theorem dX3_term_6 : decode cX3_term 6 = .ok (.getfield 21, 3) := dk_180 0 21 (dk_at dksX3_term_0 6 rfl rfl)
theorem dX3_term_9 : decode cX3_term 9 = .ok (.goto 9, 3) := dk_167 0 9 (dk_at dksX3_term_0 9 rfl rfl)
theorem dX3_term_12 : decode cX3_term 12 = .ok (.aload_n 0, 1) := dk_42 (dk_at dksX3_term_0 12 rfl rfl)
theorem dX3_term_13 : decode cX3_term 13 = .ok (.getfield 24, 3) := dk_180 0 24 (dk_at dksX3_term_0 13 rfl rfl)
theorem dX3_term_16 : decode cX3_term 16 = .ok (.iload_n 1, 1) := dk_27 (dk_at dksX3_term_0 16 rfl rfl)
theorem dX3_term_17 : decode cX3_term 17 = .ok (.iaload, 1) := dk_46 (dk_at dksX3_term_0 17 rfl rfl)
theorem dX3_term_18 : decode cX3_term 18 = .ok (.ireturn, 1) := dk_172 (dk_at dksX3_term_0 18 rfl rfl)
abbrev cX3_withTerm : ByteArray := prog_2_method_5_code
def yX3_withTerm : MethodName := ⟨RX3, "withTerm", "(II)LCallMigrator$Function;"⟩
def dkwX3_withTerm_2 : List UInt8 := [180, 0, 14, 42, 180, 0, 18, 42, 180, 0, 21, 45, 183, 0, 3, 176]
abbrev dktX3_withTerm_2 : List UInt8 := dkwX3_withTerm_2 ++ []
def dkwX3_withTerm_1 : List UInt8 := [183, 0, 3, 176, 42, 180, 0, 24, 182, 0, 28, 192, 0, 29, 78, 45, 27, 28, 79, 187, 0, 4, 89, 42]
abbrev dktX3_withTerm_1 : List UInt8 := dkwX3_withTerm_1 ++ dktX3_withTerm_2
def dkwX3_withTerm_0 : List UInt8 := [27, 2, 160, 0, 24, 187, 0, 4, 89, 42, 180, 0, 14, 42, 180, 0, 18, 28, 42, 180, 0, 24]
abbrev dktX3_withTerm_0 : List UInt8 := dkwX3_withTerm_0 ++ dktX3_withTerm_1
theorem dksX3_withTerm_0 : cX3_withTerm.data.toList.drop 0 = dktX3_withTerm_0 := by decide +kernel
theorem dksX3_withTerm_1 : cX3_withTerm.data.toList.drop 22 = dktX3_withTerm_1 := dk_seg dksX3_withTerm_0 22 rfl rfl
theorem dksX3_withTerm_2 : cX3_withTerm.data.toList.drop 46 = dktX3_withTerm_2 := dk_seg dksX3_withTerm_1 24 rfl rfl
theorem dX3_withTerm_0 : decode cX3_withTerm 0 = .ok (.iload_n 1, 1) := dk_27 (dk_at dksX3_withTerm_0 0 rfl rfl)
theorem dX3_withTerm_1 : decode cX3_withTerm 1 = .ok (.iconst (-1), 1) := dk_2 (dk_at dksX3_withTerm_0 1 rfl rfl)
theorem dX3_withTerm_2 : decode cX3_withTerm 2 = .ok (.if_icmp .ne 24, 3) := dk_160 0 24 (dk_at dksX3_withTerm_0 2 rfl rfl)
theorem dX3_withTerm_5 : decode cX3_withTerm 5 = .ok (.new 4, 3) := dk_187 0 4 (dk_at dksX3_withTerm_0 5 rfl rfl)
theorem dX3_withTerm_8 : decode cX3_withTerm 8 = .ok (.dup, 1) := dk_89 (dk_at dksX3_withTerm_0 8 rfl rfl)
theorem dX3_withTerm_9 : decode cX3_withTerm 9 = .ok (.aload_n 0, 1) := dk_42 (dk_at dksX3_withTerm_0 9 rfl rfl)
theorem dX3_withTerm_10 : decode cX3_withTerm 10 = .ok (.getfield 14, 3) := dk_180 0 14 (dk_at dksX3_withTerm_0 10 rfl rfl)
theorem dX3_withTerm_13 : decode cX3_withTerm 13 = .ok (.aload_n 0, 1) := dk_42 (dk_at dksX3_withTerm_0 13 rfl rfl)
theorem dX3_withTerm_14 : decode cX3_withTerm 14 = .ok (.getfield 18, 3) := dk_180 0 18 (dk_at dksX3_withTerm_0 14 rfl rfl)
theorem dX3_withTerm_17 : decode cX3_withTerm 17 = .ok (.iload_n 2, 1) := dk_28 (dk_at dksX3_withTerm_0 17 rfl rfl)
theorem dX3_withTerm_18 : decode cX3_withTerm 18 = .ok (.aload_n 0, 1) := dk_42 (dk_at dksX3_withTerm_0 18 rfl rfl)
theorem dX3_withTerm_19 : decode cX3_withTerm 19 = .ok (.getfield 24, 3) := dk_180 0 24 (dk_at dksX3_withTerm_0 19 rfl rfl)
theorem dX3_withTerm_22 : decode cX3_withTerm 22 = .ok (.invokespecial 3, 3) := dk_183 0 3 (dk_at dksX3_withTerm_1 0 rfl rfl)
theorem dX3_withTerm_25 : decode cX3_withTerm 25 = .ok (.areturn, 1) := dk_176 (dk_at dksX3_withTerm_1 3 rfl rfl)
theorem dX3_withTerm_26 : decode cX3_withTerm 26 = .ok (.aload_n 0, 1) := dk_42 (dk_at dksX3_withTerm_1 4 rfl rfl)
theorem dX3_withTerm_27 : decode cX3_withTerm 27 = .ok (.getfield 24, 3) := dk_180 0 24 (dk_at dksX3_withTerm_1 5 rfl rfl)
theorem dX3_withTerm_30 : decode cX3_withTerm 30 = .ok (.invokevirtual 28, 3) := dk_182 0 28 (dk_at dksX3_withTerm_1 8 rfl rfl)
theorem dX3_withTerm_33 : decode cX3_withTerm 33 = .ok (.checkcast 29, 3) := dk_192 0 29 (dk_at dksX3_withTerm_1 11 rfl rfl)
theorem dX3_withTerm_36 : decode cX3_withTerm 36 = .ok (.astore_n 3, 1) := dk_78 (dk_at dksX3_withTerm_1 14 rfl rfl)
theorem dX3_withTerm_37 : decode cX3_withTerm 37 = .ok (.aload_n 3, 1) := dk_45 (dk_at dksX3_withTerm_1 15 rfl rfl)
theorem dX3_withTerm_38 : decode cX3_withTerm 38 = .ok (.iload_n 1, 1) := dk_27 (dk_at dksX3_withTerm_1 16 rfl rfl)
theorem dX3_withTerm_39 : decode cX3_withTerm 39 = .ok (.iload_n 2, 1) := dk_28 (dk_at dksX3_withTerm_1 17 rfl rfl)
theorem dX3_withTerm_40 : decode cX3_withTerm 40 = .ok (.iastore, 1) := dk_79 (dk_at dksX3_withTerm_1 18 rfl rfl)
theorem dX3_withTerm_41 : decode cX3_withTerm 41 = .ok (.new 4, 3) := dk_187 0 4 (dk_at dksX3_withTerm_1 19 rfl rfl)
theorem dX3_withTerm_44 : decode cX3_withTerm 44 = .ok (.dup, 1) := dk_89 (dk_at dksX3_withTerm_1 22 rfl rfl)
theorem dX3_withTerm_45 : decode cX3_withTerm 45 = .ok (.aload_n 0, 1) := dk_42 (dk_at dksX3_withTerm_1 23 rfl rfl)
theorem dX3_withTerm_46 : decode cX3_withTerm 46 = .ok (.getfield 14, 3) := dk_180 0 14 (dk_at dksX3_withTerm_2 0 rfl rfl)
theorem dX3_withTerm_49 : decode cX3_withTerm 49 = .ok (.aload_n 0, 1) := dk_42 (dk_at dksX3_withTerm_2 3 rfl rfl)
theorem dX3_withTerm_50 : decode cX3_withTerm 50 = .ok (.getfield 18, 3) := dk_180 0 18 (dk_at dksX3_withTerm_2 4 rfl rfl)
theorem dX3_withTerm_53 : decode cX3_withTerm 53 = .ok (.aload_n 0, 1) := dk_42 (dk_at dksX3_withTerm_2 7 rfl rfl)
theorem dX3_withTerm_54 : decode cX3_withTerm 54 = .ok (.getfield 21, 3) := dk_180 0 21 (dk_at dksX3_withTerm_2 8 rfl rfl)
theorem dX3_withTerm_57 : decode cX3_withTerm 57 = .ok (.aload_n 3, 1) := dk_45 (dk_at dksX3_withTerm_2 11 rfl rfl)
theorem dX3_withTerm_58 : decode cX3_withTerm 58 = .ok (.invokespecial 3, 3) := dk_183 0 3 (dk_at dksX3_withTerm_2 12 rfl rfl)
theorem dX3_withTerm_61 : decode cX3_withTerm 61 = .ok (.areturn, 1) := dk_176 (dk_at dksX3_withTerm_2 15 rfl rfl)
theorem q59 : (Jvm.Cond.initialized "CallMigrator$Function") ∈ lw_all := lw_g (lw_at lw_m1 4 rfl) rfl
theorem q126 : (Jvm.Cond.instantiable "CallMigrator$Function" (4 : Nat)) ∈ lw_all := lw_g (lw_at lw_m1 71 rfl) rfl
theorem q128 : (Jvm.Cond.instanceMethod ({ cls := "CallMigrator$Function", name := "<init>", desc := "()V" } : Jvm.MethodName)) ∈ lw_all := lw_g (lw_at lw_m1 73 rfl) rfl
theorem q129 : (Jvm.Cond.code ({ cls := "CallMigrator$Function", name := "<init>", desc := "()V" } : Jvm.MethodName) prog_2_method_1_code (1 : Nat) (Option.none : Option Jvm.ClassFile.FieldType)) ∈ lw_all := lw_g (lw_at lw_m1 74 rfl) rfl
theorem q130 : (Jvm.Cond.methodLink "CallMigrator$Function" (3 : Nat) ({ cls := "CallMigrator$Function", name := "<init>", desc := "(III[I)V" } : Jvm.MethodName)) ∈ lw_all := lw_g (lw_at lw_m1 75 rfl) rfl
theorem q131 : (Jvm.Cond.instanceMethod ({ cls := "CallMigrator$Function", name := "<init>", desc := "(III[I)V" } : Jvm.MethodName)) ∈ lw_all := lw_g (lw_at lw_m1 76 rfl) rfl
theorem q132 : (Jvm.Cond.code ({ cls := "CallMigrator$Function", name := "<init>", desc := "(III[I)V" } : Jvm.MethodName) prog_2_method_2_code (5 : Nat) (Option.none : Option Jvm.ClassFile.FieldType)) ∈ lw_all := lw_g (lw_at lw_m1 77 rfl) rfl
theorem q133 : (Jvm.Cond.methodLink "CallMigrator$Function" (9 : Nat) ({ cls := "java/lang/Object", name := "<init>", desc := "()V" } : Jvm.MethodName)) ∈ lw_all := lw_g (lw_at lw_m1 78 rfl) rfl
theorem q134 : (Jvm.Cond.fieldLink "CallMigrator$Function" (14 : Nat) "CallMigrator$Function" "arity" "I") ∈ lw_all := lw_g (lw_at lw_m1 79 rfl) rfl
theorem q139 : (Jvm.Cond.fieldLink "CallMigrator$Function" (18 : Nat) "CallMigrator$Function" "effect" "I") ∈ lw_all := lw_g (lw_at lw_m1 84 rfl) rfl
theorem q142 : (Jvm.Cond.fieldLink "CallMigrator$Function" (21 : Nat) "CallMigrator$Function" "constant" "I") ∈ lw_all := lw_g (lw_at lw_m1 87 rfl) rfl
theorem q146 : (Jvm.Cond.fieldLink "CallMigrator$Function" (24 : Nat) "CallMigrator$Function" "coefficients" "[I") ∈ lw_all := lw_g (lw_at lw_m1 91 rfl) rfl
theorem q150 : (Jvm.Cond.laysFinal "CallMigrator$Function" "CallMigrator$Function" "arity" "I") ∈ lw_all := lw_g (lw_at lw_m1 95 rfl) rfl
theorem q151 : (Jvm.Cond.soleField "CallMigrator$Function" "arity") ∈ lw_all := lw_g (lw_at lw_m1 96 rfl) rfl
theorem q152 : (Jvm.Cond.laysFinal "CallMigrator$Function" "CallMigrator$Function" "effect" "I") ∈ lw_all := lw_g (lw_at lw_m1 97 rfl) rfl
theorem q153 : (Jvm.Cond.soleField "CallMigrator$Function" "effect") ∈ lw_all := lw_g (lw_at lw_m1 98 rfl) rfl
theorem q154 : (Jvm.Cond.laysFinal "CallMigrator$Function" "CallMigrator$Function" "constant" "I") ∈ lw_all := lw_g (lw_at lw_m1 99 rfl) rfl
theorem q155 : (Jvm.Cond.soleField "CallMigrator$Function" "constant") ∈ lw_all := lw_g (lw_at lw_m1 100 rfl) rfl
theorem q156 : (Jvm.Cond.laysFinal "CallMigrator$Function" "CallMigrator$Function" "coefficients" "[I") ∈ lw_all := lw_g (lw_at lw_m1 101 rfl) rfl
theorem q157 : (Jvm.Cond.soleField "CallMigrator$Function" "coefficients") ∈ lw_all := lw_g (lw_at lw_m1 102 rfl) rfl
theorem q158 : (Jvm.Cond.superclass "CallMigrator$Function" "java/lang/Object") ∈ lw_all := lw_g (lw_at lw_m1 103 rfl) rfl
theorem q288 : (Jvm.Cond.instanceMethod ({ cls := "CallMigrator$Function", name := "with", desc := "(II)LCallMigrator$Function;" } : Jvm.MethodName)) ∈ lw_all := lw_g (lw_at lw_m1 233 rfl) rfl
theorem q289 : (Jvm.Cond.selects "CallMigrator$Function" ({ cls := "CallMigrator$Function", name := "with", desc := "(II)LCallMigrator$Function;" } : Jvm.MethodName) ({ cls := "CallMigrator$Function", name := "with", desc := "(II)LCallMigrator$Function;" } : Jvm.MethodName)) ∈ lw_all := lw_g (lw_at lw_m1 234 rfl) rfl
theorem q290 : (Jvm.Cond.code ({ cls := "CallMigrator$Function", name := "with", desc := "(II)LCallMigrator$Function;" } : Jvm.MethodName) prog_2_method_3_code (3 : Nat) (Option.some (Jvm.ClassFile.FieldType.object "CallMigrator$Function"))) ∈ lw_all := lw_g (lw_at lw_m1 235 rfl) rfl
theorem q291 : (Jvm.Cond.classLink "CallMigrator$Function" (4 : Nat) "CallMigrator$Function") ∈ lw_all := lw_g (lw_at lw_m1 236 rfl) rfl
theorem q305 : (Jvm.Cond.instanceMethod ({ cls := "CallMigrator$Function", name := "term", desc := "(I)I" } : Jvm.MethodName)) ∈ lw_all := lw_g (lw_at lw_m2 10 rfl) rfl
theorem q306 : (Jvm.Cond.selects "CallMigrator$Function" ({ cls := "CallMigrator$Function", name := "term", desc := "(I)I" } : Jvm.MethodName) ({ cls := "CallMigrator$Function", name := "term", desc := "(I)I" } : Jvm.MethodName)) ∈ lw_all := lw_g (lw_at lw_m2 11 rfl) rfl
theorem q307 : (Jvm.Cond.code ({ cls := "CallMigrator$Function", name := "term", desc := "(I)I" } : Jvm.MethodName) prog_2_method_4_code (2 : Nat) (Option.some Jvm.ClassFile.FieldType.int)) ∈ lw_all := lw_g (lw_at lw_m2 12 rfl) rfl
theorem q309 : (Jvm.Cond.instanceMethod ({ cls := "CallMigrator$Function", name := "withTerm", desc := "(II)LCallMigrator$Function;" } : Jvm.MethodName)) ∈ lw_all := lw_g (lw_at lw_m2 14 rfl) rfl
theorem q310 : (Jvm.Cond.selects "CallMigrator$Function" ({ cls := "CallMigrator$Function", name := "withTerm", desc := "(II)LCallMigrator$Function;" } : Jvm.MethodName) ({ cls := "CallMigrator$Function", name := "withTerm", desc := "(II)LCallMigrator$Function;" } : Jvm.MethodName)) ∈ lw_all := lw_g (lw_at lw_m2 15 rfl) rfl
theorem q311 : (Jvm.Cond.code ({ cls := "CallMigrator$Function", name := "withTerm", desc := "(II)LCallMigrator$Function;" } : Jvm.MethodName) prog_2_method_5_code (4 : Nat) (Option.some (Jvm.ClassFile.FieldType.object "CallMigrator$Function"))) ∈ lw_all := lw_g (lw_at lw_m2 16 rfl) rfl
theorem q312 : (Jvm.Cond.methodLink "CallMigrator$Function" (28 : Nat) ({ cls := "[I", name := "clone", desc := "()Ljava/lang/Object;" } : Jvm.MethodName)) ∈ lw_all := lw_g (lw_at lw_m2 17 rfl) rfl
theorem q318 : (Jvm.Cond.classLink "CallMigrator$Function" (29 : Nat) "[I") ∈ lw_all := lw_g (lw_at lw_m2 23 rfl) rfl
theorem in_X3 : ∀ w ∈ wsX30, w ∈ lw_all := lw_in wsX30 [150, 152, 154, 156] (by decide +kernel) (by decide +kernel)

/-! CallMigrator$Parser -/
set_option maxRecDepth 100000
def RX4 : String := "CallMigrator$Parser"
def TX4 : u_T := fun k => match k with
  | 0 => ("CallMigrator$Parser", "at", "I", false)
  | 1 => ("CallMigrator$Parser", "nodes", "I", false)
  | _ => ("CallMigrator$Parser", "this$0", "LCallMigrator;", true)
def tyX4 : Nat → FieldType := fun k => match k with
  | 0 => .int
  | 1 => .int
  | _ => .object "CallMigrator"
abbrev wsX40 : List Cond := u_ws RX4 TX4 3
theorem nmX4 : ∀ a, a < 3 → ∀ b, b < 3 → a ≠ b → (TX4 a).2.1 ≠ (TX4 b).2.1 := by decide +kernel
theorem tyX4_ok : ∀ k, k < 3 → parseFieldDescriptor (TX4 k).2.2.1 = some (tyX4 k) := by decide +kernel
abbrev cX4_init : ByteArray := prog_6_method_1_code
def yX4_init : MethodName := ⟨RX4, "<init>", "(LCallMigrator;)V"⟩
def dkwX4_init_0 : List UInt8 := [42, 43, 181, 0, 3, 42, 183, 0, 9, 177]
abbrev dktX4_init_0 : List UInt8 := dkwX4_init_0 ++ []
theorem dksX4_init_0 : cX4_init.data.toList.drop 0 = dktX4_init_0 := by decide +kernel
theorem dX4_init_0 : decode cX4_init 0 = .ok (.aload_n 0, 1) := dk_42 (dk_at dksX4_init_0 0 rfl rfl)
theorem dX4_init_1 : decode cX4_init 1 = .ok (.aload_n 1, 1) := dk_43 (dk_at dksX4_init_0 1 rfl rfl)
theorem dX4_init_2 : decode cX4_init 2 = .ok (.putfield 3, 3) := dk_181 0 3 (dk_at dksX4_init_0 2 rfl rfl)
theorem dX4_init_5 : decode cX4_init 5 = .ok (.aload_n 0, 1) := dk_42 (dk_at dksX4_init_0 5 rfl rfl)
theorem dX4_init_6 : decode cX4_init 6 = .ok (.invokespecial 9, 3) := dk_183 0 9 (dk_at dksX4_init_0 6 rfl rfl)
theorem dX4_init_9 : decode cX4_init 9 = .ok (.return_, 1) := dk_177 (dk_at dksX4_init_0 9 rfl rfl)
abbrev cX4_parse : ByteArray := prog_6_method_8_code
def yX4_parse : MethodName := ⟨RX4, "parse", "()LCallMigrator$Node;"⟩
def dkwX4_parse_1 : List UInt8 := [180, 0, 19, 160, 0, 7, 4, 167, 0, 4, 3, 182, 0, 39, 43, 176]
abbrev dktX4_parse_1 : List UInt8 := dkwX4_parse_1 ++ []
def dkwX4_parse_0 : List UInt8 := [42, 3, 181, 0, 15, 42, 3, 181, 0, 56, 42, 182, 0, 52, 76, 42, 42, 180, 0, 15, 42, 180, 0, 3]
abbrev dktX4_parse_0 : List UInt8 := dkwX4_parse_0 ++ dktX4_parse_1
theorem dksX4_parse_0 : cX4_parse.data.toList.drop 0 = dktX4_parse_0 := by decide +kernel
theorem dksX4_parse_1 : cX4_parse.data.toList.drop 24 = dktX4_parse_1 := dk_seg dksX4_parse_0 24 rfl rfl
theorem dX4_parse_0 : decode cX4_parse 0 = .ok (.aload_n 0, 1) := dk_42 (dk_at dksX4_parse_0 0 rfl rfl)
theorem dX4_parse_1 : decode cX4_parse 1 = .ok (.iconst 0, 1) := dk_3 (dk_at dksX4_parse_0 1 rfl rfl)
theorem dX4_parse_2 : decode cX4_parse 2 = .ok (.putfield 15, 3) := dk_181 0 15 (dk_at dksX4_parse_0 2 rfl rfl)
theorem dX4_parse_5 : decode cX4_parse 5 = .ok (.aload_n 0, 1) := dk_42 (dk_at dksX4_parse_0 5 rfl rfl)
theorem dX4_parse_6 : decode cX4_parse 6 = .ok (.iconst 0, 1) := dk_3 (dk_at dksX4_parse_0 6 rfl rfl)
theorem dX4_parse_7 : decode cX4_parse 7 = .ok (.putfield 56, 3) := dk_181 0 56 (dk_at dksX4_parse_0 7 rfl rfl)
theorem dX4_parse_10 : decode cX4_parse 10 = .ok (.aload_n 0, 1) := dk_42 (dk_at dksX4_parse_0 10 rfl rfl)
theorem dX4_parse_11 : decode cX4_parse 11 = .ok (.invokevirtual 52, 3) := dk_182 0 52 (dk_at dksX4_parse_0 11 rfl rfl)
theorem dX4_parse_14 : decode cX4_parse 14 = .ok (.astore_n 1, 1) := dk_76 (dk_at dksX4_parse_0 14 rfl rfl)
theorem dX4_parse_15 : decode cX4_parse 15 = .ok (.aload_n 0, 1) := dk_42 (dk_at dksX4_parse_0 15 rfl rfl)
theorem dX4_parse_16 : decode cX4_parse 16 = .ok (.aload_n 0, 1) := dk_42 (dk_at dksX4_parse_0 16 rfl rfl)
theorem dX4_parse_17 : decode cX4_parse 17 = .ok (.getfield 15, 3) := dk_180 0 15 (dk_at dksX4_parse_0 17 rfl rfl)
theorem dX4_parse_20 : decode cX4_parse 20 = .ok (.aload_n 0, 1) := dk_42 (dk_at dksX4_parse_0 20 rfl rfl)
theorem dX4_parse_21 : decode cX4_parse 21 = .ok (.getfield 3, 3) := dk_180 0 3 (dk_at dksX4_parse_0 21 rfl rfl)
theorem dX4_parse_24 : decode cX4_parse 24 = .ok (.getfield 19, 3) := dk_180 0 19 (dk_at dksX4_parse_1 0 rfl rfl)
theorem dX4_parse_27 : decode cX4_parse 27 = .ok (.if_icmp .ne 7, 3) := dk_160 0 7 (dk_at dksX4_parse_1 3 rfl rfl)
theorem dX4_parse_30 : decode cX4_parse 30 = .ok (.iconst 1, 1) := dk_4 (dk_at dksX4_parse_1 6 rfl rfl)
theorem dX4_parse_31 : decode cX4_parse 31 = .ok (.goto 4, 3) := dk_167 0 4 (dk_at dksX4_parse_1 7 rfl rfl)
theorem dX4_parse_34 : decode cX4_parse 34 = .ok (.iconst 0, 1) := dk_3 (dk_at dksX4_parse_1 10 rfl rfl)
theorem dX4_parse_35 : decode cX4_parse 35 = .ok (.invokevirtual 39, 3) := dk_182 0 39 (dk_at dksX4_parse_1 11 rfl rfl)
theorem dX4_parse_38 : decode cX4_parse 38 = .ok (.aload_n 1, 1) := dk_43 (dk_at dksX4_parse_1 14 rfl rfl)
theorem dX4_parse_39 : decode cX4_parse 39 = .ok (.areturn, 1) := dk_176 (dk_at dksX4_parse_1 15 rfl rfl)
abbrev cX4_expression : ByteArray := prog_6_method_7_code
def yX4_expression : MethodName := ⟨RX4, "expression", "()LCallMigrator$Node;"⟩
def dkwX4_expression_10 : List UInt8 := [16, 112, 100, 50, 180, 0, 72, 182, 0, 77, 176]
abbrev dktX4_expression_10 : List UInt8 := dkwX4_expression_10 ++ []
def dkwX4_expression_9 : List UInt8 := [184, 0, 26, 182, 0, 39, 42, 7, 27, 16, 112, 100, 42, 180, 0, 3, 180, 0, 62, 180, 0, 87, 27]
abbrev dktX4_expression_9 : List UInt8 := dkwX4_expression_9 ++ dktX4_expression_10
def dkwX4_expression_8 : List UInt8 := [182, 0, 77, 176, 42, 27, 16, 112, 16, 112, 42, 180, 0, 3, 180, 0, 62, 180, 0, 84, 96, 4, 100]
abbrev dktX4_expression_8 : List UInt8 := dkwX4_expression_8 ++ dktX4_expression_9
def dkwX4_expression_7 : List UInt8 := [27, 16, 65, 100, 42, 180, 0, 3, 180, 0, 62, 180, 0, 81, 27, 16, 65, 100, 50, 180, 0, 72]
abbrev dktX4_expression_7 : List UInt8 := dkwX4_expression_7 ++ dktX4_expression_8
def dkwX4_expression_6 : List UInt8 := [16, 97, 100, 50, 180, 0, 72, 182, 0, 77, 176, 27, 16, 65, 16, 70, 184, 0, 26, 153, 0, 31, 42, 6]
abbrev dktX4_expression_6 : List UInt8 := dkwX4_expression_6 ++ dktX4_expression_7
def dkwX4_expression_5 : List UInt8 := [184, 0, 26, 153, 0, 31, 42, 5, 27, 16, 97, 100, 42, 180, 0, 3, 180, 0, 62, 180, 0, 66, 27]
abbrev dktX4_expression_5 : List UInt8 := dkwX4_expression_5 ++ dktX4_expression_6
def dkwX4_expression_4 : List UInt8 := [187, 0, 43, 89, 4, 27, 16, 120, 100, 3, 189, 0, 43, 183, 0, 45, 176, 27, 16, 97, 16, 102]
abbrev dktX4_expression_4 : List UInt8 := dkwX4_expression_4 ++ dktX4_expression_5
def dkwX4_expression_3 : List UInt8 := [27, 16, 120, 159, 0, 9, 27, 16, 121, 160, 0, 30, 42, 89, 180, 0, 15, 4, 96, 181, 0, 15]
abbrev dktX4_expression_3 : List UInt8 := dkwX4_expression_3 ++ dktX4_expression_4
def dkwX4_expression_2 : List UInt8 := [180, 0, 56, 4, 96, 181, 0, 56, 27, 16, 48, 16, 57, 184, 0, 26, 153, 0, 8, 42, 182, 0, 59, 176]
abbrev dktX4_expression_2 : List UInt8 := dkwX4_expression_2 ++ dktX4_expression_3
def dkwX4_expression_1 : List UInt8 := [4, 167, 0, 4, 3, 182, 0, 39, 42, 180, 0, 3, 180, 0, 22, 42, 180, 0, 15, 51, 60, 42, 89]
abbrev dktX4_expression_1 : List UInt8 := dkwX4_expression_1 ++ dktX4_expression_2
def dkwX4_expression_0 : List UInt8 := [42, 42, 180, 0, 15, 42, 180, 0, 3, 180, 0, 19, 162, 0, 16, 42, 180, 0, 56, 16, 30, 162, 0, 7]
abbrev dktX4_expression_0 : List UInt8 := dkwX4_expression_0 ++ dktX4_expression_1
theorem dksX4_expression_0 : cX4_expression.data.toList.drop 0 = dktX4_expression_0 := by decide +kernel
theorem dksX4_expression_1 : cX4_expression.data.toList.drop 24 = dktX4_expression_1 := dk_seg dksX4_expression_0 24 rfl rfl
theorem dksX4_expression_2 : cX4_expression.data.toList.drop 47 = dktX4_expression_2 := dk_seg dksX4_expression_1 23 rfl rfl
theorem dksX4_expression_3 : cX4_expression.data.toList.drop 71 = dktX4_expression_3 := dk_seg dksX4_expression_2 24 rfl rfl
theorem dksX4_expression_4 : cX4_expression.data.toList.drop 93 = dktX4_expression_4 := dk_seg dksX4_expression_3 22 rfl rfl
theorem dksX4_expression_5 : cX4_expression.data.toList.drop 115 = dktX4_expression_5 := dk_seg dksX4_expression_4 22 rfl rfl
theorem dksX4_expression_6 : cX4_expression.data.toList.drop 138 = dktX4_expression_6 := dk_seg dksX4_expression_5 23 rfl rfl
theorem dksX4_expression_7 : cX4_expression.data.toList.drop 162 = dktX4_expression_7 := dk_seg dksX4_expression_6 24 rfl rfl
theorem dksX4_expression_8 : cX4_expression.data.toList.drop 184 = dktX4_expression_8 := dk_seg dksX4_expression_7 22 rfl rfl
theorem dksX4_expression_9 : cX4_expression.data.toList.drop 207 = dktX4_expression_9 := dk_seg dksX4_expression_8 23 rfl rfl
theorem dksX4_expression_10 : cX4_expression.data.toList.drop 230 = dktX4_expression_10 := dk_seg dksX4_expression_9 23 rfl rfl
theorem dX4_expression_0 : decode cX4_expression 0 = .ok (.aload_n 0, 1) := dk_42 (dk_at dksX4_expression_0 0 rfl rfl)
theorem dX4_expression_1 : decode cX4_expression 1 = .ok (.aload_n 0, 1) := dk_42 (dk_at dksX4_expression_0 1 rfl rfl)
theorem dX4_expression_2 : decode cX4_expression 2 = .ok (.getfield 15, 3) := dk_180 0 15 (dk_at dksX4_expression_0 2 rfl rfl)
theorem dX4_expression_5 : decode cX4_expression 5 = .ok (.aload_n 0, 1) := dk_42 (dk_at dksX4_expression_0 5 rfl rfl)
theorem dX4_expression_6 : decode cX4_expression 6 = .ok (.getfield 3, 3) := dk_180 0 3 (dk_at dksX4_expression_0 6 rfl rfl)
theorem dX4_expression_9 : decode cX4_expression 9 = .ok (.getfield 19, 3) := dk_180 0 19 (dk_at dksX4_expression_0 9 rfl rfl)
theorem dX4_expression_12 : decode cX4_expression 12 = .ok (.if_icmp .ge 16, 3) := dk_162 0 16 (dk_at dksX4_expression_0 12 rfl rfl)
theorem dX4_expression_15 : decode cX4_expression 15 = .ok (.aload_n 0, 1) := dk_42 (dk_at dksX4_expression_0 15 rfl rfl)
theorem dX4_expression_16 : decode cX4_expression 16 = .ok (.getfield 56, 3) := dk_180 0 56 (dk_at dksX4_expression_0 16 rfl rfl)
theorem dX4_expression_19 : decode cX4_expression 19 = .ok (.bipush 30, 2) := dk_16 30 (dk_at dksX4_expression_0 19 rfl rfl)
theorem dX4_expression_21 : decode cX4_expression 21 = .ok (.if_icmp .ge 7, 3) := dk_162 0 7 (dk_at dksX4_expression_0 21 rfl rfl)
theorem dX4_expression_24 : decode cX4_expression 24 = .ok (.iconst 1, 1) := dk_4 (dk_at dksX4_expression_1 0 rfl rfl)
theorem dX4_expression_25 : decode cX4_expression 25 = .ok (.goto 4, 3) := dk_167 0 4 (dk_at dksX4_expression_1 1 rfl rfl)
theorem dX4_expression_28 : decode cX4_expression 28 = .ok (.iconst 0, 1) := dk_3 (dk_at dksX4_expression_1 4 rfl rfl)
theorem dX4_expression_29 : decode cX4_expression 29 = .ok (.invokevirtual 39, 3) := dk_182 0 39 (dk_at dksX4_expression_1 5 rfl rfl)
theorem dX4_expression_32 : decode cX4_expression 32 = .ok (.aload_n 0, 1) := dk_42 (dk_at dksX4_expression_1 8 rfl rfl)
theorem dX4_expression_33 : decode cX4_expression 33 = .ok (.getfield 3, 3) := dk_180 0 3 (dk_at dksX4_expression_1 9 rfl rfl)
theorem dX4_expression_36 : decode cX4_expression 36 = .ok (.getfield 22, 3) := dk_180 0 22 (dk_at dksX4_expression_1 12 rfl rfl)
theorem dX4_expression_39 : decode cX4_expression 39 = .ok (.aload_n 0, 1) := dk_42 (dk_at dksX4_expression_1 15 rfl rfl)
theorem dX4_expression_40 : decode cX4_expression 40 = .ok (.getfield 15, 3) := dk_180 0 15 (dk_at dksX4_expression_1 16 rfl rfl)
theorem dX4_expression_43 : decode cX4_expression 43 = .ok (.baload, 1) := dk_51 (dk_at dksX4_expression_1 19 rfl rfl)
theorem dX4_expression_44 : decode cX4_expression 44 = .ok (.istore_n 1, 1) := dk_60 (dk_at dksX4_expression_1 20 rfl rfl)
theorem dX4_expression_45 : decode cX4_expression 45 = .ok (.aload_n 0, 1) := dk_42 (dk_at dksX4_expression_1 21 rfl rfl)
theorem dX4_expression_46 : decode cX4_expression 46 = .ok (.dup, 1) := dk_89 (dk_at dksX4_expression_1 22 rfl rfl)
theorem dX4_expression_47 : decode cX4_expression 47 = .ok (.getfield 56, 3) := dk_180 0 56 (dk_at dksX4_expression_2 0 rfl rfl)
theorem dX4_expression_50 : decode cX4_expression 50 = .ok (.iconst 1, 1) := dk_4 (dk_at dksX4_expression_2 3 rfl rfl)
theorem dX4_expression_51 : decode cX4_expression 51 = .ok (.iadd, 1) := dk_96 (dk_at dksX4_expression_2 4 rfl rfl)
theorem dX4_expression_52 : decode cX4_expression 52 = .ok (.putfield 56, 3) := dk_181 0 56 (dk_at dksX4_expression_2 5 rfl rfl)
theorem dX4_expression_55 : decode cX4_expression 55 = .ok (.iload_n 1, 1) := dk_27 (dk_at dksX4_expression_2 8 rfl rfl)
theorem dX4_expression_56 : decode cX4_expression 56 = .ok (.bipush 48, 2) := dk_16 48 (dk_at dksX4_expression_2 9 rfl rfl)
theorem dX4_expression_58 : decode cX4_expression 58 = .ok (.bipush 57, 2) := dk_16 57 (dk_at dksX4_expression_2 11 rfl rfl)
theorem dX4_expression_60 : decode cX4_expression 60 = .ok (.invokestatic 26, 3) := dk_184 0 26 (dk_at dksX4_expression_2 13 rfl rfl)
theorem dX4_expression_63 : decode cX4_expression 63 = .ok (.ifCond .eq 8, 3) := dk_153 0 8 (dk_at dksX4_expression_2 16 rfl rfl)
theorem dX4_expression_66 : decode cX4_expression 66 = .ok (.aload_n 0, 1) := dk_42 (dk_at dksX4_expression_2 19 rfl rfl)
theorem dX4_expression_67 : decode cX4_expression 67 = .ok (.invokevirtual 59, 3) := dk_182 0 59 (dk_at dksX4_expression_2 20 rfl rfl)
theorem dX4_expression_70 : decode cX4_expression 70 = .ok (.areturn, 1) := dk_176 (dk_at dksX4_expression_2 23 rfl rfl)
theorem dX4_expression_71 : decode cX4_expression 71 = .ok (.iload_n 1, 1) := dk_27 (dk_at dksX4_expression_3 0 rfl rfl)
theorem dX4_expression_72 : decode cX4_expression 72 = .ok (.bipush 120, 2) := dk_16 120 (dk_at dksX4_expression_3 1 rfl rfl)
theorem dX4_expression_74 : decode cX4_expression 74 = .ok (.if_icmp .eq 9, 3) := dk_159 0 9 (dk_at dksX4_expression_3 3 rfl rfl)
theorem dX4_expression_77 : decode cX4_expression 77 = .ok (.iload_n 1, 1) := dk_27 (dk_at dksX4_expression_3 6 rfl rfl)
theorem dX4_expression_78 : decode cX4_expression 78 = .ok (.bipush 121, 2) := dk_16 121 (dk_at dksX4_expression_3 7 rfl rfl)
theorem dX4_expression_80 : decode cX4_expression 80 = .ok (.if_icmp .ne 30, 3) := dk_160 0 30 (dk_at dksX4_expression_3 9 rfl rfl)
theorem dX4_expression_83 : decode cX4_expression 83 = .ok (.aload_n 0, 1) := dk_42 (dk_at dksX4_expression_3 12 rfl rfl)
theorem dX4_expression_84 : decode cX4_expression 84 = .ok (.dup, 1) := dk_89 (dk_at dksX4_expression_3 13 rfl rfl)
theorem dX4_expression_85 : decode cX4_expression 85 = .ok (.getfield 15, 3) := dk_180 0 15 (dk_at dksX4_expression_3 14 rfl rfl)
theorem dX4_expression_88 : decode cX4_expression 88 = .ok (.iconst 1, 1) := dk_4 (dk_at dksX4_expression_3 17 rfl rfl)
theorem dX4_expression_89 : decode cX4_expression 89 = .ok (.iadd, 1) := dk_96 (dk_at dksX4_expression_3 18 rfl rfl)
theorem dX4_expression_90 : decode cX4_expression 90 = .ok (.putfield 15, 3) := dk_181 0 15 (dk_at dksX4_expression_3 19 rfl rfl)
theorem dX4_expression_93 : decode cX4_expression 93 = .ok (.new 43, 3) := dk_187 0 43 (dk_at dksX4_expression_4 0 rfl rfl)
theorem dX4_expression_96 : decode cX4_expression 96 = .ok (.dup, 1) := dk_89 (dk_at dksX4_expression_4 3 rfl rfl)
theorem dX4_expression_97 : decode cX4_expression 97 = .ok (.iconst 1, 1) := dk_4 (dk_at dksX4_expression_4 4 rfl rfl)
theorem dX4_expression_98 : decode cX4_expression 98 = .ok (.iload_n 1, 1) := dk_27 (dk_at dksX4_expression_4 5 rfl rfl)
theorem dX4_expression_99 : decode cX4_expression 99 = .ok (.bipush 120, 2) := dk_16 120 (dk_at dksX4_expression_4 6 rfl rfl)
theorem dX4_expression_101 : decode cX4_expression 101 = .ok (.isub, 1) := dk_100 (dk_at dksX4_expression_4 8 rfl rfl)
theorem dX4_expression_102 : decode cX4_expression 102 = .ok (.iconst 0, 1) := dk_3 (dk_at dksX4_expression_4 9 rfl rfl)
theorem dX4_expression_103 : decode cX4_expression 103 = .ok (.anewarray 43, 3) := dk_189 0 43 (dk_at dksX4_expression_4 10 rfl rfl)
theorem dX4_expression_106 : decode cX4_expression 106 = .ok (.invokespecial 45, 3) := dk_183 0 45 (dk_at dksX4_expression_4 13 rfl rfl)
theorem dX4_expression_109 : decode cX4_expression 109 = .ok (.areturn, 1) := dk_176 (dk_at dksX4_expression_4 16 rfl rfl)
theorem dX4_expression_110 : decode cX4_expression 110 = .ok (.iload_n 1, 1) := dk_27 (dk_at dksX4_expression_4 17 rfl rfl)
theorem dX4_expression_111 : decode cX4_expression 111 = .ok (.bipush 97, 2) := dk_16 97 (dk_at dksX4_expression_4 18 rfl rfl)
theorem dX4_expression_113 : decode cX4_expression 113 = .ok (.bipush 102, 2) := dk_16 102 (dk_at dksX4_expression_4 20 rfl rfl)
theorem dX4_expression_115 : decode cX4_expression 115 = .ok (.invokestatic 26, 3) := dk_184 0 26 (dk_at dksX4_expression_5 0 rfl rfl)
theorem dX4_expression_118 : decode cX4_expression 118 = .ok (.ifCond .eq 31, 3) := dk_153 0 31 (dk_at dksX4_expression_5 3 rfl rfl)
theorem dX4_expression_121 : decode cX4_expression 121 = .ok (.aload_n 0, 1) := dk_42 (dk_at dksX4_expression_5 6 rfl rfl)
theorem dX4_expression_122 : decode cX4_expression 122 = .ok (.iconst 2, 1) := dk_5 (dk_at dksX4_expression_5 7 rfl rfl)
theorem dX4_expression_123 : decode cX4_expression 123 = .ok (.iload_n 1, 1) := dk_27 (dk_at dksX4_expression_5 8 rfl rfl)
theorem dX4_expression_124 : decode cX4_expression 124 = .ok (.bipush 97, 2) := dk_16 97 (dk_at dksX4_expression_5 9 rfl rfl)
theorem dX4_expression_126 : decode cX4_expression 126 = .ok (.isub, 1) := dk_100 (dk_at dksX4_expression_5 11 rfl rfl)
theorem dX4_expression_127 : decode cX4_expression 127 = .ok (.aload_n 0, 1) := dk_42 (dk_at dksX4_expression_5 12 rfl rfl)
theorem dX4_expression_128 : decode cX4_expression 128 = .ok (.getfield 3, 3) := dk_180 0 3 (dk_at dksX4_expression_5 13 rfl rfl)
theorem dX4_expression_131 : decode cX4_expression 131 = .ok (.getfield 62, 3) := dk_180 0 62 (dk_at dksX4_expression_5 16 rfl rfl)
theorem dX4_expression_134 : decode cX4_expression 134 = .ok (.getfield 66, 3) := dk_180 0 66 (dk_at dksX4_expression_5 19 rfl rfl)
theorem dX4_expression_137 : decode cX4_expression 137 = .ok (.iload_n 1, 1) := dk_27 (dk_at dksX4_expression_5 22 rfl rfl)
theorem dX4_expression_138 : decode cX4_expression 138 = .ok (.bipush 97, 2) := dk_16 97 (dk_at dksX4_expression_6 0 rfl rfl)
theorem dX4_expression_140 : decode cX4_expression 140 = .ok (.isub, 1) := dk_100 (dk_at dksX4_expression_6 2 rfl rfl)
theorem dX4_expression_141 : decode cX4_expression 141 = .ok (.aaload, 1) := dk_50 (dk_at dksX4_expression_6 3 rfl rfl)
theorem dX4_expression_142 : decode cX4_expression 142 = .ok (.getfield 72, 3) := dk_180 0 72 (dk_at dksX4_expression_6 4 rfl rfl)
theorem dX4_expression_145 : decode cX4_expression 145 = .ok (.invokevirtual 77, 3) := dk_182 0 77 (dk_at dksX4_expression_6 7 rfl rfl)
theorem dX4_expression_148 : decode cX4_expression 148 = .ok (.areturn, 1) := dk_176 (dk_at dksX4_expression_6 10 rfl rfl)
theorem dX4_expression_149 : decode cX4_expression 149 = .ok (.iload_n 1, 1) := dk_27 (dk_at dksX4_expression_6 11 rfl rfl)
theorem dX4_expression_150 : decode cX4_expression 150 = .ok (.bipush 65, 2) := dk_16 65 (dk_at dksX4_expression_6 12 rfl rfl)
theorem dX4_expression_152 : decode cX4_expression 152 = .ok (.bipush 70, 2) := dk_16 70 (dk_at dksX4_expression_6 14 rfl rfl)
theorem dX4_expression_154 : decode cX4_expression 154 = .ok (.invokestatic 26, 3) := dk_184 0 26 (dk_at dksX4_expression_6 16 rfl rfl)
theorem dX4_expression_157 : decode cX4_expression 157 = .ok (.ifCond .eq 31, 3) := dk_153 0 31 (dk_at dksX4_expression_6 19 rfl rfl)
theorem dX4_expression_160 : decode cX4_expression 160 = .ok (.aload_n 0, 1) := dk_42 (dk_at dksX4_expression_6 22 rfl rfl)
theorem dX4_expression_161 : decode cX4_expression 161 = .ok (.iconst 3, 1) := dk_6 (dk_at dksX4_expression_6 23 rfl rfl)
theorem dX4_expression_162 : decode cX4_expression 162 = .ok (.iload_n 1, 1) := dk_27 (dk_at dksX4_expression_7 0 rfl rfl)
theorem dX4_expression_163 : decode cX4_expression 163 = .ok (.bipush 65, 2) := dk_16 65 (dk_at dksX4_expression_7 1 rfl rfl)
theorem dX4_expression_165 : decode cX4_expression 165 = .ok (.isub, 1) := dk_100 (dk_at dksX4_expression_7 3 rfl rfl)
theorem dX4_expression_166 : decode cX4_expression 166 = .ok (.aload_n 0, 1) := dk_42 (dk_at dksX4_expression_7 4 rfl rfl)
theorem dX4_expression_167 : decode cX4_expression 167 = .ok (.getfield 3, 3) := dk_180 0 3 (dk_at dksX4_expression_7 5 rfl rfl)
theorem dX4_expression_170 : decode cX4_expression 170 = .ok (.getfield 62, 3) := dk_180 0 62 (dk_at dksX4_expression_7 8 rfl rfl)
theorem dX4_expression_173 : decode cX4_expression 173 = .ok (.getfield 81, 3) := dk_180 0 81 (dk_at dksX4_expression_7 11 rfl rfl)
theorem dX4_expression_176 : decode cX4_expression 176 = .ok (.iload_n 1, 1) := dk_27 (dk_at dksX4_expression_7 14 rfl rfl)
theorem dX4_expression_177 : decode cX4_expression 177 = .ok (.bipush 65, 2) := dk_16 65 (dk_at dksX4_expression_7 15 rfl rfl)
theorem dX4_expression_179 : decode cX4_expression 179 = .ok (.isub, 1) := dk_100 (dk_at dksX4_expression_7 17 rfl rfl)
theorem dX4_expression_180 : decode cX4_expression 180 = .ok (.aaload, 1) := dk_50 (dk_at dksX4_expression_7 18 rfl rfl)
theorem dX4_expression_181 : decode cX4_expression 181 = .ok (.getfield 72, 3) := dk_180 0 72 (dk_at dksX4_expression_7 19 rfl rfl)
theorem dX4_expression_184 : decode cX4_expression 184 = .ok (.invokevirtual 77, 3) := dk_182 0 77 (dk_at dksX4_expression_8 0 rfl rfl)
theorem dX4_expression_187 : decode cX4_expression 187 = .ok (.areturn, 1) := dk_176 (dk_at dksX4_expression_8 3 rfl rfl)
theorem dX4_expression_188 : decode cX4_expression 188 = .ok (.aload_n 0, 1) := dk_42 (dk_at dksX4_expression_8 4 rfl rfl)
theorem dX4_expression_189 : decode cX4_expression 189 = .ok (.iload_n 1, 1) := dk_27 (dk_at dksX4_expression_8 5 rfl rfl)
theorem dX4_expression_190 : decode cX4_expression 190 = .ok (.bipush 112, 2) := dk_16 112 (dk_at dksX4_expression_8 6 rfl rfl)
theorem dX4_expression_192 : decode cX4_expression 192 = .ok (.bipush 112, 2) := dk_16 112 (dk_at dksX4_expression_8 8 rfl rfl)
theorem dX4_expression_194 : decode cX4_expression 194 = .ok (.aload_n 0, 1) := dk_42 (dk_at dksX4_expression_8 10 rfl rfl)
theorem dX4_expression_195 : decode cX4_expression 195 = .ok (.getfield 3, 3) := dk_180 0 3 (dk_at dksX4_expression_8 11 rfl rfl)
theorem dX4_expression_198 : decode cX4_expression 198 = .ok (.getfield 62, 3) := dk_180 0 62 (dk_at dksX4_expression_8 14 rfl rfl)
theorem dX4_expression_201 : decode cX4_expression 201 = .ok (.getfield 84, 3) := dk_180 0 84 (dk_at dksX4_expression_8 17 rfl rfl)
theorem dX4_expression_204 : decode cX4_expression 204 = .ok (.iadd, 1) := dk_96 (dk_at dksX4_expression_8 20 rfl rfl)
theorem dX4_expression_205 : decode cX4_expression 205 = .ok (.iconst 1, 1) := dk_4 (dk_at dksX4_expression_8 21 rfl rfl)
theorem dX4_expression_206 : decode cX4_expression 206 = .ok (.isub, 1) := dk_100 (dk_at dksX4_expression_8 22 rfl rfl)
theorem dX4_expression_207 : decode cX4_expression 207 = .ok (.invokestatic 26, 3) := dk_184 0 26 (dk_at dksX4_expression_9 0 rfl rfl)
theorem dX4_expression_210 : decode cX4_expression 210 = .ok (.invokevirtual 39, 3) := dk_182 0 39 (dk_at dksX4_expression_9 3 rfl rfl)
theorem dX4_expression_213 : decode cX4_expression 213 = .ok (.aload_n 0, 1) := dk_42 (dk_at dksX4_expression_9 6 rfl rfl)
theorem dX4_expression_214 : decode cX4_expression 214 = .ok (.iconst 4, 1) := dk_7 (dk_at dksX4_expression_9 7 rfl rfl)
theorem dX4_expression_215 : decode cX4_expression 215 = .ok (.iload_n 1, 1) := dk_27 (dk_at dksX4_expression_9 8 rfl rfl)
theorem dX4_expression_216 : decode cX4_expression 216 = .ok (.bipush 112, 2) := dk_16 112 (dk_at dksX4_expression_9 9 rfl rfl)
theorem dX4_expression_218 : decode cX4_expression 218 = .ok (.isub, 1) := dk_100 (dk_at dksX4_expression_9 11 rfl rfl)
theorem dX4_expression_219 : decode cX4_expression 219 = .ok (.aload_n 0, 1) := dk_42 (dk_at dksX4_expression_9 12 rfl rfl)
theorem dX4_expression_220 : decode cX4_expression 220 = .ok (.getfield 3, 3) := dk_180 0 3 (dk_at dksX4_expression_9 13 rfl rfl)
theorem dX4_expression_223 : decode cX4_expression 223 = .ok (.getfield 62, 3) := dk_180 0 62 (dk_at dksX4_expression_9 16 rfl rfl)
theorem dX4_expression_226 : decode cX4_expression 226 = .ok (.getfield 87, 3) := dk_180 0 87 (dk_at dksX4_expression_9 19 rfl rfl)
theorem dX4_expression_229 : decode cX4_expression 229 = .ok (.iload_n 1, 1) := dk_27 (dk_at dksX4_expression_9 22 rfl rfl)
theorem dX4_expression_230 : decode cX4_expression 230 = .ok (.bipush 112, 2) := dk_16 112 (dk_at dksX4_expression_10 0 rfl rfl)
theorem dX4_expression_232 : decode cX4_expression 232 = .ok (.isub, 1) := dk_100 (dk_at dksX4_expression_10 2 rfl rfl)
theorem dX4_expression_233 : decode cX4_expression 233 = .ok (.aaload, 1) := dk_50 (dk_at dksX4_expression_10 3 rfl rfl)
theorem dX4_expression_234 : decode cX4_expression 234 = .ok (.getfield 72, 3) := dk_180 0 72 (dk_at dksX4_expression_10 4 rfl rfl)
theorem dX4_expression_237 : decode cX4_expression 237 = .ok (.invokevirtual 77, 3) := dk_182 0 77 (dk_at dksX4_expression_10 7 rfl rfl)
theorem dX4_expression_240 : decode cX4_expression 240 = .ok (.areturn, 1) := dk_176 (dk_at dksX4_expression_10 10 rfl rfl)
abbrev cX4_require : ByteArray := prog_6_method_3_code
def yX4_require : MethodName := ⟨RX4, "require", "(Z)V"⟩
def dkwX4_require_0 : List UInt8 := [27, 154, 0, 15, 187, 0, 30, 89, 42, 180, 0, 15, 183, 0, 32, 191, 177]
abbrev dktX4_require_0 : List UInt8 := dkwX4_require_0 ++ []
theorem dksX4_require_0 : cX4_require.data.toList.drop 0 = dktX4_require_0 := by decide +kernel
theorem dX4_require_0 : decode cX4_require 0 = .ok (.iload_n 1, 1) := dk_27 (dk_at dksX4_require_0 0 rfl rfl)
theorem dX4_require_1 : decode cX4_require 1 = .ok (.ifCond .ne 15, 3) := dk_154 0 15 (dk_at dksX4_require_0 1 rfl rfl)
theorem dX4_require_4 : decode cX4_require 4 = .ok (.new 30, 3) := dk_187 0 30 (dk_at dksX4_require_0 4 rfl rfl)
theorem dX4_require_7 : decode cX4_require 7 = .ok (.dup, 1) := dk_89 (dk_at dksX4_require_0 7 rfl rfl)
theorem dX4_require_8 : decode cX4_require 8 = .ok (.aload_n 0, 1) := dk_42 (dk_at dksX4_require_0 8 rfl rfl)
theorem dX4_require_9 : decode cX4_require 9 = .ok (.getfield 15, 3) := dk_180 0 15 (dk_at dksX4_require_0 9 rfl rfl)
theorem dX4_require_12 : decode cX4_require 12 = .ok (.invokespecial 32, 3) := dk_183 0 32 (dk_at dksX4_require_0 12 rfl rfl)
theorem dX4_require_15 : decode cX4_require 15 = .ok (.athrow, 1) := dk_191 (dk_at dksX4_require_0 15 rfl rfl)
theorem dX4_require_16 : decode cX4_require 16 = .ok (.return_, 1) := dk_177 (dk_at dksX4_require_0 16 rfl rfl)
abbrev cX4_number : ByteArray := prog_6_method_5_code
def yX4_number : MethodName := ⟨RX4, "number", "()LCallMigrator$Node;"⟩
def dkwX4_number_3 : List UInt8 := [187, 0, 43, 89, 3, 28, 3, 189, 0, 43, 183, 0, 45, 176]
abbrev dktX4_number_3 : List UInt8 := dkwX4_number_3 ++ []
def dkwX4_number_2 : List UInt8 := [42, 180, 0, 15, 51, 96, 16, 48, 100, 61, 42, 89, 180, 0, 15, 4, 96, 181, 0, 15, 167, 255, 195]
abbrev dktX4_number_2 : List UInt8 := dkwX4_number_2 ++ dktX4_number_3
def dkwX4_number_1 : List UInt8 := [5, 96, 162, 0, 7, 4, 167, 0, 4, 3, 182, 0, 39, 16, 10, 28, 104, 42, 180, 0, 3, 180, 0, 22]
abbrev dktX4_number_1 : List UInt8 := dkwX4_number_1 ++ dktX4_number_2
def dkwX4_number_0 : List UInt8 := [42, 180, 0, 15, 60, 3, 61, 42, 16, 48, 16, 57, 182, 0, 35, 153, 0, 56, 42, 42, 180, 0, 15, 27]
abbrev dktX4_number_0 : List UInt8 := dkwX4_number_0 ++ dktX4_number_1
theorem dksX4_number_0 : cX4_number.data.toList.drop 0 = dktX4_number_0 := by decide +kernel
theorem dksX4_number_1 : cX4_number.data.toList.drop 24 = dktX4_number_1 := dk_seg dksX4_number_0 24 rfl rfl
theorem dksX4_number_2 : cX4_number.data.toList.drop 48 = dktX4_number_2 := dk_seg dksX4_number_1 24 rfl rfl
theorem dksX4_number_3 : cX4_number.data.toList.drop 71 = dktX4_number_3 := dk_seg dksX4_number_2 23 rfl rfl
theorem dX4_number_0 : decode cX4_number 0 = .ok (.aload_n 0, 1) := dk_42 (dk_at dksX4_number_0 0 rfl rfl)
theorem dX4_number_1 : decode cX4_number 1 = .ok (.getfield 15, 3) := dk_180 0 15 (dk_at dksX4_number_0 1 rfl rfl)
theorem dX4_number_4 : decode cX4_number 4 = .ok (.istore_n 1, 1) := dk_60 (dk_at dksX4_number_0 4 rfl rfl)
theorem dX4_number_5 : decode cX4_number 5 = .ok (.iconst 0, 1) := dk_3 (dk_at dksX4_number_0 5 rfl rfl)
theorem dX4_number_6 : decode cX4_number 6 = .ok (.istore_n 2, 1) := dk_61 (dk_at dksX4_number_0 6 rfl rfl)
theorem dX4_number_7 : decode cX4_number 7 = .ok (.aload_n 0, 1) := dk_42 (dk_at dksX4_number_0 7 rfl rfl)
theorem dX4_number_8 : decode cX4_number 8 = .ok (.bipush 48, 2) := dk_16 48 (dk_at dksX4_number_0 8 rfl rfl)
theorem dX4_number_10 : decode cX4_number 10 = .ok (.bipush 57, 2) := dk_16 57 (dk_at dksX4_number_0 10 rfl rfl)
theorem dX4_number_12 : decode cX4_number 12 = .ok (.invokevirtual 35, 3) := dk_182 0 35 (dk_at dksX4_number_0 12 rfl rfl)
theorem dX4_number_15 : decode cX4_number 15 = .ok (.ifCond .eq 56, 3) := dk_153 0 56 (dk_at dksX4_number_0 15 rfl rfl)
theorem dX4_number_18 : decode cX4_number 18 = .ok (.aload_n 0, 1) := dk_42 (dk_at dksX4_number_0 18 rfl rfl)
theorem dX4_number_19 : decode cX4_number 19 = .ok (.aload_n 0, 1) := dk_42 (dk_at dksX4_number_0 19 rfl rfl)
theorem dX4_number_20 : decode cX4_number 20 = .ok (.getfield 15, 3) := dk_180 0 15 (dk_at dksX4_number_0 20 rfl rfl)
theorem dX4_number_23 : decode cX4_number 23 = .ok (.iload_n 1, 1) := dk_27 (dk_at dksX4_number_0 23 rfl rfl)
theorem dX4_number_24 : decode cX4_number 24 = .ok (.iconst 2, 1) := dk_5 (dk_at dksX4_number_1 0 rfl rfl)
theorem dX4_number_25 : decode cX4_number 25 = .ok (.iadd, 1) := dk_96 (dk_at dksX4_number_1 1 rfl rfl)
theorem dX4_number_26 : decode cX4_number 26 = .ok (.if_icmp .ge 7, 3) := dk_162 0 7 (dk_at dksX4_number_1 2 rfl rfl)
theorem dX4_number_29 : decode cX4_number 29 = .ok (.iconst 1, 1) := dk_4 (dk_at dksX4_number_1 5 rfl rfl)
theorem dX4_number_30 : decode cX4_number 30 = .ok (.goto 4, 3) := dk_167 0 4 (dk_at dksX4_number_1 6 rfl rfl)
theorem dX4_number_33 : decode cX4_number 33 = .ok (.iconst 0, 1) := dk_3 (dk_at dksX4_number_1 9 rfl rfl)
theorem dX4_number_34 : decode cX4_number 34 = .ok (.invokevirtual 39, 3) := dk_182 0 39 (dk_at dksX4_number_1 10 rfl rfl)
theorem dX4_number_37 : decode cX4_number 37 = .ok (.bipush 10, 2) := dk_16 10 (dk_at dksX4_number_1 13 rfl rfl)
theorem dX4_number_39 : decode cX4_number 39 = .ok (.iload_n 2, 1) := dk_28 (dk_at dksX4_number_1 15 rfl rfl)
theorem dX4_number_40 : decode cX4_number 40 = .ok (.imul, 1) := dk_104 (dk_at dksX4_number_1 16 rfl rfl)
theorem dX4_number_41 : decode cX4_number 41 = .ok (.aload_n 0, 1) := dk_42 (dk_at dksX4_number_1 17 rfl rfl)
theorem dX4_number_42 : decode cX4_number 42 = .ok (.getfield 3, 3) := dk_180 0 3 (dk_at dksX4_number_1 18 rfl rfl)
theorem dX4_number_45 : decode cX4_number 45 = .ok (.getfield 22, 3) := dk_180 0 22 (dk_at dksX4_number_1 21 rfl rfl)
theorem dX4_number_48 : decode cX4_number 48 = .ok (.aload_n 0, 1) := dk_42 (dk_at dksX4_number_2 0 rfl rfl)
theorem dX4_number_49 : decode cX4_number 49 = .ok (.getfield 15, 3) := dk_180 0 15 (dk_at dksX4_number_2 1 rfl rfl)
theorem dX4_number_52 : decode cX4_number 52 = .ok (.baload, 1) := dk_51 (dk_at dksX4_number_2 4 rfl rfl)
theorem dX4_number_53 : decode cX4_number 53 = .ok (.iadd, 1) := dk_96 (dk_at dksX4_number_2 5 rfl rfl)
theorem dX4_number_54 : decode cX4_number 54 = .ok (.bipush 48, 2) := dk_16 48 (dk_at dksX4_number_2 6 rfl rfl)
theorem dX4_number_56 : decode cX4_number 56 = .ok (.isub, 1) := dk_100 (dk_at dksX4_number_2 8 rfl rfl)
theorem dX4_number_57 : decode cX4_number 57 = .ok (.istore_n 2, 1) := dk_61 (dk_at dksX4_number_2 9 rfl rfl)
theorem dX4_number_58 : decode cX4_number 58 = .ok (.aload_n 0, 1) := dk_42 (dk_at dksX4_number_2 10 rfl rfl)
theorem dX4_number_59 : decode cX4_number 59 = .ok (.dup, 1) := dk_89 (dk_at dksX4_number_2 11 rfl rfl)
theorem dX4_number_60 : decode cX4_number 60 = .ok (.getfield 15, 3) := dk_180 0 15 (dk_at dksX4_number_2 12 rfl rfl)
theorem dX4_number_63 : decode cX4_number 63 = .ok (.iconst 1, 1) := dk_4 (dk_at dksX4_number_2 15 rfl rfl)
theorem dX4_number_64 : decode cX4_number 64 = .ok (.iadd, 1) := dk_96 (dk_at dksX4_number_2 16 rfl rfl)
theorem dX4_number_65 : decode cX4_number 65 = .ok (.putfield 15, 3) := dk_181 0 15 (dk_at dksX4_number_2 17 rfl rfl)
theorem dX4_number_68 : decode cX4_number 68 = .ok (.goto (-61), 3) := dk_167 255 195 (dk_at dksX4_number_2 20 rfl rfl)
theorem dX4_number_71 : decode cX4_number 71 = .ok (.new 43, 3) := dk_187 0 43 (dk_at dksX4_number_3 0 rfl rfl)
theorem dX4_number_74 : decode cX4_number 74 = .ok (.dup, 1) := dk_89 (dk_at dksX4_number_3 3 rfl rfl)
theorem dX4_number_75 : decode cX4_number 75 = .ok (.iconst 0, 1) := dk_3 (dk_at dksX4_number_3 4 rfl rfl)
theorem dX4_number_76 : decode cX4_number 76 = .ok (.iload_n 2, 1) := dk_28 (dk_at dksX4_number_3 5 rfl rfl)
theorem dX4_number_77 : decode cX4_number 77 = .ok (.iconst 0, 1) := dk_3 (dk_at dksX4_number_3 6 rfl rfl)
theorem dX4_number_78 : decode cX4_number 78 = .ok (.anewarray 43, 3) := dk_189 0 43 (dk_at dksX4_number_3 7 rfl rfl)
theorem dX4_number_81 : decode cX4_number 81 = .ok (.invokespecial 45, 3) := dk_183 0 45 (dk_at dksX4_number_3 10 rfl rfl)
theorem dX4_number_84 : decode cX4_number 84 = .ok (.areturn, 1) := dk_176 (dk_at dksX4_number_3 13 rfl rfl)
abbrev cX4_isAt : ByteArray := prog_6_method_2_code
def yX4_isAt : MethodName := ⟨RX4, "isAt", "(II)Z"⟩
def dkwX4_isAt_1 : List UInt8 := [180, 0, 15, 51, 27, 28, 184, 0, 26, 153, 0, 7, 4, 167, 0, 4, 3, 172]
abbrev dktX4_isAt_1 : List UInt8 := dkwX4_isAt_1 ++ []
def dkwX4_isAt_0 : List UInt8 := [42, 180, 0, 15, 42, 180, 0, 3, 180, 0, 19, 162, 0, 27, 42, 180, 0, 3, 180, 0, 22, 42]
abbrev dktX4_isAt_0 : List UInt8 := dkwX4_isAt_0 ++ dktX4_isAt_1
theorem dksX4_isAt_0 : cX4_isAt.data.toList.drop 0 = dktX4_isAt_0 := by decide +kernel
theorem dksX4_isAt_1 : cX4_isAt.data.toList.drop 22 = dktX4_isAt_1 := dk_seg dksX4_isAt_0 22 rfl rfl
theorem dX4_isAt_0 : decode cX4_isAt 0 = .ok (.aload_n 0, 1) := dk_42 (dk_at dksX4_isAt_0 0 rfl rfl)
theorem dX4_isAt_1 : decode cX4_isAt 1 = .ok (.getfield 15, 3) := dk_180 0 15 (dk_at dksX4_isAt_0 1 rfl rfl)
theorem dX4_isAt_4 : decode cX4_isAt 4 = .ok (.aload_n 0, 1) := dk_42 (dk_at dksX4_isAt_0 4 rfl rfl)
theorem dX4_isAt_5 : decode cX4_isAt 5 = .ok (.getfield 3, 3) := dk_180 0 3 (dk_at dksX4_isAt_0 5 rfl rfl)
theorem dX4_isAt_8 : decode cX4_isAt 8 = .ok (.getfield 19, 3) := dk_180 0 19 (dk_at dksX4_isAt_0 8 rfl rfl)
theorem dX4_isAt_11 : decode cX4_isAt 11 = .ok (.if_icmp .ge 27, 3) := dk_162 0 27 (dk_at dksX4_isAt_0 11 rfl rfl)
theorem dX4_isAt_14 : decode cX4_isAt 14 = .ok (.aload_n 0, 1) := dk_42 (dk_at dksX4_isAt_0 14 rfl rfl)
theorem dX4_isAt_15 : decode cX4_isAt 15 = .ok (.getfield 3, 3) := dk_180 0 3 (dk_at dksX4_isAt_0 15 rfl rfl)
theorem dX4_isAt_18 : decode cX4_isAt 18 = .ok (.getfield 22, 3) := dk_180 0 22 (dk_at dksX4_isAt_0 18 rfl rfl)
theorem dX4_isAt_21 : decode cX4_isAt 21 = .ok (.aload_n 0, 1) := dk_42 (dk_at dksX4_isAt_0 21 rfl rfl)
theorem dX4_isAt_22 : decode cX4_isAt 22 = .ok (.getfield 15, 3) := dk_180 0 15 (dk_at dksX4_isAt_1 0 rfl rfl)
theorem dX4_isAt_25 : decode cX4_isAt 25 = .ok (.baload, 1) := dk_51 (dk_at dksX4_isAt_1 3 rfl rfl)
theorem dX4_isAt_26 : decode cX4_isAt 26 = .ok (.iload_n 1, 1) := dk_27 (dk_at dksX4_isAt_1 4 rfl rfl)
theorem dX4_isAt_27 : decode cX4_isAt 27 = .ok (.iload_n 2, 1) := dk_28 (dk_at dksX4_isAt_1 5 rfl rfl)
theorem dX4_isAt_28 : decode cX4_isAt 28 = .ok (.invokestatic 26, 3) := dk_184 0 26 (dk_at dksX4_isAt_1 6 rfl rfl)
theorem dX4_isAt_31 : decode cX4_isAt 31 = .ok (.ifCond .eq 7, 3) := dk_153 0 7 (dk_at dksX4_isAt_1 9 rfl rfl)
theorem dX4_isAt_34 : decode cX4_isAt 34 = .ok (.iconst 1, 1) := dk_4 (dk_at dksX4_isAt_1 12 rfl rfl)
theorem dX4_isAt_35 : decode cX4_isAt 35 = .ok (.goto 4, 3) := dk_167 0 4 (dk_at dksX4_isAt_1 13 rfl rfl)
theorem dX4_isAt_38 : decode cX4_isAt 38 = .ok (.iconst 0, 1) := dk_3 (dk_at dksX4_isAt_1 16 rfl rfl)
theorem dX4_isAt_39 : decode cX4_isAt 39 = .ok (.ireturn, 1) := dk_172 (dk_at dksX4_isAt_1 17 rfl rfl)
abbrev cX4_call : ByteArray := prog_6_method_6_code
def yX4_call : MethodName := ⟨RX4, "call", "(III)LCallMigrator$Node;"⟩
def dkwX4_call_3 : List UInt8 := [183, 0, 45, 176]
abbrev dktX4_call_3 : List UInt8 := dkwX4_call_3 ++ []
def dkwX4_call_2 : List UInt8 := [182, 0, 52, 83, 132, 5, 1, 167, 255, 227, 42, 16, 41, 182, 0, 48, 187, 0, 43, 89, 27, 28, 25, 4]
abbrev dktX4_call_2 : List UInt8 := dkwX4_call_2 ++ dktX4_call_3
def dkwX4_call_1 : List UInt8 := [54, 5, 21, 5, 29, 162, 0, 29, 21, 5, 158, 0, 9, 42, 16, 44, 182, 0, 48, 25, 4, 21, 5, 42]
abbrev dktX4_call_1 : List UInt8 := dkwX4_call_1 ++ dktX4_call_2
def dkwX4_call_0 : List UInt8 := [42, 89, 180, 0, 15, 4, 96, 181, 0, 15, 42, 16, 40, 182, 0, 48, 29, 189, 0, 43, 58, 4, 3]
abbrev dktX4_call_0 : List UInt8 := dkwX4_call_0 ++ dktX4_call_1
theorem dksX4_call_0 : cX4_call.data.toList.drop 0 = dktX4_call_0 := by decide +kernel
theorem dksX4_call_1 : cX4_call.data.toList.drop 23 = dktX4_call_1 := dk_seg dksX4_call_0 23 rfl rfl
theorem dksX4_call_2 : cX4_call.data.toList.drop 47 = dktX4_call_2 := dk_seg dksX4_call_1 24 rfl rfl
theorem dksX4_call_3 : cX4_call.data.toList.drop 71 = dktX4_call_3 := dk_seg dksX4_call_2 24 rfl rfl
theorem dX4_call_0 : decode cX4_call 0 = .ok (.aload_n 0, 1) := dk_42 (dk_at dksX4_call_0 0 rfl rfl)
theorem dX4_call_1 : decode cX4_call 1 = .ok (.dup, 1) := dk_89 (dk_at dksX4_call_0 1 rfl rfl)
theorem dX4_call_2 : decode cX4_call 2 = .ok (.getfield 15, 3) := dk_180 0 15 (dk_at dksX4_call_0 2 rfl rfl)
theorem dX4_call_5 : decode cX4_call 5 = .ok (.iconst 1, 1) := dk_4 (dk_at dksX4_call_0 5 rfl rfl)
theorem dX4_call_6 : decode cX4_call 6 = .ok (.iadd, 1) := dk_96 (dk_at dksX4_call_0 6 rfl rfl)
theorem dX4_call_7 : decode cX4_call 7 = .ok (.putfield 15, 3) := dk_181 0 15 (dk_at dksX4_call_0 7 rfl rfl)
theorem dX4_call_10 : decode cX4_call 10 = .ok (.aload_n 0, 1) := dk_42 (dk_at dksX4_call_0 10 rfl rfl)
theorem dX4_call_11 : decode cX4_call 11 = .ok (.bipush 40, 2) := dk_16 40 (dk_at dksX4_call_0 11 rfl rfl)
theorem dX4_call_13 : decode cX4_call 13 = .ok (.invokevirtual 48, 3) := dk_182 0 48 (dk_at dksX4_call_0 13 rfl rfl)
theorem dX4_call_16 : decode cX4_call 16 = .ok (.iload_n 3, 1) := dk_29 (dk_at dksX4_call_0 16 rfl rfl)
theorem dX4_call_17 : decode cX4_call 17 = .ok (.anewarray 43, 3) := dk_189 0 43 (dk_at dksX4_call_0 17 rfl rfl)
theorem dX4_call_20 : decode cX4_call 20 = .ok (.astore 4, 2) := dk_58 4 (dk_at dksX4_call_0 20 rfl rfl)
theorem dX4_call_22 : decode cX4_call 22 = .ok (.iconst 0, 1) := dk_3 (dk_at dksX4_call_0 22 rfl rfl)
theorem dX4_call_23 : decode cX4_call 23 = .ok (.istore 5, 2) := dk_54 5 (dk_at dksX4_call_1 0 rfl rfl)
theorem dX4_call_25 : decode cX4_call 25 = .ok (.iload 5, 2) := dk_21 5 (dk_at dksX4_call_1 2 rfl rfl)
theorem dX4_call_27 : decode cX4_call 27 = .ok (.iload_n 3, 1) := dk_29 (dk_at dksX4_call_1 4 rfl rfl)
theorem dX4_call_28 : decode cX4_call 28 = .ok (.if_icmp .ge 29, 3) := dk_162 0 29 (dk_at dksX4_call_1 5 rfl rfl)
theorem dX4_call_31 : decode cX4_call 31 = .ok (.iload 5, 2) := dk_21 5 (dk_at dksX4_call_1 8 rfl rfl)
theorem dX4_call_33 : decode cX4_call 33 = .ok (.ifCond .le 9, 3) := dk_158 0 9 (dk_at dksX4_call_1 10 rfl rfl)
theorem dX4_call_36 : decode cX4_call 36 = .ok (.aload_n 0, 1) := dk_42 (dk_at dksX4_call_1 13 rfl rfl)
theorem dX4_call_37 : decode cX4_call 37 = .ok (.bipush 44, 2) := dk_16 44 (dk_at dksX4_call_1 14 rfl rfl)
theorem dX4_call_39 : decode cX4_call 39 = .ok (.invokevirtual 48, 3) := dk_182 0 48 (dk_at dksX4_call_1 16 rfl rfl)
theorem dX4_call_42 : decode cX4_call 42 = .ok (.aload 4, 2) := dk_25 4 (dk_at dksX4_call_1 19 rfl rfl)
theorem dX4_call_44 : decode cX4_call 44 = .ok (.iload 5, 2) := dk_21 5 (dk_at dksX4_call_1 21 rfl rfl)
theorem dX4_call_46 : decode cX4_call 46 = .ok (.aload_n 0, 1) := dk_42 (dk_at dksX4_call_1 23 rfl rfl)
theorem dX4_call_47 : decode cX4_call 47 = .ok (.invokevirtual 52, 3) := dk_182 0 52 (dk_at dksX4_call_2 0 rfl rfl)
theorem dX4_call_50 : decode cX4_call 50 = .ok (.aastore, 1) := dk_83 (dk_at dksX4_call_2 3 rfl rfl)
theorem dX4_call_51 : decode cX4_call 51 = .ok (.iinc 5 1, 3) := dk_132 5 1 (dk_at dksX4_call_2 4 rfl rfl)
theorem dX4_call_54 : decode cX4_call 54 = .ok (.goto (-29), 3) := dk_167 255 227 (dk_at dksX4_call_2 7 rfl rfl)
theorem dX4_call_57 : decode cX4_call 57 = .ok (.aload_n 0, 1) := dk_42 (dk_at dksX4_call_2 10 rfl rfl)
theorem dX4_call_58 : decode cX4_call 58 = .ok (.bipush 41, 2) := dk_16 41 (dk_at dksX4_call_2 11 rfl rfl)
theorem dX4_call_60 : decode cX4_call 60 = .ok (.invokevirtual 48, 3) := dk_182 0 48 (dk_at dksX4_call_2 13 rfl rfl)
theorem dX4_call_63 : decode cX4_call 63 = .ok (.new 43, 3) := dk_187 0 43 (dk_at dksX4_call_2 16 rfl rfl)
theorem dX4_call_66 : decode cX4_call 66 = .ok (.dup, 1) := dk_89 (dk_at dksX4_call_2 19 rfl rfl)
theorem dX4_call_67 : decode cX4_call 67 = .ok (.iload_n 1, 1) := dk_27 (dk_at dksX4_call_2 20 rfl rfl)
theorem dX4_call_68 : decode cX4_call 68 = .ok (.iload_n 2, 1) := dk_28 (dk_at dksX4_call_2 21 rfl rfl)
theorem dX4_call_69 : decode cX4_call 69 = .ok (.aload 4, 2) := dk_25 4 (dk_at dksX4_call_2 22 rfl rfl)
theorem dX4_call_71 : decode cX4_call 71 = .ok (.invokespecial 45, 3) := dk_183 0 45 (dk_at dksX4_call_3 0 rfl rfl)
theorem dX4_call_74 : decode cX4_call 74 = .ok (.areturn, 1) := dk_176 (dk_at dksX4_call_3 3 rfl rfl)
abbrev cX4_pass : ByteArray := prog_6_method_4_code
def yX4_pass : MethodName := ⟨RX4, "pass", "(C)V"⟩
def dkwX4_pass_0 : List UInt8 := [42, 42, 27, 27, 182, 0, 35, 182, 0, 39, 42, 89, 180, 0, 15, 4, 96, 181, 0, 15, 177]
abbrev dktX4_pass_0 : List UInt8 := dkwX4_pass_0 ++ []
theorem dksX4_pass_0 : cX4_pass.data.toList.drop 0 = dktX4_pass_0 := by decide +kernel
theorem dX4_pass_0 : decode cX4_pass 0 = .ok (.aload_n 0, 1) := dk_42 (dk_at dksX4_pass_0 0 rfl rfl)
theorem dX4_pass_1 : decode cX4_pass 1 = .ok (.aload_n 0, 1) := dk_42 (dk_at dksX4_pass_0 1 rfl rfl)
theorem dX4_pass_2 : decode cX4_pass 2 = .ok (.iload_n 1, 1) := dk_27 (dk_at dksX4_pass_0 2 rfl rfl)
theorem dX4_pass_3 : decode cX4_pass 3 = .ok (.iload_n 1, 1) := dk_27 (dk_at dksX4_pass_0 3 rfl rfl)
theorem dX4_pass_4 : decode cX4_pass 4 = .ok (.invokevirtual 35, 3) := dk_182 0 35 (dk_at dksX4_pass_0 4 rfl rfl)
theorem dX4_pass_7 : decode cX4_pass 7 = .ok (.invokevirtual 39, 3) := dk_182 0 39 (dk_at dksX4_pass_0 7 rfl rfl)
theorem dX4_pass_10 : decode cX4_pass 10 = .ok (.aload_n 0, 1) := dk_42 (dk_at dksX4_pass_0 10 rfl rfl)
theorem dX4_pass_11 : decode cX4_pass 11 = .ok (.dup, 1) := dk_89 (dk_at dksX4_pass_0 11 rfl rfl)
theorem dX4_pass_12 : decode cX4_pass 12 = .ok (.getfield 15, 3) := dk_180 0 15 (dk_at dksX4_pass_0 12 rfl rfl)
theorem dX4_pass_15 : decode cX4_pass 15 = .ok (.iconst 1, 1) := dk_4 (dk_at dksX4_pass_0 15 rfl rfl)
theorem dX4_pass_16 : decode cX4_pass 16 = .ok (.iadd, 1) := dk_96 (dk_at dksX4_pass_0 16 rfl rfl)
theorem dX4_pass_17 : decode cX4_pass 17 = .ok (.putfield 15, 3) := dk_181 0 15 (dk_at dksX4_pass_0 17 rfl rfl)
theorem dX4_pass_20 : decode cX4_pass 20 = .ok (.return_, 1) := dk_177 (dk_at dksX4_pass_0 20 rfl rfl)
theorem q61 : (Jvm.Cond.initialized "CallMigrator$Parser") ∈ lw_all := lw_g (lw_at lw_m1 6 rfl) rfl
theorem q138 : (Jvm.Cond.fieldLinkNest "CallMigrator$Parser" (72 : Nat) "CallMigrator$Function" "arity" "I" "CallMigrator") ∈ lw_tbl := lw_at lw_m1 83 rfl
theorem q167 : (Jvm.Cond.fieldLinkNest "CallMigrator$Parser" (66 : Nat) "CallMigrator$State" "olds" "[LCallMigrator$Function;" "CallMigrator") ∈ lw_tbl := lw_at lw_m1 112 rfl
theorem q171 : (Jvm.Cond.fieldLinkNest "CallMigrator$Parser" (81 : Nat) "CallMigrator$State" "news" "[LCallMigrator$Function;" "CallMigrator") ∈ lw_tbl := lw_at lw_m1 116 rfl
theorem q175 : (Jvm.Cond.fieldLinkNest "CallMigrator$Parser" (87 : Nat) "CallMigrator$State" "adapters" "[LCallMigrator$Function;" "CallMigrator") ∈ lw_tbl := lw_at lw_m1 120 rfl
theorem q178 : (Jvm.Cond.fieldLinkNest "CallMigrator$Parser" (84 : Nat) "CallMigrator$State" "adapterCount" "I" "CallMigrator") ∈ lw_tbl := lw_at lw_m1 123 rfl
theorem q215 : (Jvm.Cond.instantiable "CallMigrator$Parser" (3 : Nat)) ∈ lw_all := lw_g (lw_at lw_m1 160 rfl) rfl
theorem q217 : (Jvm.Cond.instanceMethod ({ cls := "CallMigrator$Parser", name := "<init>", desc := "(LCallMigrator;)V" } : Jvm.MethodName)) ∈ lw_all := lw_g (lw_at lw_m1 162 rfl) rfl
theorem q218 : (Jvm.Cond.code ({ cls := "CallMigrator$Parser", name := "<init>", desc := "(LCallMigrator;)V" } : Jvm.MethodName) prog_6_method_1_code (2 : Nat) (Option.none : Option Jvm.ClassFile.FieldType)) ∈ lw_all := lw_g (lw_at lw_m1 163 rfl) rfl
theorem q219 : (Jvm.Cond.methodLink "CallMigrator$Parser" (9 : Nat) ({ cls := "java/lang/Object", name := "<init>", desc := "()V" } : Jvm.MethodName)) ∈ lw_all := lw_g (lw_at lw_m1 164 rfl) rfl
theorem q220 : (Jvm.Cond.fieldLink "CallMigrator$Parser" (15 : Nat) "CallMigrator$Parser" "at" "I") ∈ lw_all := lw_g (lw_at lw_m1 165 rfl) rfl
theorem q221 : (Jvm.Cond.fieldLink "CallMigrator$Parser" (56 : Nat) "CallMigrator$Parser" "nodes" "I") ∈ lw_all := lw_g (lw_at lw_m1 166 rfl) rfl
theorem q222 : (Jvm.Cond.fieldLink "CallMigrator$Parser" (3 : Nat) "CallMigrator$Parser" "this$0" "LCallMigrator;") ∈ lw_all := lw_g (lw_at lw_m1 167 rfl) rfl
theorem q223 : (Jvm.Cond.lays "CallMigrator$Parser" "CallMigrator$Parser" "at" "I") ∈ lw_all := lw_g (lw_at lw_m1 168 rfl) rfl
theorem q224 : (Jvm.Cond.soleField "CallMigrator$Parser" "at") ∈ lw_all := lw_g (lw_at lw_m1 169 rfl) rfl
theorem q225 : (Jvm.Cond.lays "CallMigrator$Parser" "CallMigrator$Parser" "nodes" "I") ∈ lw_all := lw_g (lw_at lw_m1 170 rfl) rfl
theorem q226 : (Jvm.Cond.soleField "CallMigrator$Parser" "nodes") ∈ lw_all := lw_g (lw_at lw_m1 171 rfl) rfl
theorem q227 : (Jvm.Cond.laysFinal "CallMigrator$Parser" "CallMigrator$Parser" "this$0" "LCallMigrator;") ∈ lw_all := lw_g (lw_at lw_m1 172 rfl) rfl
theorem q228 : (Jvm.Cond.soleField "CallMigrator$Parser" "this$0") ∈ lw_all := lw_g (lw_at lw_m1 173 rfl) rfl
theorem q229 : (Jvm.Cond.superclass "CallMigrator$Parser" "java/lang/Object") ∈ lw_all := lw_g (lw_at lw_m1 174 rfl) rfl
theorem q233 : (Jvm.Cond.fieldLinkNest "CallMigrator$Parser" (62 : Nat) "CallMigrator" "state" "LCallMigrator$State;" "CallMigrator") ∈ lw_tbl := lw_at lw_m1 178 rfl
theorem q236 : (Jvm.Cond.fieldLinkNest "CallMigrator$Parser" (22 : Nat) "CallMigrator" "text" "[B" "CallMigrator") ∈ lw_tbl := lw_at lw_m1 181 rfl
theorem q238 : (Jvm.Cond.fieldLinkNest "CallMigrator$Parser" (19 : Nat) "CallMigrator" "textLength" "I" "CallMigrator") ∈ lw_tbl := lw_at lw_m1 183 rfl
theorem q425 : (Jvm.Cond.instanceMethod ({ cls := "CallMigrator$Parser", name := "parse", desc := "()LCallMigrator$Node;" } : Jvm.MethodName)) ∈ lw_all := lw_g (lw_at lw_m2 130 rfl) rfl
theorem q426 : (Jvm.Cond.selects "CallMigrator$Parser" ({ cls := "CallMigrator$Parser", name := "parse", desc := "()LCallMigrator$Node;" } : Jvm.MethodName) ({ cls := "CallMigrator$Parser", name := "parse", desc := "()LCallMigrator$Node;" } : Jvm.MethodName)) ∈ lw_all := lw_g (lw_at lw_m2 131 rfl) rfl
theorem q427 : (Jvm.Cond.code ({ cls := "CallMigrator$Parser", name := "parse", desc := "()LCallMigrator$Node;" } : Jvm.MethodName) prog_6_method_8_code (2 : Nat) (Option.some (Jvm.ClassFile.FieldType.object "CallMigrator$Node"))) ∈ lw_all := lw_g (lw_at lw_m2 132 rfl) rfl
theorem q428 : (Jvm.Cond.methodLink "CallMigrator$Parser" (52 : Nat) ({ cls := "CallMigrator$Parser", name := "expression", desc := "()LCallMigrator$Node;" } : Jvm.MethodName)) ∈ lw_all := lw_g (lw_at lw_m2 133 rfl) rfl
theorem q429 : (Jvm.Cond.privateMethod ({ cls := "CallMigrator$Parser", name := "expression", desc := "()LCallMigrator$Node;" } : Jvm.MethodName)) ∈ lw_tbl := lw_at lw_m2 134 rfl
theorem q430 : (Jvm.Cond.instanceMethod ({ cls := "CallMigrator$Parser", name := "expression", desc := "()LCallMigrator$Node;" } : Jvm.MethodName)) ∈ lw_all := lw_g (lw_at lw_m2 135 rfl) rfl
theorem q431 : (Jvm.Cond.code ({ cls := "CallMigrator$Parser", name := "expression", desc := "()LCallMigrator$Node;" } : Jvm.MethodName) prog_6_method_7_code (2 : Nat) (Option.some (Jvm.ClassFile.FieldType.object "CallMigrator$Node"))) ∈ lw_all := lw_g (lw_at lw_m2 136 rfl) rfl
theorem q432 : (Jvm.Cond.methodLink "CallMigrator$Parser" (39 : Nat) ({ cls := "CallMigrator$Parser", name := "require", desc := "(Z)V" } : Jvm.MethodName)) ∈ lw_all := lw_g (lw_at lw_m2 137 rfl) rfl
theorem q433 : (Jvm.Cond.privateMethod ({ cls := "CallMigrator$Parser", name := "require", desc := "(Z)V" } : Jvm.MethodName)) ∈ lw_tbl := lw_at lw_m2 138 rfl
theorem q434 : (Jvm.Cond.instanceMethod ({ cls := "CallMigrator$Parser", name := "require", desc := "(Z)V" } : Jvm.MethodName)) ∈ lw_all := lw_g (lw_at lw_m2 139 rfl) rfl
theorem q435 : (Jvm.Cond.code ({ cls := "CallMigrator$Parser", name := "require", desc := "(Z)V" } : Jvm.MethodName) prog_6_method_3_code (2 : Nat) (Option.none : Option Jvm.ClassFile.FieldType)) ∈ lw_all := lw_g (lw_at lw_m2 140 rfl) rfl
theorem q436 : (Jvm.Cond.classLink "CallMigrator$Parser" (30 : Nat) "CallMigrator$SyntaxError") ∈ lw_all := lw_g (lw_at lw_m2 141 rfl) rfl
theorem q473 : (Jvm.Cond.methodLink "CallMigrator$Parser" (32 : Nat) ({ cls := "CallMigrator$SyntaxError", name := "<init>", desc := "(I)V" } : Jvm.MethodName)) ∈ lw_all := lw_g (lw_at lw_m2 178 rfl) rfl
theorem q499 : (Jvm.Cond.methodLinkNest "CallMigrator$Parser" (26 : Nat) ({ cls := "CallMigrator", name := "inRange", desc := "(III)Z" } : Jvm.MethodName) "CallMigrator") ∈ lw_tbl := lw_at lw_m2 204 rfl
theorem q500 : (Jvm.Cond.methodLink "CallMigrator$Parser" (59 : Nat) ({ cls := "CallMigrator$Parser", name := "number", desc := "()LCallMigrator$Node;" } : Jvm.MethodName)) ∈ lw_all := lw_g (lw_at lw_m2 205 rfl) rfl
theorem q501 : (Jvm.Cond.privateMethod ({ cls := "CallMigrator$Parser", name := "number", desc := "()LCallMigrator$Node;" } : Jvm.MethodName)) ∈ lw_tbl := lw_at lw_m2 206 rfl
theorem q502 : (Jvm.Cond.instanceMethod ({ cls := "CallMigrator$Parser", name := "number", desc := "()LCallMigrator$Node;" } : Jvm.MethodName)) ∈ lw_all := lw_g (lw_at lw_m2 207 rfl) rfl
theorem q503 : (Jvm.Cond.code ({ cls := "CallMigrator$Parser", name := "number", desc := "()LCallMigrator$Node;" } : Jvm.MethodName) prog_6_method_5_code (3 : Nat) (Option.some (Jvm.ClassFile.FieldType.object "CallMigrator$Node"))) ∈ lw_all := lw_g (lw_at lw_m2 208 rfl) rfl
theorem q504 : (Jvm.Cond.methodLink "CallMigrator$Parser" (35 : Nat) ({ cls := "CallMigrator$Parser", name := "isAt", desc := "(II)Z" } : Jvm.MethodName)) ∈ lw_all := lw_g (lw_at lw_m2 209 rfl) rfl
theorem q505 : (Jvm.Cond.privateMethod ({ cls := "CallMigrator$Parser", name := "isAt", desc := "(II)Z" } : Jvm.MethodName)) ∈ lw_tbl := lw_at lw_m2 210 rfl
theorem q506 : (Jvm.Cond.instanceMethod ({ cls := "CallMigrator$Parser", name := "isAt", desc := "(II)Z" } : Jvm.MethodName)) ∈ lw_all := lw_g (lw_at lw_m2 211 rfl) rfl
theorem q507 : (Jvm.Cond.code ({ cls := "CallMigrator$Parser", name := "isAt", desc := "(II)Z" } : Jvm.MethodName) prog_6_method_2_code (3 : Nat) (Option.some Jvm.ClassFile.FieldType.boolean)) ∈ lw_all := lw_g (lw_at lw_m2 212 rfl) rfl
theorem q508 : (Jvm.Cond.classLink "CallMigrator$Parser" (43 : Nat) "CallMigrator$Node") ∈ lw_all := lw_g (lw_at lw_m2 213 rfl) rfl
theorem q509 : (Jvm.Cond.methodLink "CallMigrator$Parser" (45 : Nat) ({ cls := "CallMigrator$Node", name := "<init>", desc := "(II[LCallMigrator$Node;)V" } : Jvm.MethodName)) ∈ lw_all := lw_g (lw_at lw_m2 214 rfl) rfl
theorem q510 : (Jvm.Cond.methodLink "CallMigrator$Parser" (77 : Nat) ({ cls := "CallMigrator$Parser", name := "call", desc := "(III)LCallMigrator$Node;" } : Jvm.MethodName)) ∈ lw_all := lw_g (lw_at lw_m2 215 rfl) rfl
theorem q511 : (Jvm.Cond.privateMethod ({ cls := "CallMigrator$Parser", name := "call", desc := "(III)LCallMigrator$Node;" } : Jvm.MethodName)) ∈ lw_tbl := lw_at lw_m2 216 rfl
theorem q512 : (Jvm.Cond.instanceMethod ({ cls := "CallMigrator$Parser", name := "call", desc := "(III)LCallMigrator$Node;" } : Jvm.MethodName)) ∈ lw_all := lw_g (lw_at lw_m2 217 rfl) rfl
theorem q513 : (Jvm.Cond.code ({ cls := "CallMigrator$Parser", name := "call", desc := "(III)LCallMigrator$Node;" } : Jvm.MethodName) prog_6_method_6_code (6 : Nat) (Option.some (Jvm.ClassFile.FieldType.object "CallMigrator$Node"))) ∈ lw_all := lw_g (lw_at lw_m2 218 rfl) rfl
theorem q514 : (Jvm.Cond.methodLink "CallMigrator$Parser" (48 : Nat) ({ cls := "CallMigrator$Parser", name := "pass", desc := "(C)V" } : Jvm.MethodName)) ∈ lw_all := lw_g (lw_at lw_m2 219 rfl) rfl
theorem q515 : (Jvm.Cond.privateMethod ({ cls := "CallMigrator$Parser", name := "pass", desc := "(C)V" } : Jvm.MethodName)) ∈ lw_tbl := lw_at lw_m2 220 rfl
theorem q516 : (Jvm.Cond.instanceMethod ({ cls := "CallMigrator$Parser", name := "pass", desc := "(C)V" } : Jvm.MethodName)) ∈ lw_all := lw_g (lw_at lw_m2 221 rfl) rfl
theorem q517 : (Jvm.Cond.code ({ cls := "CallMigrator$Parser", name := "pass", desc := "(C)V" } : Jvm.MethodName) prog_6_method_4_code (2 : Nat) (Option.none : Option Jvm.ClassFile.FieldType)) ∈ lw_all := lw_g (lw_at lw_m2 222 rfl) rfl
theorem in_X4 : ∀ w ∈ wsX40, w ∈ lw_all := lw_in wsX40 [223, 225, 227] (by decide +kernel) (by decide +kernel)

/-! CallMigrator$Mapping -/
set_option maxRecDepth 100000
def RX6 : String := "CallMigrator$Mapping"
def TX6 : u_T := fun k => match k with
  | 0 => ("CallMigrator$Mapping", "target", "I", true)
  | _ => ("CallMigrator$Mapping", "template", "[I", true)
def tyX6 : Nat → FieldType := fun k => match k with
  | 0 => .int
  | _ => .array .int
abbrev wsX60 : List Cond := u_ws RX6 TX6 2
theorem nmX6 : ∀ a, a < 2 → ∀ b, b < 2 → a ≠ b → (TX6 a).2.1 ≠ (TX6 b).2.1 := by decide +kernel
theorem tyX6_ok : ∀ k, k < 2 → parseFieldDescriptor (TX6 k).2.2.1 = some (tyX6 k) := by decide +kernel
abbrev cX6_init : ByteArray := prog_3_method_1_code
def yX6_init : MethodName := ⟨RX6, "<init>", "(I)V"⟩
def dkwX6_init_1 : List UInt8 := [183, 0, 3, 177]
abbrev dktX6_init_1 : List UInt8 := dkwX6_init_1 ++ []
def dkwX6_init_0 : List UInt8 := [42, 27, 7, 188, 10, 89, 3, 2, 79, 89, 4, 16, 254, 79, 89, 5, 16, 253, 79, 89, 6, 3, 79]
abbrev dktX6_init_0 : List UInt8 := dkwX6_init_0 ++ dktX6_init_1
theorem dksX6_init_0 : cX6_init.data.toList.drop 0 = dktX6_init_0 := by decide +kernel
theorem dksX6_init_1 : cX6_init.data.toList.drop 23 = dktX6_init_1 := dk_seg dksX6_init_0 23 rfl rfl
theorem dX6_init_0 : decode cX6_init 0 = .ok (.aload_n 0, 1) := dk_42 (dk_at dksX6_init_0 0 rfl rfl)
theorem dX6_init_1 : decode cX6_init 1 = .ok (.iload_n 1, 1) := dk_27 (dk_at dksX6_init_0 1 rfl rfl)
theorem dX6_init_2 : decode cX6_init 2 = .ok (.iconst 4, 1) := dk_7 (dk_at dksX6_init_0 2 rfl rfl)
theorem dX6_init_3 : decode cX6_init 3 = .ok (.newarray .int, 2) := dk_188_10 (dk_at dksX6_init_0 3 rfl rfl)
theorem dX6_init_5 : decode cX6_init 5 = .ok (.dup, 1) := dk_89 (dk_at dksX6_init_0 5 rfl rfl)
theorem dX6_init_6 : decode cX6_init 6 = .ok (.iconst 0, 1) := dk_3 (dk_at dksX6_init_0 6 rfl rfl)
theorem dX6_init_7 : decode cX6_init 7 = .ok (.iconst (-1), 1) := dk_2 (dk_at dksX6_init_0 7 rfl rfl)
theorem dX6_init_8 : decode cX6_init 8 = .ok (.iastore, 1) := dk_79 (dk_at dksX6_init_0 8 rfl rfl)
theorem dX6_init_9 : decode cX6_init 9 = .ok (.dup, 1) := dk_89 (dk_at dksX6_init_0 9 rfl rfl)
theorem dX6_init_10 : decode cX6_init 10 = .ok (.iconst 1, 1) := dk_4 (dk_at dksX6_init_0 10 rfl rfl)
theorem dX6_init_11 : decode cX6_init 11 = .ok (.bipush (-2), 2) := dk_16 254 (dk_at dksX6_init_0 11 rfl rfl)
theorem dX6_init_13 : decode cX6_init 13 = .ok (.iastore, 1) := dk_79 (dk_at dksX6_init_0 13 rfl rfl)
theorem dX6_init_14 : decode cX6_init 14 = .ok (.dup, 1) := dk_89 (dk_at dksX6_init_0 14 rfl rfl)
theorem dX6_init_15 : decode cX6_init 15 = .ok (.iconst 2, 1) := dk_5 (dk_at dksX6_init_0 15 rfl rfl)
theorem dX6_init_16 : decode cX6_init 16 = .ok (.bipush (-3), 2) := dk_16 253 (dk_at dksX6_init_0 16 rfl rfl)
theorem dX6_init_18 : decode cX6_init 18 = .ok (.iastore, 1) := dk_79 (dk_at dksX6_init_0 18 rfl rfl)
theorem dX6_init_19 : decode cX6_init 19 = .ok (.dup, 1) := dk_89 (dk_at dksX6_init_0 19 rfl rfl)
theorem dX6_init_20 : decode cX6_init 20 = .ok (.iconst 3, 1) := dk_6 (dk_at dksX6_init_0 20 rfl rfl)
theorem dX6_init_21 : decode cX6_init 21 = .ok (.iconst 0, 1) := dk_3 (dk_at dksX6_init_0 21 rfl rfl)
theorem dX6_init_22 : decode cX6_init 22 = .ok (.iastore, 1) := dk_79 (dk_at dksX6_init_0 22 rfl rfl)
theorem dX6_init_23 : decode cX6_init 23 = .ok (.invokespecial 3, 3) := dk_183 0 3 (dk_at dksX6_init_1 0 rfl rfl)
theorem dX6_init_26 : decode cX6_init 26 = .ok (.return_, 1) := dk_177 (dk_at dksX6_init_1 3 rfl rfl)
abbrev cX6_init_2 : ByteArray := prog_3_method_2_code
def yX6_init_2 : MethodName := ⟨RX6, "<init>", "(I[I)V"⟩
def dkwX6_init_2_0 : List UInt8 := [42, 183, 0, 9, 42, 27, 181, 0, 14, 42, 44, 181, 0, 18, 177]
abbrev dktX6_init_2_0 : List UInt8 := dkwX6_init_2_0 ++ []
theorem dksX6_init_2_0 : cX6_init_2.data.toList.drop 0 = dktX6_init_2_0 := by decide +kernel
theorem dX6_init_2_0 : decode cX6_init_2 0 = .ok (.aload_n 0, 1) := dk_42 (dk_at dksX6_init_2_0 0 rfl rfl)
theorem dX6_init_2_1 : decode cX6_init_2 1 = .ok (.invokespecial 9, 3) := dk_183 0 9 (dk_at dksX6_init_2_0 1 rfl rfl)
theorem dX6_init_2_4 : decode cX6_init_2 4 = .ok (.aload_n 0, 1) := dk_42 (dk_at dksX6_init_2_0 4 rfl rfl)
theorem dX6_init_2_5 : decode cX6_init_2 5 = .ok (.iload_n 1, 1) := dk_27 (dk_at dksX6_init_2_0 5 rfl rfl)
theorem dX6_init_2_6 : decode cX6_init_2 6 = .ok (.putfield 14, 3) := dk_181 0 14 (dk_at dksX6_init_2_0 6 rfl rfl)
theorem dX6_init_2_9 : decode cX6_init_2 9 = .ok (.aload_n 0, 1) := dk_42 (dk_at dksX6_init_2_0 9 rfl rfl)
theorem dX6_init_2_10 : decode cX6_init_2 10 = .ok (.aload_n 2, 1) := dk_44 (dk_at dksX6_init_2_0 10 rfl rfl)
theorem dX6_init_2_11 : decode cX6_init_2 11 = .ok (.putfield 18, 3) := dk_181 0 18 (dk_at dksX6_init_2_0 11 rfl rfl)
theorem dX6_init_2_14 : decode cX6_init_2 14 = .ok (.return_, 1) := dk_177 (dk_at dksX6_init_2_0 14 rfl rfl)
abbrev cX6_isFaithful : ByteArray := prog_3_method_7_code
def yX6_isFaithful : MethodName := ⟨RX6, "isFaithful", "(LCallMigrator$Function;LCallMigrator$Function;)Z"⟩
def dkwX6_isFaithful_3 : List UInt8 := [29, 172]
abbrev dktX6_isFaithful_3 : List UInt8 := dkwX6_isFaithful_3 ++ []
def dkwX6_isFaithful_2 : List UInt8 := [46, 42, 44, 21, 4, 182, 0, 46, 160, 0, 7, 4, 167, 0, 4, 3, 126, 62, 132, 4, 1, 167, 255, 219]
abbrev dktX6_isFaithful_2 : List UInt8 := dkwX6_isFaithful_2 ++ dktX6_isFaithful_3
def dkwX6_isFaithful_1 : List UInt8 := [167, 0, 4, 3, 62, 3, 54, 4, 21, 4, 43, 180, 0, 27, 162, 0, 34, 29, 43, 180, 0, 35, 21, 4]
abbrev dktX6_isFaithful_1 : List UInt8 := dkwX6_isFaithful_1 ++ dktX6_isFaithful_2
def dkwX6_isFaithful_0 : List UInt8 := [42, 43, 44, 182, 0, 38, 153, 0, 19, 43, 180, 0, 32, 42, 44, 182, 0, 42, 160, 0, 7, 4]
abbrev dktX6_isFaithful_0 : List UInt8 := dkwX6_isFaithful_0 ++ dktX6_isFaithful_1
theorem dksX6_isFaithful_0 : cX6_isFaithful.data.toList.drop 0 = dktX6_isFaithful_0 := by decide +kernel
theorem dksX6_isFaithful_1 : cX6_isFaithful.data.toList.drop 22 = dktX6_isFaithful_1 := dk_seg dksX6_isFaithful_0 22 rfl rfl
theorem dksX6_isFaithful_2 : cX6_isFaithful.data.toList.drop 46 = dktX6_isFaithful_2 := dk_seg dksX6_isFaithful_1 24 rfl rfl
theorem dksX6_isFaithful_3 : cX6_isFaithful.data.toList.drop 70 = dktX6_isFaithful_3 := dk_seg dksX6_isFaithful_2 24 rfl rfl
theorem dX6_isFaithful_0 : decode cX6_isFaithful 0 = .ok (.aload_n 0, 1) := dk_42 (dk_at dksX6_isFaithful_0 0 rfl rfl)
theorem dX6_isFaithful_1 : decode cX6_isFaithful 1 = .ok (.aload_n 1, 1) := dk_43 (dk_at dksX6_isFaithful_0 1 rfl rfl)
theorem dX6_isFaithful_2 : decode cX6_isFaithful 2 = .ok (.aload_n 2, 1) := dk_44 (dk_at dksX6_isFaithful_0 2 rfl rfl)
theorem dX6_isFaithful_3 : decode cX6_isFaithful 3 = .ok (.invokevirtual 38, 3) := dk_182 0 38 (dk_at dksX6_isFaithful_0 3 rfl rfl)
theorem dX6_isFaithful_6 : decode cX6_isFaithful 6 = .ok (.ifCond .eq 19, 3) := dk_153 0 19 (dk_at dksX6_isFaithful_0 6 rfl rfl)
theorem dX6_isFaithful_9 : decode cX6_isFaithful 9 = .ok (.aload_n 1, 1) := dk_43 (dk_at dksX6_isFaithful_0 9 rfl rfl)
theorem dX6_isFaithful_10 : decode cX6_isFaithful 10 = .ok (.getfield 32, 3) := dk_180 0 32 (dk_at dksX6_isFaithful_0 10 rfl rfl)
theorem dX6_isFaithful_13 : decode cX6_isFaithful 13 = .ok (.aload_n 0, 1) := dk_42 (dk_at dksX6_isFaithful_0 13 rfl rfl)
theorem dX6_isFaithful_14 : decode cX6_isFaithful 14 = .ok (.aload_n 2, 1) := dk_44 (dk_at dksX6_isFaithful_0 14 rfl rfl)
theorem dX6_isFaithful_15 : decode cX6_isFaithful 15 = .ok (.invokevirtual 42, 3) := dk_182 0 42 (dk_at dksX6_isFaithful_0 15 rfl rfl)
theorem dX6_isFaithful_18 : decode cX6_isFaithful 18 = .ok (.if_icmp .ne 7, 3) := dk_160 0 7 (dk_at dksX6_isFaithful_0 18 rfl rfl)
theorem dX6_isFaithful_21 : decode cX6_isFaithful 21 = .ok (.iconst 1, 1) := dk_4 (dk_at dksX6_isFaithful_0 21 rfl rfl)
theorem dX6_isFaithful_22 : decode cX6_isFaithful 22 = .ok (.goto 4, 3) := dk_167 0 4 (dk_at dksX6_isFaithful_1 0 rfl rfl)
theorem dX6_isFaithful_25 : decode cX6_isFaithful 25 = .ok (.iconst 0, 1) := dk_3 (dk_at dksX6_isFaithful_1 3 rfl rfl)
theorem dX6_isFaithful_26 : decode cX6_isFaithful 26 = .ok (.istore_n 3, 1) := dk_62 (dk_at dksX6_isFaithful_1 4 rfl rfl)
theorem dX6_isFaithful_27 : decode cX6_isFaithful 27 = .ok (.iconst 0, 1) := dk_3 (dk_at dksX6_isFaithful_1 5 rfl rfl)
theorem dX6_isFaithful_28 : decode cX6_isFaithful 28 = .ok (.istore 4, 2) := dk_54 4 (dk_at dksX6_isFaithful_1 6 rfl rfl)
theorem dX6_isFaithful_30 : decode cX6_isFaithful 30 = .ok (.iload 4, 2) := dk_21 4 (dk_at dksX6_isFaithful_1 8 rfl rfl)
theorem dX6_isFaithful_32 : decode cX6_isFaithful 32 = .ok (.aload_n 1, 1) := dk_43 (dk_at dksX6_isFaithful_1 10 rfl rfl)
theorem dX6_isFaithful_33 : decode cX6_isFaithful 33 = .ok (.getfield 27, 3) := dk_180 0 27 (dk_at dksX6_isFaithful_1 11 rfl rfl)
theorem dX6_isFaithful_36 : decode cX6_isFaithful 36 = .ok (.if_icmp .ge 34, 3) := dk_162 0 34 (dk_at dksX6_isFaithful_1 14 rfl rfl)
theorem dX6_isFaithful_39 : decode cX6_isFaithful 39 = .ok (.iload_n 3, 1) := dk_29 (dk_at dksX6_isFaithful_1 17 rfl rfl)
theorem dX6_isFaithful_40 : decode cX6_isFaithful 40 = .ok (.aload_n 1, 1) := dk_43 (dk_at dksX6_isFaithful_1 18 rfl rfl)
theorem dX6_isFaithful_41 : decode cX6_isFaithful 41 = .ok (.getfield 35, 3) := dk_180 0 35 (dk_at dksX6_isFaithful_1 19 rfl rfl)
theorem dX6_isFaithful_44 : decode cX6_isFaithful 44 = .ok (.iload 4, 2) := dk_21 4 (dk_at dksX6_isFaithful_1 22 rfl rfl)
theorem dX6_isFaithful_46 : decode cX6_isFaithful 46 = .ok (.iaload, 1) := dk_46 (dk_at dksX6_isFaithful_2 0 rfl rfl)
theorem dX6_isFaithful_47 : decode cX6_isFaithful 47 = .ok (.aload_n 0, 1) := dk_42 (dk_at dksX6_isFaithful_2 1 rfl rfl)
theorem dX6_isFaithful_48 : decode cX6_isFaithful 48 = .ok (.aload_n 2, 1) := dk_44 (dk_at dksX6_isFaithful_2 2 rfl rfl)
theorem dX6_isFaithful_49 : decode cX6_isFaithful 49 = .ok (.iload 4, 2) := dk_21 4 (dk_at dksX6_isFaithful_2 3 rfl rfl)
theorem dX6_isFaithful_51 : decode cX6_isFaithful 51 = .ok (.invokevirtual 46, 3) := dk_182 0 46 (dk_at dksX6_isFaithful_2 5 rfl rfl)
theorem dX6_isFaithful_54 : decode cX6_isFaithful 54 = .ok (.if_icmp .ne 7, 3) := dk_160 0 7 (dk_at dksX6_isFaithful_2 8 rfl rfl)
theorem dX6_isFaithful_57 : decode cX6_isFaithful 57 = .ok (.iconst 1, 1) := dk_4 (dk_at dksX6_isFaithful_2 11 rfl rfl)
theorem dX6_isFaithful_58 : decode cX6_isFaithful 58 = .ok (.goto 4, 3) := dk_167 0 4 (dk_at dksX6_isFaithful_2 12 rfl rfl)
theorem dX6_isFaithful_61 : decode cX6_isFaithful 61 = .ok (.iconst 0, 1) := dk_3 (dk_at dksX6_isFaithful_2 15 rfl rfl)
theorem dX6_isFaithful_62 : decode cX6_isFaithful 62 = .ok (.iand, 1) := dk_126 (dk_at dksX6_isFaithful_2 16 rfl rfl)
theorem dX6_isFaithful_63 : decode cX6_isFaithful 63 = .ok (.istore_n 3, 1) := dk_62 (dk_at dksX6_isFaithful_2 17 rfl rfl)
theorem dX6_isFaithful_64 : decode cX6_isFaithful 64 = .ok (.iinc 4 1, 3) := dk_132 4 1 (dk_at dksX6_isFaithful_2 18 rfl rfl)
theorem dX6_isFaithful_67 : decode cX6_isFaithful 67 = .ok (.goto (-37), 3) := dk_167 255 219 (dk_at dksX6_isFaithful_2 21 rfl rfl)
theorem dX6_isFaithful_70 : decode cX6_isFaithful 70 = .ok (.iload_n 3, 1) := dk_29 (dk_at dksX6_isFaithful_3 0 rfl rfl)
theorem dX6_isFaithful_71 : decode cX6_isFaithful 71 = .ok (.ireturn, 1) := dk_172 (dk_at dksX6_isFaithful_3 1 rfl rfl)
abbrev cX6_isWellFormed : ByteArray := prog_3_method_4_code
def yX6_isWellFormed : MethodName := ⟨RX6, "isWellFormed", "(LCallMigrator$Function;LCallMigrator$Function;)Z"⟩
def dkwX6_isWellFormed_2 : List UInt8 := [126, 62, 132, 4, 1, 167, 255, 210, 29, 172]
abbrev dktX6_isWellFormed_2 : List UInt8 := dkwX6_isWellFormed_2 ++ []
def dkwX6_isWellFormed_1 : List UInt8 := [156, 0, 19, 2, 42, 180, 0, 18, 21, 4, 46, 100, 43, 180, 0, 27, 162, 0, 7, 4, 167, 0, 4, 3]
abbrev dktX6_isWellFormed_1 : List UInt8 := dkwX6_isWellFormed_1 ++ dktX6_isWellFormed_2
def dkwX6_isWellFormed_0 : List UInt8 := [4, 62, 3, 54, 4, 21, 4, 44, 180, 0, 27, 162, 0, 43, 29, 42, 180, 0, 18, 21, 4, 46]
abbrev dktX6_isWellFormed_0 : List UInt8 := dkwX6_isWellFormed_0 ++ dktX6_isWellFormed_1
theorem dksX6_isWellFormed_0 : cX6_isWellFormed.data.toList.drop 0 = dktX6_isWellFormed_0 := by decide +kernel
theorem dksX6_isWellFormed_1 : cX6_isWellFormed.data.toList.drop 22 = dktX6_isWellFormed_1 := dk_seg dksX6_isWellFormed_0 22 rfl rfl
theorem dksX6_isWellFormed_2 : cX6_isWellFormed.data.toList.drop 46 = dktX6_isWellFormed_2 := dk_seg dksX6_isWellFormed_1 24 rfl rfl
theorem dX6_isWellFormed_0 : decode cX6_isWellFormed 0 = .ok (.iconst 1, 1) := dk_4 (dk_at dksX6_isWellFormed_0 0 rfl rfl)
theorem dX6_isWellFormed_1 : decode cX6_isWellFormed 1 = .ok (.istore_n 3, 1) := dk_62 (dk_at dksX6_isWellFormed_0 1 rfl rfl)
theorem dX6_isWellFormed_2 : decode cX6_isWellFormed 2 = .ok (.iconst 0, 1) := dk_3 (dk_at dksX6_isWellFormed_0 2 rfl rfl)
theorem dX6_isWellFormed_3 : decode cX6_isWellFormed 3 = .ok (.istore 4, 2) := dk_54 4 (dk_at dksX6_isWellFormed_0 3 rfl rfl)
theorem dX6_isWellFormed_5 : decode cX6_isWellFormed 5 = .ok (.iload 4, 2) := dk_21 4 (dk_at dksX6_isWellFormed_0 5 rfl rfl)
theorem dX6_isWellFormed_7 : decode cX6_isWellFormed 7 = .ok (.aload_n 2, 1) := dk_44 (dk_at dksX6_isWellFormed_0 7 rfl rfl)
theorem dX6_isWellFormed_8 : decode cX6_isWellFormed 8 = .ok (.getfield 27, 3) := dk_180 0 27 (dk_at dksX6_isWellFormed_0 8 rfl rfl)
theorem dX6_isWellFormed_11 : decode cX6_isWellFormed 11 = .ok (.if_icmp .ge 43, 3) := dk_162 0 43 (dk_at dksX6_isWellFormed_0 11 rfl rfl)
theorem dX6_isWellFormed_14 : decode cX6_isWellFormed 14 = .ok (.iload_n 3, 1) := dk_29 (dk_at dksX6_isWellFormed_0 14 rfl rfl)
theorem dX6_isWellFormed_15 : decode cX6_isWellFormed 15 = .ok (.aload_n 0, 1) := dk_42 (dk_at dksX6_isWellFormed_0 15 rfl rfl)
theorem dX6_isWellFormed_16 : decode cX6_isWellFormed 16 = .ok (.getfield 18, 3) := dk_180 0 18 (dk_at dksX6_isWellFormed_0 16 rfl rfl)
theorem dX6_isWellFormed_19 : decode cX6_isWellFormed 19 = .ok (.iload 4, 2) := dk_21 4 (dk_at dksX6_isWellFormed_0 19 rfl rfl)
theorem dX6_isWellFormed_21 : decode cX6_isWellFormed 21 = .ok (.iaload, 1) := dk_46 (dk_at dksX6_isWellFormed_0 21 rfl rfl)
theorem dX6_isWellFormed_22 : decode cX6_isWellFormed 22 = .ok (.ifCond .ge 19, 3) := dk_156 0 19 (dk_at dksX6_isWellFormed_1 0 rfl rfl)
theorem dX6_isWellFormed_25 : decode cX6_isWellFormed 25 = .ok (.iconst (-1), 1) := dk_2 (dk_at dksX6_isWellFormed_1 3 rfl rfl)
theorem dX6_isWellFormed_26 : decode cX6_isWellFormed 26 = .ok (.aload_n 0, 1) := dk_42 (dk_at dksX6_isWellFormed_1 4 rfl rfl)
theorem dX6_isWellFormed_27 : decode cX6_isWellFormed 27 = .ok (.getfield 18, 3) := dk_180 0 18 (dk_at dksX6_isWellFormed_1 5 rfl rfl)
theorem dX6_isWellFormed_30 : decode cX6_isWellFormed 30 = .ok (.iload 4, 2) := dk_21 4 (dk_at dksX6_isWellFormed_1 8 rfl rfl)
theorem dX6_isWellFormed_32 : decode cX6_isWellFormed 32 = .ok (.iaload, 1) := dk_46 (dk_at dksX6_isWellFormed_1 10 rfl rfl)
theorem dX6_isWellFormed_33 : decode cX6_isWellFormed 33 = .ok (.isub, 1) := dk_100 (dk_at dksX6_isWellFormed_1 11 rfl rfl)
theorem dX6_isWellFormed_34 : decode cX6_isWellFormed 34 = .ok (.aload_n 1, 1) := dk_43 (dk_at dksX6_isWellFormed_1 12 rfl rfl)
theorem dX6_isWellFormed_35 : decode cX6_isWellFormed 35 = .ok (.getfield 27, 3) := dk_180 0 27 (dk_at dksX6_isWellFormed_1 13 rfl rfl)
theorem dX6_isWellFormed_38 : decode cX6_isWellFormed 38 = .ok (.if_icmp .ge 7, 3) := dk_162 0 7 (dk_at dksX6_isWellFormed_1 16 rfl rfl)
theorem dX6_isWellFormed_41 : decode cX6_isWellFormed 41 = .ok (.iconst 1, 1) := dk_4 (dk_at dksX6_isWellFormed_1 19 rfl rfl)
theorem dX6_isWellFormed_42 : decode cX6_isWellFormed 42 = .ok (.goto 4, 3) := dk_167 0 4 (dk_at dksX6_isWellFormed_1 20 rfl rfl)
theorem dX6_isWellFormed_45 : decode cX6_isWellFormed 45 = .ok (.iconst 0, 1) := dk_3 (dk_at dksX6_isWellFormed_1 23 rfl rfl)
theorem dX6_isWellFormed_46 : decode cX6_isWellFormed 46 = .ok (.iand, 1) := dk_126 (dk_at dksX6_isWellFormed_2 0 rfl rfl)
theorem dX6_isWellFormed_47 : decode cX6_isWellFormed 47 = .ok (.istore_n 3, 1) := dk_62 (dk_at dksX6_isWellFormed_2 1 rfl rfl)
theorem dX6_isWellFormed_48 : decode cX6_isWellFormed 48 = .ok (.iinc 4 1, 3) := dk_132 4 1 (dk_at dksX6_isWellFormed_2 2 rfl rfl)
theorem dX6_isWellFormed_51 : decode cX6_isWellFormed 51 = .ok (.goto (-46), 3) := dk_167 255 210 (dk_at dksX6_isWellFormed_2 5 rfl rfl)
theorem dX6_isWellFormed_54 : decode cX6_isWellFormed 54 = .ok (.iload_n 3, 1) := dk_29 (dk_at dksX6_isWellFormed_2 8 rfl rfl)
theorem dX6_isWellFormed_55 : decode cX6_isWellFormed 55 = .ok (.ireturn, 1) := dk_172 (dk_at dksX6_isWellFormed_2 9 rfl rfl)
abbrev cX6_constantOf : ByteArray := prog_3_method_5_code
def yX6_constantOf : MethodName := ⟨RX6, "constantOf", "(LCallMigrator$Function;)I"⟩
def dkwX6_constantOf_2 : List UInt8 := [132, 3, 1, 167, 255, 216, 28, 17, 3, 232, 112, 172]
abbrev dktX6_constantOf_2 : List UInt8 := dkwX6_constantOf_2 ++ []
def dkwX6_constantOf_1 : List UInt8 := [155, 0, 19, 43, 180, 0, 35, 29, 46, 42, 180, 0, 18, 29, 46, 104, 167, 0, 4, 3, 96, 61]
abbrev dktX6_constantOf_1 : List UInt8 := dkwX6_constantOf_1 ++ dktX6_constantOf_2
def dkwX6_constantOf_0 : List UInt8 := [43, 180, 0, 32, 61, 3, 62, 29, 43, 180, 0, 27, 162, 0, 38, 28, 42, 180, 0, 18, 29, 46]
abbrev dktX6_constantOf_0 : List UInt8 := dkwX6_constantOf_0 ++ dktX6_constantOf_1
theorem dksX6_constantOf_0 : cX6_constantOf.data.toList.drop 0 = dktX6_constantOf_0 := by decide +kernel
theorem dksX6_constantOf_1 : cX6_constantOf.data.toList.drop 22 = dktX6_constantOf_1 := dk_seg dksX6_constantOf_0 22 rfl rfl
theorem dksX6_constantOf_2 : cX6_constantOf.data.toList.drop 44 = dktX6_constantOf_2 := dk_seg dksX6_constantOf_1 22 rfl rfl
theorem dX6_constantOf_0 : decode cX6_constantOf 0 = .ok (.aload_n 1, 1) := dk_43 (dk_at dksX6_constantOf_0 0 rfl rfl)
theorem dX6_constantOf_1 : decode cX6_constantOf 1 = .ok (.getfield 32, 3) := dk_180 0 32 (dk_at dksX6_constantOf_0 1 rfl rfl)
theorem dX6_constantOf_4 : decode cX6_constantOf 4 = .ok (.istore_n 2, 1) := dk_61 (dk_at dksX6_constantOf_0 4 rfl rfl)
theorem dX6_constantOf_5 : decode cX6_constantOf 5 = .ok (.iconst 0, 1) := dk_3 (dk_at dksX6_constantOf_0 5 rfl rfl)
theorem dX6_constantOf_6 : decode cX6_constantOf 6 = .ok (.istore_n 3, 1) := dk_62 (dk_at dksX6_constantOf_0 6 rfl rfl)
theorem dX6_constantOf_7 : decode cX6_constantOf 7 = .ok (.iload_n 3, 1) := dk_29 (dk_at dksX6_constantOf_0 7 rfl rfl)
theorem dX6_constantOf_8 : decode cX6_constantOf 8 = .ok (.aload_n 1, 1) := dk_43 (dk_at dksX6_constantOf_0 8 rfl rfl)
theorem dX6_constantOf_9 : decode cX6_constantOf 9 = .ok (.getfield 27, 3) := dk_180 0 27 (dk_at dksX6_constantOf_0 9 rfl rfl)
theorem dX6_constantOf_12 : decode cX6_constantOf 12 = .ok (.if_icmp .ge 38, 3) := dk_162 0 38 (dk_at dksX6_constantOf_0 12 rfl rfl)
theorem dX6_constantOf_15 : decode cX6_constantOf 15 = .ok (.iload_n 2, 1) := dk_28 (dk_at dksX6_constantOf_0 15 rfl rfl)
theorem dX6_constantOf_16 : decode cX6_constantOf 16 = .ok (.aload_n 0, 1) := dk_42 (dk_at dksX6_constantOf_0 16 rfl rfl)
theorem dX6_constantOf_17 : decode cX6_constantOf 17 = .ok (.getfield 18, 3) := dk_180 0 18 (dk_at dksX6_constantOf_0 17 rfl rfl)
theorem dX6_constantOf_20 : decode cX6_constantOf 20 = .ok (.iload_n 3, 1) := dk_29 (dk_at dksX6_constantOf_0 20 rfl rfl)
theorem dX6_constantOf_21 : decode cX6_constantOf 21 = .ok (.iaload, 1) := dk_46 (dk_at dksX6_constantOf_0 21 rfl rfl)
theorem dX6_constantOf_22 : decode cX6_constantOf 22 = .ok (.ifCond .lt 19, 3) := dk_155 0 19 (dk_at dksX6_constantOf_1 0 rfl rfl)
theorem dX6_constantOf_25 : decode cX6_constantOf 25 = .ok (.aload_n 1, 1) := dk_43 (dk_at dksX6_constantOf_1 3 rfl rfl)
theorem dX6_constantOf_26 : decode cX6_constantOf 26 = .ok (.getfield 35, 3) := dk_180 0 35 (dk_at dksX6_constantOf_1 4 rfl rfl)
theorem dX6_constantOf_29 : decode cX6_constantOf 29 = .ok (.iload_n 3, 1) := dk_29 (dk_at dksX6_constantOf_1 7 rfl rfl)
theorem dX6_constantOf_30 : decode cX6_constantOf 30 = .ok (.iaload, 1) := dk_46 (dk_at dksX6_constantOf_1 8 rfl rfl)
theorem dX6_constantOf_31 : decode cX6_constantOf 31 = .ok (.aload_n 0, 1) := dk_42 (dk_at dksX6_constantOf_1 9 rfl rfl)
theorem dX6_constantOf_32 : decode cX6_constantOf 32 = .ok (.getfield 18, 3) := dk_180 0 18 (dk_at dksX6_constantOf_1 10 rfl rfl)
theorem dX6_constantOf_35 : decode cX6_constantOf 35 = .ok (.iload_n 3, 1) := dk_29 (dk_at dksX6_constantOf_1 13 rfl rfl)
theorem dX6_constantOf_36 : decode cX6_constantOf 36 = .ok (.iaload, 1) := dk_46 (dk_at dksX6_constantOf_1 14 rfl rfl)
theorem dX6_constantOf_37 : decode cX6_constantOf 37 = .ok (.imul, 1) := dk_104 (dk_at dksX6_constantOf_1 15 rfl rfl)
theorem dX6_constantOf_38 : decode cX6_constantOf 38 = .ok (.goto 4, 3) := dk_167 0 4 (dk_at dksX6_constantOf_1 16 rfl rfl)
theorem dX6_constantOf_41 : decode cX6_constantOf 41 = .ok (.iconst 0, 1) := dk_3 (dk_at dksX6_constantOf_1 19 rfl rfl)
theorem dX6_constantOf_42 : decode cX6_constantOf 42 = .ok (.iadd, 1) := dk_96 (dk_at dksX6_constantOf_1 20 rfl rfl)
theorem dX6_constantOf_43 : decode cX6_constantOf 43 = .ok (.istore_n 2, 1) := dk_61 (dk_at dksX6_constantOf_1 21 rfl rfl)
theorem dX6_constantOf_44 : decode cX6_constantOf 44 = .ok (.iinc 3 1, 3) := dk_132 3 1 (dk_at dksX6_constantOf_2 0 rfl rfl)
theorem dX6_constantOf_47 : decode cX6_constantOf 47 = .ok (.goto (-40), 3) := dk_167 255 216 (dk_at dksX6_constantOf_2 3 rfl rfl)
theorem dX6_constantOf_50 : decode cX6_constantOf 50 = .ok (.iload_n 2, 1) := dk_28 (dk_at dksX6_constantOf_2 6 rfl rfl)
theorem dX6_constantOf_51 : decode cX6_constantOf 51 = .ok (.sipush 1000, 3) := dk_17 3 232 (dk_at dksX6_constantOf_2 7 rfl rfl)
theorem dX6_constantOf_54 : decode cX6_constantOf 54 = .ok (.irem, 1) := dk_112 (dk_at dksX6_constantOf_2 10 rfl rfl)
theorem dX6_constantOf_55 : decode cX6_constantOf 55 = .ok (.ireturn, 1) := dk_172 (dk_at dksX6_constantOf_2 11 rfl rfl)
abbrev cX6_coefficientOf : ByteArray := prog_3_method_6_code
def yX6_coefficientOf : MethodName := ⟨RX6, "coefficientOf", "(LCallMigrator$Function;I)I"⟩
def dkwX6_coefficientOf_2 : List UInt8 := [17, 3, 232, 112, 172]
abbrev dktX6_coefficientOf_2 : List UInt8 := dkwX6_coefficientOf_2 ++ []
def dkwX6_coefficientOf_1 : List UInt8 := [100, 160, 0, 13, 43, 180, 0, 35, 21, 4, 46, 167, 0, 4, 3, 96, 62, 132, 4, 1, 167, 255, 217, 29]
abbrev dktX6_coefficientOf_1 : List UInt8 := dkwX6_coefficientOf_1 ++ dktX6_coefficientOf_2
def dkwX6_coefficientOf_0 : List UInt8 := [3, 62, 3, 54, 4, 21, 4, 43, 180, 0, 27, 162, 0, 36, 29, 42, 180, 0, 18, 21, 4, 46, 2, 28]
abbrev dktX6_coefficientOf_0 : List UInt8 := dkwX6_coefficientOf_0 ++ dktX6_coefficientOf_1
theorem dksX6_coefficientOf_0 : cX6_coefficientOf.data.toList.drop 0 = dktX6_coefficientOf_0 := by decide +kernel
theorem dksX6_coefficientOf_1 : cX6_coefficientOf.data.toList.drop 24 = dktX6_coefficientOf_1 := dk_seg dksX6_coefficientOf_0 24 rfl rfl
theorem dksX6_coefficientOf_2 : cX6_coefficientOf.data.toList.drop 48 = dktX6_coefficientOf_2 := dk_seg dksX6_coefficientOf_1 24 rfl rfl
theorem dX6_coefficientOf_0 : decode cX6_coefficientOf 0 = .ok (.iconst 0, 1) := dk_3 (dk_at dksX6_coefficientOf_0 0 rfl rfl)
theorem dX6_coefficientOf_1 : decode cX6_coefficientOf 1 = .ok (.istore_n 3, 1) := dk_62 (dk_at dksX6_coefficientOf_0 1 rfl rfl)
theorem dX6_coefficientOf_2 : decode cX6_coefficientOf 2 = .ok (.iconst 0, 1) := dk_3 (dk_at dksX6_coefficientOf_0 2 rfl rfl)
theorem dX6_coefficientOf_3 : decode cX6_coefficientOf 3 = .ok (.istore 4, 2) := dk_54 4 (dk_at dksX6_coefficientOf_0 3 rfl rfl)
theorem dX6_coefficientOf_5 : decode cX6_coefficientOf 5 = .ok (.iload 4, 2) := dk_21 4 (dk_at dksX6_coefficientOf_0 5 rfl rfl)
theorem dX6_coefficientOf_7 : decode cX6_coefficientOf 7 = .ok (.aload_n 1, 1) := dk_43 (dk_at dksX6_coefficientOf_0 7 rfl rfl)
theorem dX6_coefficientOf_8 : decode cX6_coefficientOf 8 = .ok (.getfield 27, 3) := dk_180 0 27 (dk_at dksX6_coefficientOf_0 8 rfl rfl)
theorem dX6_coefficientOf_11 : decode cX6_coefficientOf 11 = .ok (.if_icmp .ge 36, 3) := dk_162 0 36 (dk_at dksX6_coefficientOf_0 11 rfl rfl)
theorem dX6_coefficientOf_14 : decode cX6_coefficientOf 14 = .ok (.iload_n 3, 1) := dk_29 (dk_at dksX6_coefficientOf_0 14 rfl rfl)
theorem dX6_coefficientOf_15 : decode cX6_coefficientOf 15 = .ok (.aload_n 0, 1) := dk_42 (dk_at dksX6_coefficientOf_0 15 rfl rfl)
theorem dX6_coefficientOf_16 : decode cX6_coefficientOf 16 = .ok (.getfield 18, 3) := dk_180 0 18 (dk_at dksX6_coefficientOf_0 16 rfl rfl)
theorem dX6_coefficientOf_19 : decode cX6_coefficientOf 19 = .ok (.iload 4, 2) := dk_21 4 (dk_at dksX6_coefficientOf_0 19 rfl rfl)
theorem dX6_coefficientOf_21 : decode cX6_coefficientOf 21 = .ok (.iaload, 1) := dk_46 (dk_at dksX6_coefficientOf_0 21 rfl rfl)
theorem dX6_coefficientOf_22 : decode cX6_coefficientOf 22 = .ok (.iconst (-1), 1) := dk_2 (dk_at dksX6_coefficientOf_0 22 rfl rfl)
theorem dX6_coefficientOf_23 : decode cX6_coefficientOf 23 = .ok (.iload_n 2, 1) := dk_28 (dk_at dksX6_coefficientOf_0 23 rfl rfl)
theorem dX6_coefficientOf_24 : decode cX6_coefficientOf 24 = .ok (.isub, 1) := dk_100 (dk_at dksX6_coefficientOf_1 0 rfl rfl)
theorem dX6_coefficientOf_25 : decode cX6_coefficientOf 25 = .ok (.if_icmp .ne 13, 3) := dk_160 0 13 (dk_at dksX6_coefficientOf_1 1 rfl rfl)
theorem dX6_coefficientOf_28 : decode cX6_coefficientOf 28 = .ok (.aload_n 1, 1) := dk_43 (dk_at dksX6_coefficientOf_1 4 rfl rfl)
theorem dX6_coefficientOf_29 : decode cX6_coefficientOf 29 = .ok (.getfield 35, 3) := dk_180 0 35 (dk_at dksX6_coefficientOf_1 5 rfl rfl)
theorem dX6_coefficientOf_32 : decode cX6_coefficientOf 32 = .ok (.iload 4, 2) := dk_21 4 (dk_at dksX6_coefficientOf_1 8 rfl rfl)
theorem dX6_coefficientOf_34 : decode cX6_coefficientOf 34 = .ok (.iaload, 1) := dk_46 (dk_at dksX6_coefficientOf_1 10 rfl rfl)
theorem dX6_coefficientOf_35 : decode cX6_coefficientOf 35 = .ok (.goto 4, 3) := dk_167 0 4 (dk_at dksX6_coefficientOf_1 11 rfl rfl)
theorem dX6_coefficientOf_38 : decode cX6_coefficientOf 38 = .ok (.iconst 0, 1) := dk_3 (dk_at dksX6_coefficientOf_1 14 rfl rfl)
theorem dX6_coefficientOf_39 : decode cX6_coefficientOf 39 = .ok (.iadd, 1) := dk_96 (dk_at dksX6_coefficientOf_1 15 rfl rfl)
theorem dX6_coefficientOf_40 : decode cX6_coefficientOf 40 = .ok (.istore_n 3, 1) := dk_62 (dk_at dksX6_coefficientOf_1 16 rfl rfl)
theorem dX6_coefficientOf_41 : decode cX6_coefficientOf 41 = .ok (.iinc 4 1, 3) := dk_132 4 1 (dk_at dksX6_coefficientOf_1 17 rfl rfl)
theorem dX6_coefficientOf_44 : decode cX6_coefficientOf 44 = .ok (.goto (-39), 3) := dk_167 255 217 (dk_at dksX6_coefficientOf_1 20 rfl rfl)
theorem dX6_coefficientOf_47 : decode cX6_coefficientOf 47 = .ok (.iload_n 3, 1) := dk_29 (dk_at dksX6_coefficientOf_1 23 rfl rfl)
theorem dX6_coefficientOf_48 : decode cX6_coefficientOf 48 = .ok (.sipush 1000, 3) := dk_17 3 232 (dk_at dksX6_coefficientOf_2 0 rfl rfl)
theorem dX6_coefficientOf_51 : decode cX6_coefficientOf 51 = .ok (.irem, 1) := dk_112 (dk_at dksX6_coefficientOf_2 3 rfl rfl)
theorem dX6_coefficientOf_52 : decode cX6_coefficientOf 52 = .ok (.ireturn, 1) := dk_172 (dk_at dksX6_coefficientOf_2 4 rfl rfl)
abbrev cX6_withEntry : ByteArray := prog_3_method_3_code
def yX6_withEntry : MethodName := ⟨RX6, "withEntry", "(II)LCallMigrator$Mapping;"⟩
def dkwX6_withEntry_1 : List UInt8 := [183, 0, 3, 176]
abbrev dktX6_withEntry_1 : List UInt8 := dkwX6_withEntry_1 ++ []
def dkwX6_withEntry_0 : List UInt8 := [42, 180, 0, 18, 182, 0, 22, 192, 0, 23, 78, 45, 27, 28, 79, 187, 0, 4, 89, 42, 180, 0, 14, 45]
abbrev dktX6_withEntry_0 : List UInt8 := dkwX6_withEntry_0 ++ dktX6_withEntry_1
theorem dksX6_withEntry_0 : cX6_withEntry.data.toList.drop 0 = dktX6_withEntry_0 := by decide +kernel
theorem dksX6_withEntry_1 : cX6_withEntry.data.toList.drop 24 = dktX6_withEntry_1 := dk_seg dksX6_withEntry_0 24 rfl rfl
theorem dX6_withEntry_0 : decode cX6_withEntry 0 = .ok (.aload_n 0, 1) := dk_42 (dk_at dksX6_withEntry_0 0 rfl rfl)
theorem dX6_withEntry_1 : decode cX6_withEntry 1 = .ok (.getfield 18, 3) := dk_180 0 18 (dk_at dksX6_withEntry_0 1 rfl rfl)
theorem dX6_withEntry_4 : decode cX6_withEntry 4 = .ok (.invokevirtual 22, 3) := dk_182 0 22 (dk_at dksX6_withEntry_0 4 rfl rfl)
theorem dX6_withEntry_7 : decode cX6_withEntry 7 = .ok (.checkcast 23, 3) := dk_192 0 23 (dk_at dksX6_withEntry_0 7 rfl rfl)
theorem dX6_withEntry_10 : decode cX6_withEntry 10 = .ok (.astore_n 3, 1) := dk_78 (dk_at dksX6_withEntry_0 10 rfl rfl)
theorem dX6_withEntry_11 : decode cX6_withEntry 11 = .ok (.aload_n 3, 1) := dk_45 (dk_at dksX6_withEntry_0 11 rfl rfl)
theorem dX6_withEntry_12 : decode cX6_withEntry 12 = .ok (.iload_n 1, 1) := dk_27 (dk_at dksX6_withEntry_0 12 rfl rfl)
theorem dX6_withEntry_13 : decode cX6_withEntry 13 = .ok (.iload_n 2, 1) := dk_28 (dk_at dksX6_withEntry_0 13 rfl rfl)
theorem dX6_withEntry_14 : decode cX6_withEntry 14 = .ok (.iastore, 1) := dk_79 (dk_at dksX6_withEntry_0 14 rfl rfl)
theorem dX6_withEntry_15 : decode cX6_withEntry 15 = .ok (.new 4, 3) := dk_187 0 4 (dk_at dksX6_withEntry_0 15 rfl rfl)
theorem dX6_withEntry_18 : decode cX6_withEntry 18 = .ok (.dup, 1) := dk_89 (dk_at dksX6_withEntry_0 18 rfl rfl)
theorem dX6_withEntry_19 : decode cX6_withEntry 19 = .ok (.aload_n 0, 1) := dk_42 (dk_at dksX6_withEntry_0 19 rfl rfl)
theorem dX6_withEntry_20 : decode cX6_withEntry 20 = .ok (.getfield 14, 3) := dk_180 0 14 (dk_at dksX6_withEntry_0 20 rfl rfl)
theorem dX6_withEntry_23 : decode cX6_withEntry 23 = .ok (.aload_n 3, 1) := dk_45 (dk_at dksX6_withEntry_0 23 rfl rfl)
theorem dX6_withEntry_24 : decode cX6_withEntry 24 = .ok (.invokespecial 3, 3) := dk_183 0 3 (dk_at dksX6_withEntry_1 0 rfl rfl)
theorem dX6_withEntry_27 : decode cX6_withEntry 27 = .ok (.areturn, 1) := dk_176 (dk_at dksX6_withEntry_1 3 rfl rfl)
theorem q64 : (Jvm.Cond.initialized "CallMigrator$Mapping") ∈ lw_all := lw_g (lw_at lw_m1 9 rfl) rfl
theorem q135 : (Jvm.Cond.fieldLinkNest "CallMigrator$Mapping" (27 : Nat) "CallMigrator$Function" "arity" "I" "CallMigrator") ∈ lw_tbl := lw_at lw_m1 80 rfl
theorem q143 : (Jvm.Cond.fieldLinkNest "CallMigrator$Mapping" (32 : Nat) "CallMigrator$Function" "constant" "I" "CallMigrator") ∈ lw_tbl := lw_at lw_m1 88 rfl
theorem q147 : (Jvm.Cond.fieldLinkNest "CallMigrator$Mapping" (35 : Nat) "CallMigrator$Function" "coefficients" "[I" "CallMigrator") ∈ lw_tbl := lw_at lw_m1 92 rfl
theorem q328 : (Jvm.Cond.instantiable "CallMigrator$Mapping" (2 : Nat)) ∈ lw_all := lw_g (lw_at lw_m2 33 rfl) rfl
theorem q330 : (Jvm.Cond.instanceMethod ({ cls := "CallMigrator$Mapping", name := "<init>", desc := "(I)V" } : Jvm.MethodName)) ∈ lw_all := lw_g (lw_at lw_m2 35 rfl) rfl
theorem q331 : (Jvm.Cond.code ({ cls := "CallMigrator$Mapping", name := "<init>", desc := "(I)V" } : Jvm.MethodName) prog_3_method_1_code (2 : Nat) (Option.none : Option Jvm.ClassFile.FieldType)) ∈ lw_all := lw_g (lw_at lw_m2 36 rfl) rfl
theorem q332 : (Jvm.Cond.methodLink "CallMigrator$Mapping" (3 : Nat) ({ cls := "CallMigrator$Mapping", name := "<init>", desc := "(I[I)V" } : Jvm.MethodName)) ∈ lw_all := lw_g (lw_at lw_m2 37 rfl) rfl
theorem q333 : (Jvm.Cond.instanceMethod ({ cls := "CallMigrator$Mapping", name := "<init>", desc := "(I[I)V" } : Jvm.MethodName)) ∈ lw_all := lw_g (lw_at lw_m2 38 rfl) rfl
theorem q334 : (Jvm.Cond.code ({ cls := "CallMigrator$Mapping", name := "<init>", desc := "(I[I)V" } : Jvm.MethodName) prog_3_method_2_code (3 : Nat) (Option.none : Option Jvm.ClassFile.FieldType)) ∈ lw_all := lw_g (lw_at lw_m2 39 rfl) rfl
theorem q335 : (Jvm.Cond.methodLink "CallMigrator$Mapping" (9 : Nat) ({ cls := "java/lang/Object", name := "<init>", desc := "()V" } : Jvm.MethodName)) ∈ lw_all := lw_g (lw_at lw_m2 40 rfl) rfl
theorem q336 : (Jvm.Cond.fieldLink "CallMigrator$Mapping" (14 : Nat) "CallMigrator$Mapping" "target" "I") ∈ lw_all := lw_g (lw_at lw_m2 41 rfl) rfl
theorem q340 : (Jvm.Cond.fieldLink "CallMigrator$Mapping" (18 : Nat) "CallMigrator$Mapping" "template" "[I") ∈ lw_all := lw_g (lw_at lw_m2 45 rfl) rfl
theorem q343 : (Jvm.Cond.laysFinal "CallMigrator$Mapping" "CallMigrator$Mapping" "target" "I") ∈ lw_all := lw_g (lw_at lw_m2 48 rfl) rfl
theorem q344 : (Jvm.Cond.soleField "CallMigrator$Mapping" "target") ∈ lw_all := lw_g (lw_at lw_m2 49 rfl) rfl
theorem q345 : (Jvm.Cond.laysFinal "CallMigrator$Mapping" "CallMigrator$Mapping" "template" "[I") ∈ lw_all := lw_g (lw_at lw_m2 50 rfl) rfl
theorem q346 : (Jvm.Cond.soleField "CallMigrator$Mapping" "template") ∈ lw_all := lw_g (lw_at lw_m2 51 rfl) rfl
theorem q347 : (Jvm.Cond.superclass "CallMigrator$Mapping" "java/lang/Object") ∈ lw_all := lw_g (lw_at lw_m2 52 rfl) rfl
theorem q358 : (Jvm.Cond.instanceMethod ({ cls := "CallMigrator$Mapping", name := "isFaithful", desc := "(LCallMigrator$Function;LCallMigrator$Function;)Z" } : Jvm.MethodName)) ∈ lw_all := lw_g (lw_at lw_m2 63 rfl) rfl
theorem q359 : (Jvm.Cond.selects "CallMigrator$Mapping" ({ cls := "CallMigrator$Mapping", name := "isFaithful", desc := "(LCallMigrator$Function;LCallMigrator$Function;)Z" } : Jvm.MethodName) ({ cls := "CallMigrator$Mapping", name := "isFaithful", desc := "(LCallMigrator$Function;LCallMigrator$Function;)Z" } : Jvm.MethodName)) ∈ lw_all := lw_g (lw_at lw_m2 64 rfl) rfl
theorem q360 : (Jvm.Cond.code ({ cls := "CallMigrator$Mapping", name := "isFaithful", desc := "(LCallMigrator$Function;LCallMigrator$Function;)Z" } : Jvm.MethodName) prog_3_method_7_code (5 : Nat) (Option.some Jvm.ClassFile.FieldType.boolean)) ∈ lw_all := lw_g (lw_at lw_m2 65 rfl) rfl
theorem q361 : (Jvm.Cond.methodLink "CallMigrator$Mapping" (38 : Nat) ({ cls := "CallMigrator$Mapping", name := "isWellFormed", desc := "(LCallMigrator$Function;LCallMigrator$Function;)Z" } : Jvm.MethodName)) ∈ lw_all := lw_g (lw_at lw_m2 66 rfl) rfl
theorem q362 : (Jvm.Cond.privateMethod ({ cls := "CallMigrator$Mapping", name := "isWellFormed", desc := "(LCallMigrator$Function;LCallMigrator$Function;)Z" } : Jvm.MethodName)) ∈ lw_tbl := lw_at lw_m2 67 rfl
theorem q363 : (Jvm.Cond.instanceMethod ({ cls := "CallMigrator$Mapping", name := "isWellFormed", desc := "(LCallMigrator$Function;LCallMigrator$Function;)Z" } : Jvm.MethodName)) ∈ lw_all := lw_g (lw_at lw_m2 68 rfl) rfl
theorem q364 : (Jvm.Cond.code ({ cls := "CallMigrator$Mapping", name := "isWellFormed", desc := "(LCallMigrator$Function;LCallMigrator$Function;)Z" } : Jvm.MethodName) prog_3_method_4_code (5 : Nat) (Option.some Jvm.ClassFile.FieldType.boolean)) ∈ lw_all := lw_g (lw_at lw_m2 69 rfl) rfl
theorem q365 : (Jvm.Cond.methodLink "CallMigrator$Mapping" (42 : Nat) ({ cls := "CallMigrator$Mapping", name := "constantOf", desc := "(LCallMigrator$Function;)I" } : Jvm.MethodName)) ∈ lw_all := lw_g (lw_at lw_m2 70 rfl) rfl
theorem q366 : (Jvm.Cond.privateMethod ({ cls := "CallMigrator$Mapping", name := "constantOf", desc := "(LCallMigrator$Function;)I" } : Jvm.MethodName)) ∈ lw_tbl := lw_at lw_m2 71 rfl
theorem q367 : (Jvm.Cond.instanceMethod ({ cls := "CallMigrator$Mapping", name := "constantOf", desc := "(LCallMigrator$Function;)I" } : Jvm.MethodName)) ∈ lw_all := lw_g (lw_at lw_m2 72 rfl) rfl
theorem q368 : (Jvm.Cond.code ({ cls := "CallMigrator$Mapping", name := "constantOf", desc := "(LCallMigrator$Function;)I" } : Jvm.MethodName) prog_3_method_5_code (4 : Nat) (Option.some Jvm.ClassFile.FieldType.int)) ∈ lw_all := lw_g (lw_at lw_m2 73 rfl) rfl
theorem q369 : (Jvm.Cond.methodLink "CallMigrator$Mapping" (46 : Nat) ({ cls := "CallMigrator$Mapping", name := "coefficientOf", desc := "(LCallMigrator$Function;I)I" } : Jvm.MethodName)) ∈ lw_all := lw_g (lw_at lw_m2 74 rfl) rfl
theorem q370 : (Jvm.Cond.privateMethod ({ cls := "CallMigrator$Mapping", name := "coefficientOf", desc := "(LCallMigrator$Function;I)I" } : Jvm.MethodName)) ∈ lw_tbl := lw_at lw_m2 75 rfl
theorem q371 : (Jvm.Cond.instanceMethod ({ cls := "CallMigrator$Mapping", name := "coefficientOf", desc := "(LCallMigrator$Function;I)I" } : Jvm.MethodName)) ∈ lw_all := lw_g (lw_at lw_m2 76 rfl) rfl
theorem q372 : (Jvm.Cond.code ({ cls := "CallMigrator$Mapping", name := "coefficientOf", desc := "(LCallMigrator$Function;I)I" } : Jvm.MethodName) prog_3_method_6_code (5 : Nat) (Option.some Jvm.ClassFile.FieldType.int)) ∈ lw_all := lw_g (lw_at lw_m2 77 rfl) rfl
theorem q389 : (Jvm.Cond.instanceMethod ({ cls := "CallMigrator$Mapping", name := "withEntry", desc := "(II)LCallMigrator$Mapping;" } : Jvm.MethodName)) ∈ lw_all := lw_g (lw_at lw_m2 94 rfl) rfl
theorem q390 : (Jvm.Cond.selects "CallMigrator$Mapping" ({ cls := "CallMigrator$Mapping", name := "withEntry", desc := "(II)LCallMigrator$Mapping;" } : Jvm.MethodName) ({ cls := "CallMigrator$Mapping", name := "withEntry", desc := "(II)LCallMigrator$Mapping;" } : Jvm.MethodName)) ∈ lw_all := lw_g (lw_at lw_m2 95 rfl) rfl
theorem q391 : (Jvm.Cond.code ({ cls := "CallMigrator$Mapping", name := "withEntry", desc := "(II)LCallMigrator$Mapping;" } : Jvm.MethodName) prog_3_method_3_code (4 : Nat) (Option.some (Jvm.ClassFile.FieldType.object "CallMigrator$Mapping"))) ∈ lw_all := lw_g (lw_at lw_m2 96 rfl) rfl
theorem q392 : (Jvm.Cond.methodLink "CallMigrator$Mapping" (22 : Nat) ({ cls := "[I", name := "clone", desc := "()Ljava/lang/Object;" } : Jvm.MethodName)) ∈ lw_all := lw_g (lw_at lw_m2 97 rfl) rfl
theorem q393 : (Jvm.Cond.classLink "CallMigrator$Mapping" (23 : Nat) "[I") ∈ lw_all := lw_g (lw_at lw_m2 98 rfl) rfl
theorem q394 : (Jvm.Cond.classLink "CallMigrator$Mapping" (4 : Nat) "CallMigrator$Mapping") ∈ lw_all := lw_g (lw_at lw_m2 99 rfl) rfl
theorem in_X6 : ∀ w ∈ wsX60, w ∈ lw_all := lw_in wsX60 [343, 345] (by decide +kernel) (by decide +kernel)

/-! CallMigrator$SyntaxError -/
set_option maxRecDepth 100000
def RX7 : String := "CallMigrator$SyntaxError"
def TX7 : u_T := fun k => match k with
  | 0 => ("java/lang/Throwable", "cause", "Ljava/lang/Throwable;", false)
  | 1 => ("java/lang/Throwable", "stackTrace", "[Ljava/lang/StackTraceElement;", false)
  | 2 => ("java/lang/Throwable", "suppressedExceptions", "Ljava/util/List;", false)
  | 3 => ("java/lang/Throwable", "detailMessage", "Ljava/lang/String;", false)
  | 4 => ("java/lang/Throwable", "backtrace", "Ljava/lang/Object;", false)
  | 5 => ("java/lang/Throwable", "depth", "I", false)
  | _ => ("CallMigrator$SyntaxError", "position", "I", true)
def tyX7 : Nat → FieldType := fun k => match k with
  | 0 => .object "java/lang/Throwable"
  | 1 => .array (.object "java/lang/StackTraceElement")
  | 2 => .object "java/util/List"
  | 3 => .object "java/lang/String"
  | 4 => .object "java/lang/Object"
  | 5 => .int
  | _ => .int
abbrev wsX70 : List Cond := u_ws RX7 TX7 7
theorem nmX7 : ∀ a, a < 7 → ∀ b, b < 7 → a ≠ b → (TX7 a).2.1 ≠ (TX7 b).2.1 := by decide +kernel
theorem tyX7_ok : ∀ k, k < 7 → parseFieldDescriptor (TX7 k).2.2.1 = some (tyX7 k) := by decide +kernel
abbrev cX7_init : ByteArray := prog_8_method_1_code
def yX7_init : MethodName := ⟨RX7, "<init>", "(I)V"⟩
def dkwX7_init_0 : List UInt8 := [42, 1, 1, 3, 3, 183, 0, 1, 42, 27, 181, 0, 7, 177]
abbrev dktX7_init_0 : List UInt8 := dkwX7_init_0 ++ []
theorem dksX7_init_0 : cX7_init.data.toList.drop 0 = dktX7_init_0 := by decide +kernel
theorem dX7_init_0 : decode cX7_init 0 = .ok (.aload_n 0, 1) := dk_42 (dk_at dksX7_init_0 0 rfl rfl)
theorem dX7_init_1 : decode cX7_init 1 = .ok (.aconst_null, 1) := dk_1 (dk_at dksX7_init_0 1 rfl rfl)
theorem dX7_init_2 : decode cX7_init 2 = .ok (.aconst_null, 1) := dk_1 (dk_at dksX7_init_0 2 rfl rfl)
theorem dX7_init_3 : decode cX7_init 3 = .ok (.iconst 0, 1) := dk_3 (dk_at dksX7_init_0 3 rfl rfl)
theorem dX7_init_4 : decode cX7_init 4 = .ok (.iconst 0, 1) := dk_3 (dk_at dksX7_init_0 4 rfl rfl)
theorem dX7_init_5 : decode cX7_init 5 = .ok (.invokespecial 1, 3) := dk_183 0 1 (dk_at dksX7_init_0 5 rfl rfl)
theorem dX7_init_8 : decode cX7_init 8 = .ok (.aload_n 0, 1) := dk_42 (dk_at dksX7_init_0 8 rfl rfl)
theorem dX7_init_9 : decode cX7_init 9 = .ok (.iload_n 1, 1) := dk_27 (dk_at dksX7_init_0 9 rfl rfl)
theorem dX7_init_10 : decode cX7_init 10 = .ok (.putfield 7, 3) := dk_181 0 7 (dk_at dksX7_init_0 10 rfl rfl)
theorem dX7_init_13 : decode cX7_init 13 = .ok (.return_, 1) := dk_177 (dk_at dksX7_init_0 13 rfl rfl)
theorem q67 : (Jvm.Cond.initialized "CallMigrator$SyntaxError") ∈ lw_all := lw_g (lw_at lw_m1 12 rfl) rfl
theorem q437 : (Jvm.Cond.instantiable "CallMigrator$SyntaxError" (7 : Nat)) ∈ lw_all := lw_g (lw_at lw_m2 142 rfl) rfl
theorem q438 : (Jvm.Cond.castable "CallMigrator$SyntaxError" "CallMigrator$SyntaxError") ∈ lw_tbl := lw_at lw_m2 143 rfl
theorem q443 : (Jvm.Cond.selects "CallMigrator$SyntaxError" ({ cls := "java/lang/Throwable", name := "fillInStackTrace", desc := "(I)Ljava/lang/Throwable;" } : Jvm.MethodName) ({ cls := "java/lang/Throwable", name := "fillInStackTrace", desc := "(I)Ljava/lang/Throwable;" } : Jvm.MethodName)) ∈ lw_all := lw_g (lw_at lw_m2 148 rfl) rfl
theorem q444 : (Jvm.Cond.selects "CallMigrator$SyntaxError" ({ cls := "java/lang/Throwable", name := "fillInStackTrace", desc := "()Ljava/lang/Throwable;" } : Jvm.MethodName) ({ cls := "java/lang/Throwable", name := "fillInStackTrace", desc := "()Ljava/lang/Throwable;" } : Jvm.MethodName)) ∈ lw_all := lw_g (lw_at lw_m2 149 rfl) rfl
theorem q445 : (Jvm.Cond.lays "CallMigrator$SyntaxError" "java/lang/Throwable" "cause" "Ljava/lang/Throwable;") ∈ lw_all := lw_g (lw_at lw_m2 150 rfl) rfl
theorem q447 : (Jvm.Cond.lays "CallMigrator$SyntaxError" "java/lang/Throwable" "stackTrace" "[Ljava/lang/StackTraceElement;") ∈ lw_all := lw_g (lw_at lw_m2 152 rfl) rfl
theorem q449 : (Jvm.Cond.lays "CallMigrator$SyntaxError" "java/lang/Throwable" "suppressedExceptions" "Ljava/util/List;") ∈ lw_all := lw_g (lw_at lw_m2 154 rfl) rfl
theorem q451 : (Jvm.Cond.lays "CallMigrator$SyntaxError" "java/lang/Throwable" "detailMessage" "Ljava/lang/String;") ∈ lw_all := lw_g (lw_at lw_m2 156 rfl) rfl
theorem q453 : (Jvm.Cond.lays "CallMigrator$SyntaxError" "java/lang/Throwable" "backtrace" "Ljava/lang/Object;") ∈ lw_all := lw_g (lw_at lw_m2 158 rfl) rfl
theorem q474 : (Jvm.Cond.instanceMethod ({ cls := "CallMigrator$SyntaxError", name := "<init>", desc := "(I)V" } : Jvm.MethodName)) ∈ lw_all := lw_g (lw_at lw_m2 179 rfl) rfl
theorem q475 : (Jvm.Cond.code ({ cls := "CallMigrator$SyntaxError", name := "<init>", desc := "(I)V" } : Jvm.MethodName) prog_8_method_1_code (2 : Nat) (Option.none : Option Jvm.ClassFile.FieldType)) ∈ lw_all := lw_g (lw_at lw_m2 180 rfl) rfl
theorem q476 : (Jvm.Cond.methodLink "CallMigrator$SyntaxError" (1 : Nat) ({ cls := "java/lang/Exception", name := "<init>", desc := "(Ljava/lang/String;Ljava/lang/Throwable;ZZ)V" } : Jvm.MethodName)) ∈ lw_all := lw_g (lw_at lw_m2 181 rfl) rfl
theorem q482 : (Jvm.Cond.fieldLink "CallMigrator$SyntaxError" (7 : Nat) "CallMigrator$SyntaxError" "position" "I") ∈ lw_all := lw_g (lw_at lw_m2 187 rfl) rfl
theorem q489 : (Jvm.Cond.laysFinal "CallMigrator$SyntaxError" "CallMigrator$SyntaxError" "position" "I") ∈ lw_all := lw_g (lw_at lw_m2 194 rfl) rfl
theorem q490 : (Jvm.Cond.soleField "CallMigrator$SyntaxError" "position") ∈ lw_all := lw_g (lw_at lw_m2 195 rfl) rfl
theorem q495 : (Jvm.Cond.lays "CallMigrator$SyntaxError" "java/lang/Throwable" "depth" "I") ∈ lw_all := lw_g (lw_at lw_m2 200 rfl) rfl
theorem q498 : (Jvm.Cond.superclass "CallMigrator$SyntaxError" "java/lang/Exception") ∈ lw_all := lw_g (lw_at lw_m2 203 rfl) rfl
theorem in_X7 : ∀ w ∈ wsX70, w ∈ lw_all := lw_in wsX70 [445, 447, 449, 451, 453, 495, 489] (by decide +kernel) (by decide +kernel)

/-! CallMigrator$Migration -/
set_option maxRecDepth 100000
def RX8 : String := "CallMigrator$Migration"
def TX8 : u_T := fun k => match k with
  | 0 => ("CallMigrator$Migration", "total", "I", false)
  | 1 => ("CallMigrator$Migration", "replaced", "I", false)
  | _ => ("CallMigrator$Migration", "this$0", "LCallMigrator;", true)
def tyX8 : Nat → FieldType := fun k => match k with
  | 0 => .int
  | 1 => .int
  | _ => .object "CallMigrator"
abbrev wsX80 : List Cond := u_ws RX8 TX8 3
theorem nmX8 : ∀ a, a < 3 → ∀ b, b < 3 → a ≠ b → (TX8 a).2.1 ≠ (TX8 b).2.1 := by decide +kernel
theorem tyX8_ok : ∀ k, k < 3 → parseFieldDescriptor (TX8 k).2.2.1 = some (tyX8 k) := by decide +kernel
abbrev cX8_init : ByteArray := prog_4_method_1_code
def yX8_init : MethodName := ⟨RX8, "<init>", "(LCallMigrator;)V"⟩
def dkwX8_init_1 : List UInt8 := [181, 0, 31, 177]
abbrev dktX8_init_1 : List UInt8 := dkwX8_init_1 ++ []
def dkwX8_init_0 : List UInt8 := [42, 43, 181, 0, 3, 42, 183, 0, 9, 42, 42, 180, 0, 3, 180, 0, 15, 180, 0, 19, 180, 0, 25]
abbrev dktX8_init_0 : List UInt8 := dkwX8_init_0 ++ dktX8_init_1
theorem dksX8_init_0 : cX8_init.data.toList.drop 0 = dktX8_init_0 := by decide +kernel
theorem dksX8_init_1 : cX8_init.data.toList.drop 23 = dktX8_init_1 := dk_seg dksX8_init_0 23 rfl rfl
theorem dX8_init_0 : decode cX8_init 0 = .ok (.aload_n 0, 1) := dk_42 (dk_at dksX8_init_0 0 rfl rfl)
theorem dX8_init_1 : decode cX8_init 1 = .ok (.aload_n 1, 1) := dk_43 (dk_at dksX8_init_0 1 rfl rfl)
theorem dX8_init_2 : decode cX8_init 2 = .ok (.putfield 3, 3) := dk_181 0 3 (dk_at dksX8_init_0 2 rfl rfl)
theorem dX8_init_5 : decode cX8_init 5 = .ok (.aload_n 0, 1) := dk_42 (dk_at dksX8_init_0 5 rfl rfl)
theorem dX8_init_6 : decode cX8_init 6 = .ok (.invokespecial 9, 3) := dk_183 0 9 (dk_at dksX8_init_0 6 rfl rfl)
theorem dX8_init_9 : decode cX8_init 9 = .ok (.aload_n 0, 1) := dk_42 (dk_at dksX8_init_0 9 rfl rfl)
theorem dX8_init_10 : decode cX8_init 10 = .ok (.aload_n 0, 1) := dk_42 (dk_at dksX8_init_0 10 rfl rfl)
theorem dX8_init_11 : decode cX8_init 11 = .ok (.getfield 3, 3) := dk_180 0 3 (dk_at dksX8_init_0 11 rfl rfl)
theorem dX8_init_14 : decode cX8_init 14 = .ok (.getfield 15, 3) := dk_180 0 15 (dk_at dksX8_init_0 14 rfl rfl)
theorem dX8_init_17 : decode cX8_init 17 = .ok (.getfield 19, 3) := dk_180 0 19 (dk_at dksX8_init_0 17 rfl rfl)
theorem dX8_init_20 : decode cX8_init 20 = .ok (.getfield 25, 3) := dk_180 0 25 (dk_at dksX8_init_0 20 rfl rfl)
theorem dX8_init_23 : decode cX8_init 23 = .ok (.putfield 31, 3) := dk_181 0 31 (dk_at dksX8_init_1 0 rfl rfl)
theorem dX8_init_26 : decode cX8_init 26 = .ok (.return_, 1) := dk_177 (dk_at dksX8_init_1 3 rfl rfl)
abbrev cX8_migrate : ByteArray := prog_4_method_2_code
def yX8_migrate : MethodName := ⟨RX8, "migrate", "(LCallMigrator$Node;)LCallMigrator$Node;"⟩
def dkwX8_migrate_2 : List UInt8 := [44, 183, 0, 48, 78, 43, 180, 0, 42, 5, 160, 0, 11, 42, 45, 182, 0, 51, 167, 0, 4, 45, 176]
abbrev dktX8_migrate_2 : List UInt8 := dkwX8_migrate_2 ++ []
def dkwX8_migrate_1 : List UInt8 := [29, 50, 182, 0, 38, 83, 132, 3, 1, 167, 255, 234, 187, 0, 26, 89, 43, 180, 0, 42, 43, 180, 0, 45]
abbrev dktX8_migrate_1 : List UInt8 := dkwX8_migrate_1 ++ dktX8_migrate_2
def dkwX8_migrate_0 : List UInt8 := [43, 180, 0, 34, 190, 189, 0, 26, 77, 3, 62, 29, 44, 190, 162, 0, 22, 44, 29, 42, 43, 180, 0, 34]
abbrev dktX8_migrate_0 : List UInt8 := dkwX8_migrate_0 ++ dktX8_migrate_1
theorem dksX8_migrate_0 : cX8_migrate.data.toList.drop 0 = dktX8_migrate_0 := by decide +kernel
theorem dksX8_migrate_1 : cX8_migrate.data.toList.drop 24 = dktX8_migrate_1 := dk_seg dksX8_migrate_0 24 rfl rfl
theorem dksX8_migrate_2 : cX8_migrate.data.toList.drop 48 = dktX8_migrate_2 := dk_seg dksX8_migrate_1 24 rfl rfl
theorem dX8_migrate_0 : decode cX8_migrate 0 = .ok (.aload_n 1, 1) := dk_43 (dk_at dksX8_migrate_0 0 rfl rfl)
theorem dX8_migrate_1 : decode cX8_migrate 1 = .ok (.getfield 34, 3) := dk_180 0 34 (dk_at dksX8_migrate_0 1 rfl rfl)
theorem dX8_migrate_4 : decode cX8_migrate 4 = .ok (.arraylength, 1) := dk_190 (dk_at dksX8_migrate_0 4 rfl rfl)
theorem dX8_migrate_5 : decode cX8_migrate 5 = .ok (.anewarray 26, 3) := dk_189 0 26 (dk_at dksX8_migrate_0 5 rfl rfl)
theorem dX8_migrate_8 : decode cX8_migrate 8 = .ok (.astore_n 2, 1) := dk_77 (dk_at dksX8_migrate_0 8 rfl rfl)
theorem dX8_migrate_9 : decode cX8_migrate 9 = .ok (.iconst 0, 1) := dk_3 (dk_at dksX8_migrate_0 9 rfl rfl)
theorem dX8_migrate_10 : decode cX8_migrate 10 = .ok (.istore_n 3, 1) := dk_62 (dk_at dksX8_migrate_0 10 rfl rfl)
theorem dX8_migrate_11 : decode cX8_migrate 11 = .ok (.iload_n 3, 1) := dk_29 (dk_at dksX8_migrate_0 11 rfl rfl)
theorem dX8_migrate_12 : decode cX8_migrate 12 = .ok (.aload_n 2, 1) := dk_44 (dk_at dksX8_migrate_0 12 rfl rfl)
theorem dX8_migrate_13 : decode cX8_migrate 13 = .ok (.arraylength, 1) := dk_190 (dk_at dksX8_migrate_0 13 rfl rfl)
theorem dX8_migrate_14 : decode cX8_migrate 14 = .ok (.if_icmp .ge 22, 3) := dk_162 0 22 (dk_at dksX8_migrate_0 14 rfl rfl)
theorem dX8_migrate_17 : decode cX8_migrate 17 = .ok (.aload_n 2, 1) := dk_44 (dk_at dksX8_migrate_0 17 rfl rfl)
theorem dX8_migrate_18 : decode cX8_migrate 18 = .ok (.iload_n 3, 1) := dk_29 (dk_at dksX8_migrate_0 18 rfl rfl)
theorem dX8_migrate_19 : decode cX8_migrate 19 = .ok (.aload_n 0, 1) := dk_42 (dk_at dksX8_migrate_0 19 rfl rfl)
theorem dX8_migrate_20 : decode cX8_migrate 20 = .ok (.aload_n 1, 1) := dk_43 (dk_at dksX8_migrate_0 20 rfl rfl)
theorem dX8_migrate_21 : decode cX8_migrate 21 = .ok (.getfield 34, 3) := dk_180 0 34 (dk_at dksX8_migrate_0 21 rfl rfl)
theorem dX8_migrate_24 : decode cX8_migrate 24 = .ok (.iload_n 3, 1) := dk_29 (dk_at dksX8_migrate_1 0 rfl rfl)
theorem dX8_migrate_25 : decode cX8_migrate 25 = .ok (.aaload, 1) := dk_50 (dk_at dksX8_migrate_1 1 rfl rfl)
theorem dX8_migrate_26 : decode cX8_migrate 26 = .ok (.invokevirtual 38, 3) := dk_182 0 38 (dk_at dksX8_migrate_1 2 rfl rfl)
theorem dX8_migrate_29 : decode cX8_migrate 29 = .ok (.aastore, 1) := dk_83 (dk_at dksX8_migrate_1 5 rfl rfl)
theorem dX8_migrate_30 : decode cX8_migrate 30 = .ok (.iinc 3 1, 3) := dk_132 3 1 (dk_at dksX8_migrate_1 6 rfl rfl)
theorem dX8_migrate_33 : decode cX8_migrate 33 = .ok (.goto (-22), 3) := dk_167 255 234 (dk_at dksX8_migrate_1 9 rfl rfl)
theorem dX8_migrate_36 : decode cX8_migrate 36 = .ok (.new 26, 3) := dk_187 0 26 (dk_at dksX8_migrate_1 12 rfl rfl)
theorem dX8_migrate_39 : decode cX8_migrate 39 = .ok (.dup, 1) := dk_89 (dk_at dksX8_migrate_1 15 rfl rfl)
theorem dX8_migrate_40 : decode cX8_migrate 40 = .ok (.aload_n 1, 1) := dk_43 (dk_at dksX8_migrate_1 16 rfl rfl)
theorem dX8_migrate_41 : decode cX8_migrate 41 = .ok (.getfield 42, 3) := dk_180 0 42 (dk_at dksX8_migrate_1 17 rfl rfl)
theorem dX8_migrate_44 : decode cX8_migrate 44 = .ok (.aload_n 1, 1) := dk_43 (dk_at dksX8_migrate_1 20 rfl rfl)
theorem dX8_migrate_45 : decode cX8_migrate 45 = .ok (.getfield 45, 3) := dk_180 0 45 (dk_at dksX8_migrate_1 21 rfl rfl)
theorem dX8_migrate_48 : decode cX8_migrate 48 = .ok (.aload_n 2, 1) := dk_44 (dk_at dksX8_migrate_2 0 rfl rfl)
theorem dX8_migrate_49 : decode cX8_migrate 49 = .ok (.invokespecial 48, 3) := dk_183 0 48 (dk_at dksX8_migrate_2 1 rfl rfl)
theorem dX8_migrate_52 : decode cX8_migrate 52 = .ok (.astore_n 3, 1) := dk_78 (dk_at dksX8_migrate_2 4 rfl rfl)
theorem dX8_migrate_53 : decode cX8_migrate 53 = .ok (.aload_n 1, 1) := dk_43 (dk_at dksX8_migrate_2 5 rfl rfl)
theorem dX8_migrate_54 : decode cX8_migrate 54 = .ok (.getfield 42, 3) := dk_180 0 42 (dk_at dksX8_migrate_2 6 rfl rfl)
theorem dX8_migrate_57 : decode cX8_migrate 57 = .ok (.iconst 2, 1) := dk_5 (dk_at dksX8_migrate_2 9 rfl rfl)
theorem dX8_migrate_58 : decode cX8_migrate 58 = .ok (.if_icmp .ne 11, 3) := dk_160 0 11 (dk_at dksX8_migrate_2 10 rfl rfl)
theorem dX8_migrate_61 : decode cX8_migrate 61 = .ok (.aload_n 0, 1) := dk_42 (dk_at dksX8_migrate_2 13 rfl rfl)
theorem dX8_migrate_62 : decode cX8_migrate 62 = .ok (.aload_n 3, 1) := dk_45 (dk_at dksX8_migrate_2 14 rfl rfl)
theorem dX8_migrate_63 : decode cX8_migrate 63 = .ok (.invokevirtual 51, 3) := dk_182 0 51 (dk_at dksX8_migrate_2 15 rfl rfl)
theorem dX8_migrate_66 : decode cX8_migrate 66 = .ok (.goto 4, 3) := dk_167 0 4 (dk_at dksX8_migrate_2 18 rfl rfl)
theorem dX8_migrate_69 : decode cX8_migrate 69 = .ok (.aload_n 3, 1) := dk_45 (dk_at dksX8_migrate_2 21 rfl rfl)
theorem dX8_migrate_70 : decode cX8_migrate 70 = .ok (.areturn, 1) := dk_176 (dk_at dksX8_migrate_2 22 rfl rfl)
abbrev cX8_site : ByteArray := prog_4_method_4_code
def yX8_site : MethodName := ⟨RX8, "site", "(LCallMigrator$Node;)LCallMigrator$Node;"⟩
def dkwX8_site_10 : List UInt8 := [43, 180, 0, 25, 100, 96, 181, 0, 31, 42, 89, 180, 0, 97, 4, 96, 181, 0, 97, 25, 7, 176]
abbrev dktX8_site_10 : List UInt8 := dkwX8_site_10 ++ []
def dkwX8_site_9 : List UInt8 := [96, 16, 30, 164, 0, 11, 42, 43, 16, 7, 182, 0, 67, 176, 42, 89, 180, 0, 31, 25, 7, 180, 0, 25]
abbrev dktX8_site_9 : List UInt8 := dkwX8_site_9 ++ dktX8_site_10
def dkwX8_site_8 : List UInt8 := [180, 0, 85, 25, 6, 183, 0, 48, 58, 7, 42, 180, 0, 31, 43, 180, 0, 25, 100, 25, 7, 180, 0, 25]
abbrev dktX8_site_8 : List UInt8 := dkwX8_site_8 ++ dktX8_site_9
def dkwX8_site_7 : List UInt8 := [43, 180, 0, 34, 2, 21, 8, 100, 50, 83, 132, 7, 1, 167, 255, 201, 187, 0, 26, 89, 6, 45]
abbrev dktX8_site_7 : List UInt8 := dkwX8_site_7 ++ dktX8_site_8
def dkwX8_site_6 : List UInt8 := [21, 7, 21, 8, 155, 0, 20, 187, 0, 26, 89, 3, 21, 8, 3, 189, 0, 26, 183, 0, 48, 167, 0, 12]
abbrev dktX8_site_6 : List UInt8 := dkwX8_site_6 ++ dktX8_site_7
def dkwX8_site_5 : List UInt8 := [58, 6, 3, 54, 7, 21, 7, 21, 4, 162, 0, 54, 45, 180, 0, 94, 21, 7, 46, 54, 8, 25, 6]
abbrev dktX8_site_5 : List UInt8 := dkwX8_site_5 ++ dktX8_site_6
def dkwX8_site_4 : List UInt8 := [182, 0, 90, 54, 5, 21, 5, 153, 0, 11, 42, 43, 21, 5, 182, 0, 67, 176, 21, 4, 189, 0, 26]
abbrev dktX8_site_4 : List UInt8 := dkwX8_site_4 ++ dktX8_site_5
def dkwX8_site_3 : List UInt8 := [180, 0, 3, 180, 0, 15, 180, 0, 82, 45, 180, 0, 85, 50, 180, 0, 62, 54, 4, 42, 43, 45, 21, 4]
abbrev dktX8_site_3 : List UInt8 := dkwX8_site_3 ++ dktX8_site_4
def dkwX8_site_2 : List UInt8 := [154, 0, 9, 42, 43, 182, 0, 75, 176, 42, 180, 0, 3, 180, 0, 15, 180, 0, 78, 28, 50, 78, 42]
abbrev dktX8_site_2 : List UInt8 := dkwX8_site_2 ++ dktX8_site_3
def dkwX8_site_1 : List UInt8 := [180, 0, 62, 159, 0, 10, 42, 43, 4, 182, 0, 67, 176, 42, 180, 0, 3, 180, 0, 15, 28, 182, 0, 71]
abbrev dktX8_site_1 : List UInt8 := dkwX8_site_1 ++ dktX8_site_2
def dkwX8_site_0 : List UInt8 := [43, 180, 0, 45, 61, 43, 180, 0, 34, 190, 42, 180, 0, 3, 180, 0, 15, 180, 0, 58, 28, 50]
abbrev dktX8_site_0 : List UInt8 := dkwX8_site_0 ++ dktX8_site_1
theorem dksX8_site_0 : cX8_site.data.toList.drop 0 = dktX8_site_0 := by decide +kernel
theorem dksX8_site_1 : cX8_site.data.toList.drop 22 = dktX8_site_1 := dk_seg dksX8_site_0 22 rfl rfl
theorem dksX8_site_2 : cX8_site.data.toList.drop 46 = dktX8_site_2 := dk_seg dksX8_site_1 24 rfl rfl
theorem dksX8_site_3 : cX8_site.data.toList.drop 69 = dktX8_site_3 := dk_seg dksX8_site_2 23 rfl rfl
theorem dksX8_site_4 : cX8_site.data.toList.drop 93 = dktX8_site_4 := dk_seg dksX8_site_3 24 rfl rfl
theorem dksX8_site_5 : cX8_site.data.toList.drop 116 = dktX8_site_5 := dk_seg dksX8_site_4 23 rfl rfl
theorem dksX8_site_6 : cX8_site.data.toList.drop 139 = dktX8_site_6 := dk_seg dksX8_site_5 23 rfl rfl
theorem dksX8_site_7 : cX8_site.data.toList.drop 163 = dktX8_site_7 := dk_seg dksX8_site_6 24 rfl rfl
theorem dksX8_site_8 : cX8_site.data.toList.drop 185 = dktX8_site_8 := dk_seg dksX8_site_7 22 rfl rfl
theorem dksX8_site_9 : cX8_site.data.toList.drop 209 = dktX8_site_9 := dk_seg dksX8_site_8 24 rfl rfl
theorem dksX8_site_10 : cX8_site.data.toList.drop 233 = dktX8_site_10 := dk_seg dksX8_site_9 24 rfl rfl
theorem dX8_site_0 : decode cX8_site 0 = .ok (.aload_n 1, 1) := dk_43 (dk_at dksX8_site_0 0 rfl rfl)
theorem dX8_site_1 : decode cX8_site 1 = .ok (.getfield 45, 3) := dk_180 0 45 (dk_at dksX8_site_0 1 rfl rfl)
theorem dX8_site_4 : decode cX8_site 4 = .ok (.istore_n 2, 1) := dk_61 (dk_at dksX8_site_0 4 rfl rfl)
theorem dX8_site_5 : decode cX8_site 5 = .ok (.aload_n 1, 1) := dk_43 (dk_at dksX8_site_0 5 rfl rfl)
theorem dX8_site_6 : decode cX8_site 6 = .ok (.getfield 34, 3) := dk_180 0 34 (dk_at dksX8_site_0 6 rfl rfl)
theorem dX8_site_9 : decode cX8_site 9 = .ok (.arraylength, 1) := dk_190 (dk_at dksX8_site_0 9 rfl rfl)
theorem dX8_site_10 : decode cX8_site 10 = .ok (.aload_n 0, 1) := dk_42 (dk_at dksX8_site_0 10 rfl rfl)
theorem dX8_site_11 : decode cX8_site 11 = .ok (.getfield 3, 3) := dk_180 0 3 (dk_at dksX8_site_0 11 rfl rfl)
theorem dX8_site_14 : decode cX8_site 14 = .ok (.getfield 15, 3) := dk_180 0 15 (dk_at dksX8_site_0 14 rfl rfl)
theorem dX8_site_17 : decode cX8_site 17 = .ok (.getfield 58, 3) := dk_180 0 58 (dk_at dksX8_site_0 17 rfl rfl)
theorem dX8_site_20 : decode cX8_site 20 = .ok (.iload_n 2, 1) := dk_28 (dk_at dksX8_site_0 20 rfl rfl)
theorem dX8_site_21 : decode cX8_site 21 = .ok (.aaload, 1) := dk_50 (dk_at dksX8_site_0 21 rfl rfl)
theorem dX8_site_22 : decode cX8_site 22 = .ok (.getfield 62, 3) := dk_180 0 62 (dk_at dksX8_site_1 0 rfl rfl)
theorem dX8_site_25 : decode cX8_site 25 = .ok (.if_icmp .eq 10, 3) := dk_159 0 10 (dk_at dksX8_site_1 3 rfl rfl)
theorem dX8_site_28 : decode cX8_site 28 = .ok (.aload_n 0, 1) := dk_42 (dk_at dksX8_site_1 6 rfl rfl)
theorem dX8_site_29 : decode cX8_site 29 = .ok (.aload_n 1, 1) := dk_43 (dk_at dksX8_site_1 7 rfl rfl)
theorem dX8_site_30 : decode cX8_site 30 = .ok (.iconst 1, 1) := dk_4 (dk_at dksX8_site_1 8 rfl rfl)
theorem dX8_site_31 : decode cX8_site 31 = .ok (.invokevirtual 67, 3) := dk_182 0 67 (dk_at dksX8_site_1 9 rfl rfl)
theorem dX8_site_34 : decode cX8_site 34 = .ok (.areturn, 1) := dk_176 (dk_at dksX8_site_1 12 rfl rfl)
theorem dX8_site_35 : decode cX8_site 35 = .ok (.aload_n 0, 1) := dk_42 (dk_at dksX8_site_1 13 rfl rfl)
theorem dX8_site_36 : decode cX8_site 36 = .ok (.getfield 3, 3) := dk_180 0 3 (dk_at dksX8_site_1 14 rfl rfl)
theorem dX8_site_39 : decode cX8_site 39 = .ok (.getfield 15, 3) := dk_180 0 15 (dk_at dksX8_site_1 17 rfl rfl)
theorem dX8_site_42 : decode cX8_site 42 = .ok (.iload_n 2, 1) := dk_28 (dk_at dksX8_site_1 20 rfl rfl)
theorem dX8_site_43 : decode cX8_site 43 = .ok (.invokevirtual 71, 3) := dk_182 0 71 (dk_at dksX8_site_1 21 rfl rfl)
theorem dX8_site_46 : decode cX8_site 46 = .ok (.ifCond .ne 9, 3) := dk_154 0 9 (dk_at dksX8_site_2 0 rfl rfl)
theorem dX8_site_49 : decode cX8_site 49 = .ok (.aload_n 0, 1) := dk_42 (dk_at dksX8_site_2 3 rfl rfl)
theorem dX8_site_50 : decode cX8_site 50 = .ok (.aload_n 1, 1) := dk_43 (dk_at dksX8_site_2 4 rfl rfl)
theorem dX8_site_51 : decode cX8_site 51 = .ok (.invokevirtual 75, 3) := dk_182 0 75 (dk_at dksX8_site_2 5 rfl rfl)
theorem dX8_site_54 : decode cX8_site 54 = .ok (.areturn, 1) := dk_176 (dk_at dksX8_site_2 8 rfl rfl)
theorem dX8_site_55 : decode cX8_site 55 = .ok (.aload_n 0, 1) := dk_42 (dk_at dksX8_site_2 9 rfl rfl)
theorem dX8_site_56 : decode cX8_site 56 = .ok (.getfield 3, 3) := dk_180 0 3 (dk_at dksX8_site_2 10 rfl rfl)
theorem dX8_site_59 : decode cX8_site 59 = .ok (.getfield 15, 3) := dk_180 0 15 (dk_at dksX8_site_2 13 rfl rfl)
theorem dX8_site_62 : decode cX8_site 62 = .ok (.getfield 78, 3) := dk_180 0 78 (dk_at dksX8_site_2 16 rfl rfl)
theorem dX8_site_65 : decode cX8_site 65 = .ok (.iload_n 2, 1) := dk_28 (dk_at dksX8_site_2 19 rfl rfl)
theorem dX8_site_66 : decode cX8_site 66 = .ok (.aaload, 1) := dk_50 (dk_at dksX8_site_2 20 rfl rfl)
theorem dX8_site_67 : decode cX8_site 67 = .ok (.astore_n 3, 1) := dk_78 (dk_at dksX8_site_2 21 rfl rfl)
theorem dX8_site_68 : decode cX8_site 68 = .ok (.aload_n 0, 1) := dk_42 (dk_at dksX8_site_2 22 rfl rfl)
theorem dX8_site_69 : decode cX8_site 69 = .ok (.getfield 3, 3) := dk_180 0 3 (dk_at dksX8_site_3 0 rfl rfl)
theorem dX8_site_72 : decode cX8_site 72 = .ok (.getfield 15, 3) := dk_180 0 15 (dk_at dksX8_site_3 3 rfl rfl)
theorem dX8_site_75 : decode cX8_site 75 = .ok (.getfield 82, 3) := dk_180 0 82 (dk_at dksX8_site_3 6 rfl rfl)
theorem dX8_site_78 : decode cX8_site 78 = .ok (.aload_n 3, 1) := dk_45 (dk_at dksX8_site_3 9 rfl rfl)
theorem dX8_site_79 : decode cX8_site 79 = .ok (.getfield 85, 3) := dk_180 0 85 (dk_at dksX8_site_3 10 rfl rfl)
theorem dX8_site_82 : decode cX8_site 82 = .ok (.aaload, 1) := dk_50 (dk_at dksX8_site_3 13 rfl rfl)
theorem dX8_site_83 : decode cX8_site 83 = .ok (.getfield 62, 3) := dk_180 0 62 (dk_at dksX8_site_3 14 rfl rfl)
theorem dX8_site_86 : decode cX8_site 86 = .ok (.istore 4, 2) := dk_54 4 (dk_at dksX8_site_3 17 rfl rfl)
theorem dX8_site_88 : decode cX8_site 88 = .ok (.aload_n 0, 1) := dk_42 (dk_at dksX8_site_3 19 rfl rfl)
theorem dX8_site_89 : decode cX8_site 89 = .ok (.aload_n 1, 1) := dk_43 (dk_at dksX8_site_3 20 rfl rfl)
theorem dX8_site_90 : decode cX8_site 90 = .ok (.aload_n 3, 1) := dk_45 (dk_at dksX8_site_3 21 rfl rfl)
theorem dX8_site_91 : decode cX8_site 91 = .ok (.iload 4, 2) := dk_21 4 (dk_at dksX8_site_3 22 rfl rfl)
theorem dX8_site_93 : decode cX8_site 93 = .ok (.invokevirtual 90, 3) := dk_182 0 90 (dk_at dksX8_site_4 0 rfl rfl)
theorem dX8_site_96 : decode cX8_site 96 = .ok (.istore 5, 2) := dk_54 5 (dk_at dksX8_site_4 3 rfl rfl)
theorem dX8_site_98 : decode cX8_site 98 = .ok (.iload 5, 2) := dk_21 5 (dk_at dksX8_site_4 5 rfl rfl)
theorem dX8_site_100 : decode cX8_site 100 = .ok (.ifCond .eq 11, 3) := dk_153 0 11 (dk_at dksX8_site_4 7 rfl rfl)
theorem dX8_site_103 : decode cX8_site 103 = .ok (.aload_n 0, 1) := dk_42 (dk_at dksX8_site_4 10 rfl rfl)
theorem dX8_site_104 : decode cX8_site 104 = .ok (.aload_n 1, 1) := dk_43 (dk_at dksX8_site_4 11 rfl rfl)
theorem dX8_site_105 : decode cX8_site 105 = .ok (.iload 5, 2) := dk_21 5 (dk_at dksX8_site_4 12 rfl rfl)
theorem dX8_site_107 : decode cX8_site 107 = .ok (.invokevirtual 67, 3) := dk_182 0 67 (dk_at dksX8_site_4 14 rfl rfl)
theorem dX8_site_110 : decode cX8_site 110 = .ok (.areturn, 1) := dk_176 (dk_at dksX8_site_4 17 rfl rfl)
theorem dX8_site_111 : decode cX8_site 111 = .ok (.iload 4, 2) := dk_21 4 (dk_at dksX8_site_4 18 rfl rfl)
theorem dX8_site_113 : decode cX8_site 113 = .ok (.anewarray 26, 3) := dk_189 0 26 (dk_at dksX8_site_4 20 rfl rfl)
theorem dX8_site_116 : decode cX8_site 116 = .ok (.astore 6, 2) := dk_58 6 (dk_at dksX8_site_5 0 rfl rfl)
theorem dX8_site_118 : decode cX8_site 118 = .ok (.iconst 0, 1) := dk_3 (dk_at dksX8_site_5 2 rfl rfl)
theorem dX8_site_119 : decode cX8_site 119 = .ok (.istore 7, 2) := dk_54 7 (dk_at dksX8_site_5 3 rfl rfl)
theorem dX8_site_121 : decode cX8_site 121 = .ok (.iload 7, 2) := dk_21 7 (dk_at dksX8_site_5 5 rfl rfl)
theorem dX8_site_123 : decode cX8_site 123 = .ok (.iload 4, 2) := dk_21 4 (dk_at dksX8_site_5 7 rfl rfl)
theorem dX8_site_125 : decode cX8_site 125 = .ok (.if_icmp .ge 54, 3) := dk_162 0 54 (dk_at dksX8_site_5 9 rfl rfl)
theorem dX8_site_128 : decode cX8_site 128 = .ok (.aload_n 3, 1) := dk_45 (dk_at dksX8_site_5 12 rfl rfl)
theorem dX8_site_129 : decode cX8_site 129 = .ok (.getfield 94, 3) := dk_180 0 94 (dk_at dksX8_site_5 13 rfl rfl)
theorem dX8_site_132 : decode cX8_site 132 = .ok (.iload 7, 2) := dk_21 7 (dk_at dksX8_site_5 16 rfl rfl)
theorem dX8_site_134 : decode cX8_site 134 = .ok (.iaload, 1) := dk_46 (dk_at dksX8_site_5 18 rfl rfl)
theorem dX8_site_135 : decode cX8_site 135 = .ok (.istore 8, 2) := dk_54 8 (dk_at dksX8_site_5 19 rfl rfl)
theorem dX8_site_137 : decode cX8_site 137 = .ok (.aload 6, 2) := dk_25 6 (dk_at dksX8_site_5 21 rfl rfl)
theorem dX8_site_139 : decode cX8_site 139 = .ok (.iload 7, 2) := dk_21 7 (dk_at dksX8_site_6 0 rfl rfl)
theorem dX8_site_141 : decode cX8_site 141 = .ok (.iload 8, 2) := dk_21 8 (dk_at dksX8_site_6 2 rfl rfl)
theorem dX8_site_143 : decode cX8_site 143 = .ok (.ifCond .lt 20, 3) := dk_155 0 20 (dk_at dksX8_site_6 4 rfl rfl)
theorem dX8_site_146 : decode cX8_site 146 = .ok (.new 26, 3) := dk_187 0 26 (dk_at dksX8_site_6 7 rfl rfl)
theorem dX8_site_149 : decode cX8_site 149 = .ok (.dup, 1) := dk_89 (dk_at dksX8_site_6 10 rfl rfl)
theorem dX8_site_150 : decode cX8_site 150 = .ok (.iconst 0, 1) := dk_3 (dk_at dksX8_site_6 11 rfl rfl)
theorem dX8_site_151 : decode cX8_site 151 = .ok (.iload 8, 2) := dk_21 8 (dk_at dksX8_site_6 12 rfl rfl)
theorem dX8_site_153 : decode cX8_site 153 = .ok (.iconst 0, 1) := dk_3 (dk_at dksX8_site_6 14 rfl rfl)
theorem dX8_site_154 : decode cX8_site 154 = .ok (.anewarray 26, 3) := dk_189 0 26 (dk_at dksX8_site_6 15 rfl rfl)
theorem dX8_site_157 : decode cX8_site 157 = .ok (.invokespecial 48, 3) := dk_183 0 48 (dk_at dksX8_site_6 18 rfl rfl)
theorem dX8_site_160 : decode cX8_site 160 = .ok (.goto 12, 3) := dk_167 0 12 (dk_at dksX8_site_6 21 rfl rfl)
theorem dX8_site_163 : decode cX8_site 163 = .ok (.aload_n 1, 1) := dk_43 (dk_at dksX8_site_7 0 rfl rfl)
theorem dX8_site_164 : decode cX8_site 164 = .ok (.getfield 34, 3) := dk_180 0 34 (dk_at dksX8_site_7 1 rfl rfl)
theorem dX8_site_167 : decode cX8_site 167 = .ok (.iconst (-1), 1) := dk_2 (dk_at dksX8_site_7 4 rfl rfl)
theorem dX8_site_168 : decode cX8_site 168 = .ok (.iload 8, 2) := dk_21 8 (dk_at dksX8_site_7 5 rfl rfl)
theorem dX8_site_170 : decode cX8_site 170 = .ok (.isub, 1) := dk_100 (dk_at dksX8_site_7 7 rfl rfl)
theorem dX8_site_171 : decode cX8_site 171 = .ok (.aaload, 1) := dk_50 (dk_at dksX8_site_7 8 rfl rfl)
theorem dX8_site_172 : decode cX8_site 172 = .ok (.aastore, 1) := dk_83 (dk_at dksX8_site_7 9 rfl rfl)
theorem dX8_site_173 : decode cX8_site 173 = .ok (.iinc 7 1, 3) := dk_132 7 1 (dk_at dksX8_site_7 10 rfl rfl)
theorem dX8_site_176 : decode cX8_site 176 = .ok (.goto (-55), 3) := dk_167 255 201 (dk_at dksX8_site_7 13 rfl rfl)
theorem dX8_site_179 : decode cX8_site 179 = .ok (.new 26, 3) := dk_187 0 26 (dk_at dksX8_site_7 16 rfl rfl)
theorem dX8_site_182 : decode cX8_site 182 = .ok (.dup, 1) := dk_89 (dk_at dksX8_site_7 19 rfl rfl)
theorem dX8_site_183 : decode cX8_site 183 = .ok (.iconst 3, 1) := dk_6 (dk_at dksX8_site_7 20 rfl rfl)
theorem dX8_site_184 : decode cX8_site 184 = .ok (.aload_n 3, 1) := dk_45 (dk_at dksX8_site_7 21 rfl rfl)
theorem dX8_site_185 : decode cX8_site 185 = .ok (.getfield 85, 3) := dk_180 0 85 (dk_at dksX8_site_8 0 rfl rfl)
theorem dX8_site_188 : decode cX8_site 188 = .ok (.aload 6, 2) := dk_25 6 (dk_at dksX8_site_8 3 rfl rfl)
theorem dX8_site_190 : decode cX8_site 190 = .ok (.invokespecial 48, 3) := dk_183 0 48 (dk_at dksX8_site_8 5 rfl rfl)
theorem dX8_site_193 : decode cX8_site 193 = .ok (.astore 7, 2) := dk_58 7 (dk_at dksX8_site_8 8 rfl rfl)
theorem dX8_site_195 : decode cX8_site 195 = .ok (.aload_n 0, 1) := dk_42 (dk_at dksX8_site_8 10 rfl rfl)
theorem dX8_site_196 : decode cX8_site 196 = .ok (.getfield 31, 3) := dk_180 0 31 (dk_at dksX8_site_8 11 rfl rfl)
theorem dX8_site_199 : decode cX8_site 199 = .ok (.aload_n 1, 1) := dk_43 (dk_at dksX8_site_8 14 rfl rfl)
theorem dX8_site_200 : decode cX8_site 200 = .ok (.getfield 25, 3) := dk_180 0 25 (dk_at dksX8_site_8 15 rfl rfl)
theorem dX8_site_203 : decode cX8_site 203 = .ok (.isub, 1) := dk_100 (dk_at dksX8_site_8 18 rfl rfl)
theorem dX8_site_204 : decode cX8_site 204 = .ok (.aload 7, 2) := dk_25 7 (dk_at dksX8_site_8 19 rfl rfl)
theorem dX8_site_206 : decode cX8_site 206 = .ok (.getfield 25, 3) := dk_180 0 25 (dk_at dksX8_site_8 21 rfl rfl)
theorem dX8_site_209 : decode cX8_site 209 = .ok (.iadd, 1) := dk_96 (dk_at dksX8_site_9 0 rfl rfl)
theorem dX8_site_210 : decode cX8_site 210 = .ok (.bipush 30, 2) := dk_16 30 (dk_at dksX8_site_9 1 rfl rfl)
theorem dX8_site_212 : decode cX8_site 212 = .ok (.if_icmp .le 11, 3) := dk_164 0 11 (dk_at dksX8_site_9 3 rfl rfl)
theorem dX8_site_215 : decode cX8_site 215 = .ok (.aload_n 0, 1) := dk_42 (dk_at dksX8_site_9 6 rfl rfl)
theorem dX8_site_216 : decode cX8_site 216 = .ok (.aload_n 1, 1) := dk_43 (dk_at dksX8_site_9 7 rfl rfl)
theorem dX8_site_217 : decode cX8_site 217 = .ok (.bipush 7, 2) := dk_16 7 (dk_at dksX8_site_9 8 rfl rfl)
theorem dX8_site_219 : decode cX8_site 219 = .ok (.invokevirtual 67, 3) := dk_182 0 67 (dk_at dksX8_site_9 10 rfl rfl)
theorem dX8_site_222 : decode cX8_site 222 = .ok (.areturn, 1) := dk_176 (dk_at dksX8_site_9 13 rfl rfl)
theorem dX8_site_223 : decode cX8_site 223 = .ok (.aload_n 0, 1) := dk_42 (dk_at dksX8_site_9 14 rfl rfl)
theorem dX8_site_224 : decode cX8_site 224 = .ok (.dup, 1) := dk_89 (dk_at dksX8_site_9 15 rfl rfl)
theorem dX8_site_225 : decode cX8_site 225 = .ok (.getfield 31, 3) := dk_180 0 31 (dk_at dksX8_site_9 16 rfl rfl)
theorem dX8_site_228 : decode cX8_site 228 = .ok (.aload 7, 2) := dk_25 7 (dk_at dksX8_site_9 19 rfl rfl)
theorem dX8_site_230 : decode cX8_site 230 = .ok (.getfield 25, 3) := dk_180 0 25 (dk_at dksX8_site_9 21 rfl rfl)
theorem dX8_site_233 : decode cX8_site 233 = .ok (.aload_n 1, 1) := dk_43 (dk_at dksX8_site_10 0 rfl rfl)
theorem dX8_site_234 : decode cX8_site 234 = .ok (.getfield 25, 3) := dk_180 0 25 (dk_at dksX8_site_10 1 rfl rfl)
theorem dX8_site_237 : decode cX8_site 237 = .ok (.isub, 1) := dk_100 (dk_at dksX8_site_10 4 rfl rfl)
theorem dX8_site_238 : decode cX8_site 238 = .ok (.iadd, 1) := dk_96 (dk_at dksX8_site_10 5 rfl rfl)
theorem dX8_site_239 : decode cX8_site 239 = .ok (.putfield 31, 3) := dk_181 0 31 (dk_at dksX8_site_10 6 rfl rfl)
theorem dX8_site_242 : decode cX8_site 242 = .ok (.aload_n 0, 1) := dk_42 (dk_at dksX8_site_10 9 rfl rfl)
theorem dX8_site_243 : decode cX8_site 243 = .ok (.dup, 1) := dk_89 (dk_at dksX8_site_10 10 rfl rfl)
theorem dX8_site_244 : decode cX8_site 244 = .ok (.getfield 97, 3) := dk_180 0 97 (dk_at dksX8_site_10 11 rfl rfl)
theorem dX8_site_247 : decode cX8_site 247 = .ok (.iconst 1, 1) := dk_4 (dk_at dksX8_site_10 14 rfl rfl)
theorem dX8_site_248 : decode cX8_site 248 = .ok (.iadd, 1) := dk_96 (dk_at dksX8_site_10 15 rfl rfl)
theorem dX8_site_249 : decode cX8_site 249 = .ok (.putfield 97, 3) := dk_181 0 97 (dk_at dksX8_site_10 16 rfl rfl)
theorem dX8_site_252 : decode cX8_site 252 = .ok (.aload 7, 2) := dk_25 7 (dk_at dksX8_site_10 19 rfl rfl)
theorem dX8_site_254 : decode cX8_site 254 = .ok (.areturn, 1) := dk_176 (dk_at dksX8_site_10 21 rfl rfl)
abbrev cX8_leave : ByteArray := prog_4_method_3_code
def yX8_leave : MethodName := ⟨RX8, "leave", "(LCallMigrator$Node;I)LCallMigrator$Node;"⟩
def dkwX8_leave_0 : List UInt8 := [42, 180, 0, 3, 180, 0, 15, 180, 0, 54, 28, 92, 46, 4, 96, 79, 43, 176]
abbrev dktX8_leave_0 : List UInt8 := dkwX8_leave_0 ++ []
theorem dksX8_leave_0 : cX8_leave.data.toList.drop 0 = dktX8_leave_0 := by decide +kernel
theorem dX8_leave_0 : decode cX8_leave 0 = .ok (.aload_n 0, 1) := dk_42 (dk_at dksX8_leave_0 0 rfl rfl)
theorem dX8_leave_1 : decode cX8_leave 1 = .ok (.getfield 3, 3) := dk_180 0 3 (dk_at dksX8_leave_0 1 rfl rfl)
theorem dX8_leave_4 : decode cX8_leave 4 = .ok (.getfield 15, 3) := dk_180 0 15 (dk_at dksX8_leave_0 4 rfl rfl)
theorem dX8_leave_7 : decode cX8_leave 7 = .ok (.getfield 54, 3) := dk_180 0 54 (dk_at dksX8_leave_0 7 rfl rfl)
theorem dX8_leave_10 : decode cX8_leave 10 = .ok (.iload_n 2, 1) := dk_28 (dk_at dksX8_leave_0 10 rfl rfl)
theorem dX8_leave_11 : decode cX8_leave 11 = .ok (.dup2, 1) := dk_92 (dk_at dksX8_leave_0 11 rfl rfl)
theorem dX8_leave_12 : decode cX8_leave 12 = .ok (.iaload, 1) := dk_46 (dk_at dksX8_leave_0 12 rfl rfl)
theorem dX8_leave_13 : decode cX8_leave 13 = .ok (.iconst 1, 1) := dk_4 (dk_at dksX8_leave_0 13 rfl rfl)
theorem dX8_leave_14 : decode cX8_leave 14 = .ok (.iadd, 1) := dk_96 (dk_at dksX8_leave_0 14 rfl rfl)
theorem dX8_leave_15 : decode cX8_leave 15 = .ok (.iastore, 1) := dk_79 (dk_at dksX8_leave_0 15 rfl rfl)
theorem dX8_leave_16 : decode cX8_leave 16 = .ok (.aload_n 1, 1) := dk_43 (dk_at dksX8_leave_0 16 rfl rfl)
theorem dX8_leave_17 : decode cX8_leave 17 = .ok (.areturn, 1) := dk_176 (dk_at dksX8_leave_0 17 rfl rfl)
abbrev cX8_adapt : ByteArray := prog_4_method_5_code
def yX8_adapt : MethodName := ⟨RX8, "adapt", "(LCallMigrator$Node;)LCallMigrator$Node;"⟩
def dkwX8_adapt_9 : List UInt8 := [176]
abbrev dktX8_adapt_9 : List UInt8 := dkwX8_adapt_9 ++ []
def dkwX8_adapt_8 : List UInt8 := [187, 0, 26, 89, 7, 42, 180, 0, 3, 180, 0, 15, 180, 0, 103, 28, 46, 43, 180, 0, 34, 183, 0, 48]
abbrev dktX8_adapt_8 : List UInt8 := dkwX8_adapt_8 ++ dktX8_adapt_9
def dkwX8_adapt_7 : List UInt8 := [199, 0, 7, 5, 167, 0, 4, 6, 182, 0, 67, 176, 42, 89, 180, 0, 97, 4, 96, 181, 0, 97]
abbrev dktX8_adapt_7 : List UInt8 := dkwX8_adapt_7 ++ dktX8_adapt_8
def dkwX8_adapt_6 : List UInt8 := [180, 0, 103, 28, 46, 2, 160, 0, 29, 42, 43, 42, 180, 0, 3, 180, 0, 15, 180, 0, 78, 28, 50]
abbrev dktX8_adapt_6 : List UInt8 := dkwX8_adapt_6 ++ dktX8_adapt_7
def dkwX8_adapt_5 : List UInt8 := [181, 0, 106, 42, 180, 0, 3, 180, 0, 15, 180, 0, 100, 153, 0, 19, 42, 180, 0, 3, 180, 0, 15]
abbrev dktX8_adapt_5 : List UInt8 := dkwX8_adapt_5 ++ dktX8_adapt_6
def dkwX8_adapt_4 : List UInt8 := [180, 0, 3, 180, 0, 15, 180, 0, 106, 79, 42, 180, 0, 3, 180, 0, 15, 89, 180, 0, 106, 4, 96]
abbrev dktX8_adapt_4 : List UInt8 := dkwX8_adapt_4 ++ dktX8_adapt_5
def dkwX8_adapt_3 : List UInt8 := [180, 0, 3, 180, 0, 15, 180, 0, 58, 28, 50, 83, 42, 180, 0, 3, 180, 0, 15, 180, 0, 103, 28, 42]
abbrev dktX8_adapt_3 : List UInt8 := dkwX8_adapt_3 ++ dktX8_adapt_4
def dkwX8_adapt_2 : List UInt8 := [162, 0, 74, 42, 180, 0, 3, 180, 0, 15, 180, 0, 109, 42, 180, 0, 3, 180, 0, 15, 180, 0, 106, 42]
abbrev dktX8_adapt_2 : List UInt8 := dkwX8_adapt_2 ++ dktX8_adapt_3
def dkwX8_adapt_1 : List UInt8 := [180, 0, 15, 180, 0, 103, 28, 46, 2, 160, 0, 88, 42, 180, 0, 3, 180, 0, 15, 180, 0, 106, 7]
abbrev dktX8_adapt_1 : List UInt8 := dkwX8_adapt_1 ++ dktX8_adapt_2
def dkwX8_adapt_0 : List UInt8 := [43, 180, 0, 45, 61, 42, 180, 0, 3, 180, 0, 15, 180, 0, 100, 4, 160, 0, 104, 42, 180, 0, 3]
abbrev dktX8_adapt_0 : List UInt8 := dkwX8_adapt_0 ++ dktX8_adapt_1
theorem dksX8_adapt_0 : cX8_adapt.data.toList.drop 0 = dktX8_adapt_0 := by decide +kernel
theorem dksX8_adapt_1 : cX8_adapt.data.toList.drop 23 = dktX8_adapt_1 := dk_seg dksX8_adapt_0 23 rfl rfl
theorem dksX8_adapt_2 : cX8_adapt.data.toList.drop 46 = dktX8_adapt_2 := dk_seg dksX8_adapt_1 23 rfl rfl
theorem dksX8_adapt_3 : cX8_adapt.data.toList.drop 70 = dktX8_adapt_3 := dk_seg dksX8_adapt_2 24 rfl rfl
theorem dksX8_adapt_4 : cX8_adapt.data.toList.drop 94 = dktX8_adapt_4 := dk_seg dksX8_adapt_3 24 rfl rfl
theorem dksX8_adapt_5 : cX8_adapt.data.toList.drop 117 = dktX8_adapt_5 := dk_seg dksX8_adapt_4 23 rfl rfl
theorem dksX8_adapt_6 : cX8_adapt.data.toList.drop 140 = dktX8_adapt_6 := dk_seg dksX8_adapt_5 23 rfl rfl
theorem dksX8_adapt_7 : cX8_adapt.data.toList.drop 163 = dktX8_adapt_7 := dk_seg dksX8_adapt_6 23 rfl rfl
theorem dksX8_adapt_8 : cX8_adapt.data.toList.drop 185 = dktX8_adapt_8 := dk_seg dksX8_adapt_7 22 rfl rfl
theorem dksX8_adapt_9 : cX8_adapt.data.toList.drop 209 = dktX8_adapt_9 := dk_seg dksX8_adapt_8 24 rfl rfl
theorem dX8_adapt_0 : decode cX8_adapt 0 = .ok (.aload_n 1, 1) := dk_43 (dk_at dksX8_adapt_0 0 rfl rfl)
theorem dX8_adapt_1 : decode cX8_adapt 1 = .ok (.getfield 45, 3) := dk_180 0 45 (dk_at dksX8_adapt_0 1 rfl rfl)
theorem dX8_adapt_4 : decode cX8_adapt 4 = .ok (.istore_n 2, 1) := dk_61 (dk_at dksX8_adapt_0 4 rfl rfl)
theorem dX8_adapt_5 : decode cX8_adapt 5 = .ok (.aload_n 0, 1) := dk_42 (dk_at dksX8_adapt_0 5 rfl rfl)
theorem dX8_adapt_6 : decode cX8_adapt 6 = .ok (.getfield 3, 3) := dk_180 0 3 (dk_at dksX8_adapt_0 6 rfl rfl)
theorem dX8_adapt_9 : decode cX8_adapt 9 = .ok (.getfield 15, 3) := dk_180 0 15 (dk_at dksX8_adapt_0 9 rfl rfl)
theorem dX8_adapt_12 : decode cX8_adapt 12 = .ok (.getfield 100, 3) := dk_180 0 100 (dk_at dksX8_adapt_0 12 rfl rfl)
theorem dX8_adapt_15 : decode cX8_adapt 15 = .ok (.iconst 1, 1) := dk_4 (dk_at dksX8_adapt_0 15 rfl rfl)
theorem dX8_adapt_16 : decode cX8_adapt 16 = .ok (.if_icmp .ne 104, 3) := dk_160 0 104 (dk_at dksX8_adapt_0 16 rfl rfl)
theorem dX8_adapt_19 : decode cX8_adapt 19 = .ok (.aload_n 0, 1) := dk_42 (dk_at dksX8_adapt_0 19 rfl rfl)
theorem dX8_adapt_20 : decode cX8_adapt 20 = .ok (.getfield 3, 3) := dk_180 0 3 (dk_at dksX8_adapt_0 20 rfl rfl)
theorem dX8_adapt_23 : decode cX8_adapt 23 = .ok (.getfield 15, 3) := dk_180 0 15 (dk_at dksX8_adapt_1 0 rfl rfl)
theorem dX8_adapt_26 : decode cX8_adapt 26 = .ok (.getfield 103, 3) := dk_180 0 103 (dk_at dksX8_adapt_1 3 rfl rfl)
theorem dX8_adapt_29 : decode cX8_adapt 29 = .ok (.iload_n 2, 1) := dk_28 (dk_at dksX8_adapt_1 6 rfl rfl)
theorem dX8_adapt_30 : decode cX8_adapt 30 = .ok (.iaload, 1) := dk_46 (dk_at dksX8_adapt_1 7 rfl rfl)
theorem dX8_adapt_31 : decode cX8_adapt 31 = .ok (.iconst (-1), 1) := dk_2 (dk_at dksX8_adapt_1 8 rfl rfl)
theorem dX8_adapt_32 : decode cX8_adapt 32 = .ok (.if_icmp .ne 88, 3) := dk_160 0 88 (dk_at dksX8_adapt_1 9 rfl rfl)
theorem dX8_adapt_35 : decode cX8_adapt 35 = .ok (.aload_n 0, 1) := dk_42 (dk_at dksX8_adapt_1 12 rfl rfl)
theorem dX8_adapt_36 : decode cX8_adapt 36 = .ok (.getfield 3, 3) := dk_180 0 3 (dk_at dksX8_adapt_1 13 rfl rfl)
theorem dX8_adapt_39 : decode cX8_adapt 39 = .ok (.getfield 15, 3) := dk_180 0 15 (dk_at dksX8_adapt_1 16 rfl rfl)
theorem dX8_adapt_42 : decode cX8_adapt 42 = .ok (.getfield 106, 3) := dk_180 0 106 (dk_at dksX8_adapt_1 19 rfl rfl)
theorem dX8_adapt_45 : decode cX8_adapt 45 = .ok (.iconst 4, 1) := dk_7 (dk_at dksX8_adapt_1 22 rfl rfl)
theorem dX8_adapt_46 : decode cX8_adapt 46 = .ok (.if_icmp .ge 74, 3) := dk_162 0 74 (dk_at dksX8_adapt_2 0 rfl rfl)
theorem dX8_adapt_49 : decode cX8_adapt 49 = .ok (.aload_n 0, 1) := dk_42 (dk_at dksX8_adapt_2 3 rfl rfl)
theorem dX8_adapt_50 : decode cX8_adapt 50 = .ok (.getfield 3, 3) := dk_180 0 3 (dk_at dksX8_adapt_2 4 rfl rfl)
theorem dX8_adapt_53 : decode cX8_adapt 53 = .ok (.getfield 15, 3) := dk_180 0 15 (dk_at dksX8_adapt_2 7 rfl rfl)
theorem dX8_adapt_56 : decode cX8_adapt 56 = .ok (.getfield 109, 3) := dk_180 0 109 (dk_at dksX8_adapt_2 10 rfl rfl)
theorem dX8_adapt_59 : decode cX8_adapt 59 = .ok (.aload_n 0, 1) := dk_42 (dk_at dksX8_adapt_2 13 rfl rfl)
theorem dX8_adapt_60 : decode cX8_adapt 60 = .ok (.getfield 3, 3) := dk_180 0 3 (dk_at dksX8_adapt_2 14 rfl rfl)
theorem dX8_adapt_63 : decode cX8_adapt 63 = .ok (.getfield 15, 3) := dk_180 0 15 (dk_at dksX8_adapt_2 17 rfl rfl)
theorem dX8_adapt_66 : decode cX8_adapt 66 = .ok (.getfield 106, 3) := dk_180 0 106 (dk_at dksX8_adapt_2 20 rfl rfl)
theorem dX8_adapt_69 : decode cX8_adapt 69 = .ok (.aload_n 0, 1) := dk_42 (dk_at dksX8_adapt_2 23 rfl rfl)
theorem dX8_adapt_70 : decode cX8_adapt 70 = .ok (.getfield 3, 3) := dk_180 0 3 (dk_at dksX8_adapt_3 0 rfl rfl)
theorem dX8_adapt_73 : decode cX8_adapt 73 = .ok (.getfield 15, 3) := dk_180 0 15 (dk_at dksX8_adapt_3 3 rfl rfl)
theorem dX8_adapt_76 : decode cX8_adapt 76 = .ok (.getfield 58, 3) := dk_180 0 58 (dk_at dksX8_adapt_3 6 rfl rfl)
theorem dX8_adapt_79 : decode cX8_adapt 79 = .ok (.iload_n 2, 1) := dk_28 (dk_at dksX8_adapt_3 9 rfl rfl)
theorem dX8_adapt_80 : decode cX8_adapt 80 = .ok (.aaload, 1) := dk_50 (dk_at dksX8_adapt_3 10 rfl rfl)
theorem dX8_adapt_81 : decode cX8_adapt 81 = .ok (.aastore, 1) := dk_83 (dk_at dksX8_adapt_3 11 rfl rfl)
theorem dX8_adapt_82 : decode cX8_adapt 82 = .ok (.aload_n 0, 1) := dk_42 (dk_at dksX8_adapt_3 12 rfl rfl)
theorem dX8_adapt_83 : decode cX8_adapt 83 = .ok (.getfield 3, 3) := dk_180 0 3 (dk_at dksX8_adapt_3 13 rfl rfl)
theorem dX8_adapt_86 : decode cX8_adapt 86 = .ok (.getfield 15, 3) := dk_180 0 15 (dk_at dksX8_adapt_3 16 rfl rfl)
theorem dX8_adapt_89 : decode cX8_adapt 89 = .ok (.getfield 103, 3) := dk_180 0 103 (dk_at dksX8_adapt_3 19 rfl rfl)
theorem dX8_adapt_92 : decode cX8_adapt 92 = .ok (.iload_n 2, 1) := dk_28 (dk_at dksX8_adapt_3 22 rfl rfl)
theorem dX8_adapt_93 : decode cX8_adapt 93 = .ok (.aload_n 0, 1) := dk_42 (dk_at dksX8_adapt_3 23 rfl rfl)
theorem dX8_adapt_94 : decode cX8_adapt 94 = .ok (.getfield 3, 3) := dk_180 0 3 (dk_at dksX8_adapt_4 0 rfl rfl)
theorem dX8_adapt_97 : decode cX8_adapt 97 = .ok (.getfield 15, 3) := dk_180 0 15 (dk_at dksX8_adapt_4 3 rfl rfl)
theorem dX8_adapt_100 : decode cX8_adapt 100 = .ok (.getfield 106, 3) := dk_180 0 106 (dk_at dksX8_adapt_4 6 rfl rfl)
theorem dX8_adapt_103 : decode cX8_adapt 103 = .ok (.iastore, 1) := dk_79 (dk_at dksX8_adapt_4 9 rfl rfl)
theorem dX8_adapt_104 : decode cX8_adapt 104 = .ok (.aload_n 0, 1) := dk_42 (dk_at dksX8_adapt_4 10 rfl rfl)
theorem dX8_adapt_105 : decode cX8_adapt 105 = .ok (.getfield 3, 3) := dk_180 0 3 (dk_at dksX8_adapt_4 11 rfl rfl)
theorem dX8_adapt_108 : decode cX8_adapt 108 = .ok (.getfield 15, 3) := dk_180 0 15 (dk_at dksX8_adapt_4 14 rfl rfl)
theorem dX8_adapt_111 : decode cX8_adapt 111 = .ok (.dup, 1) := dk_89 (dk_at dksX8_adapt_4 17 rfl rfl)
theorem dX8_adapt_112 : decode cX8_adapt 112 = .ok (.getfield 106, 3) := dk_180 0 106 (dk_at dksX8_adapt_4 18 rfl rfl)
theorem dX8_adapt_115 : decode cX8_adapt 115 = .ok (.iconst 1, 1) := dk_4 (dk_at dksX8_adapt_4 21 rfl rfl)
theorem dX8_adapt_116 : decode cX8_adapt 116 = .ok (.iadd, 1) := dk_96 (dk_at dksX8_adapt_4 22 rfl rfl)
theorem dX8_adapt_117 : decode cX8_adapt 117 = .ok (.putfield 106, 3) := dk_181 0 106 (dk_at dksX8_adapt_5 0 rfl rfl)
theorem dX8_adapt_120 : decode cX8_adapt 120 = .ok (.aload_n 0, 1) := dk_42 (dk_at dksX8_adapt_5 3 rfl rfl)
theorem dX8_adapt_121 : decode cX8_adapt 121 = .ok (.getfield 3, 3) := dk_180 0 3 (dk_at dksX8_adapt_5 4 rfl rfl)
theorem dX8_adapt_124 : decode cX8_adapt 124 = .ok (.getfield 15, 3) := dk_180 0 15 (dk_at dksX8_adapt_5 7 rfl rfl)
theorem dX8_adapt_127 : decode cX8_adapt 127 = .ok (.getfield 100, 3) := dk_180 0 100 (dk_at dksX8_adapt_5 10 rfl rfl)
theorem dX8_adapt_130 : decode cX8_adapt 130 = .ok (.ifCond .eq 19, 3) := dk_153 0 19 (dk_at dksX8_adapt_5 13 rfl rfl)
theorem dX8_adapt_133 : decode cX8_adapt 133 = .ok (.aload_n 0, 1) := dk_42 (dk_at dksX8_adapt_5 16 rfl rfl)
theorem dX8_adapt_134 : decode cX8_adapt 134 = .ok (.getfield 3, 3) := dk_180 0 3 (dk_at dksX8_adapt_5 17 rfl rfl)
theorem dX8_adapt_137 : decode cX8_adapt 137 = .ok (.getfield 15, 3) := dk_180 0 15 (dk_at dksX8_adapt_5 20 rfl rfl)
theorem dX8_adapt_140 : decode cX8_adapt 140 = .ok (.getfield 103, 3) := dk_180 0 103 (dk_at dksX8_adapt_6 0 rfl rfl)
theorem dX8_adapt_143 : decode cX8_adapt 143 = .ok (.iload_n 2, 1) := dk_28 (dk_at dksX8_adapt_6 3 rfl rfl)
theorem dX8_adapt_144 : decode cX8_adapt 144 = .ok (.iaload, 1) := dk_46 (dk_at dksX8_adapt_6 4 rfl rfl)
theorem dX8_adapt_145 : decode cX8_adapt 145 = .ok (.iconst (-1), 1) := dk_2 (dk_at dksX8_adapt_6 5 rfl rfl)
theorem dX8_adapt_146 : decode cX8_adapt 146 = .ok (.if_icmp .ne 29, 3) := dk_160 0 29 (dk_at dksX8_adapt_6 6 rfl rfl)
theorem dX8_adapt_149 : decode cX8_adapt 149 = .ok (.aload_n 0, 1) := dk_42 (dk_at dksX8_adapt_6 9 rfl rfl)
theorem dX8_adapt_150 : decode cX8_adapt 150 = .ok (.aload_n 1, 1) := dk_43 (dk_at dksX8_adapt_6 10 rfl rfl)
theorem dX8_adapt_151 : decode cX8_adapt 151 = .ok (.aload_n 0, 1) := dk_42 (dk_at dksX8_adapt_6 11 rfl rfl)
theorem dX8_adapt_152 : decode cX8_adapt 152 = .ok (.getfield 3, 3) := dk_180 0 3 (dk_at dksX8_adapt_6 12 rfl rfl)
theorem dX8_adapt_155 : decode cX8_adapt 155 = .ok (.getfield 15, 3) := dk_180 0 15 (dk_at dksX8_adapt_6 15 rfl rfl)
theorem dX8_adapt_158 : decode cX8_adapt 158 = .ok (.getfield 78, 3) := dk_180 0 78 (dk_at dksX8_adapt_6 18 rfl rfl)
theorem dX8_adapt_161 : decode cX8_adapt 161 = .ok (.iload_n 2, 1) := dk_28 (dk_at dksX8_adapt_6 21 rfl rfl)
theorem dX8_adapt_162 : decode cX8_adapt 162 = .ok (.aaload, 1) := dk_50 (dk_at dksX8_adapt_6 22 rfl rfl)
theorem dX8_adapt_163 : decode cX8_adapt 163 = .ok (.ifnonnull 7, 3) := dk_199 0 7 (dk_at dksX8_adapt_7 0 rfl rfl)
theorem dX8_adapt_166 : decode cX8_adapt 166 = .ok (.iconst 2, 1) := dk_5 (dk_at dksX8_adapt_7 3 rfl rfl)
theorem dX8_adapt_167 : decode cX8_adapt 167 = .ok (.goto 4, 3) := dk_167 0 4 (dk_at dksX8_adapt_7 4 rfl rfl)
theorem dX8_adapt_170 : decode cX8_adapt 170 = .ok (.iconst 3, 1) := dk_6 (dk_at dksX8_adapt_7 7 rfl rfl)
theorem dX8_adapt_171 : decode cX8_adapt 171 = .ok (.invokevirtual 67, 3) := dk_182 0 67 (dk_at dksX8_adapt_7 8 rfl rfl)
theorem dX8_adapt_174 : decode cX8_adapt 174 = .ok (.areturn, 1) := dk_176 (dk_at dksX8_adapt_7 11 rfl rfl)
theorem dX8_adapt_175 : decode cX8_adapt 175 = .ok (.aload_n 0, 1) := dk_42 (dk_at dksX8_adapt_7 12 rfl rfl)
theorem dX8_adapt_176 : decode cX8_adapt 176 = .ok (.dup, 1) := dk_89 (dk_at dksX8_adapt_7 13 rfl rfl)
theorem dX8_adapt_177 : decode cX8_adapt 177 = .ok (.getfield 97, 3) := dk_180 0 97 (dk_at dksX8_adapt_7 14 rfl rfl)
theorem dX8_adapt_180 : decode cX8_adapt 180 = .ok (.iconst 1, 1) := dk_4 (dk_at dksX8_adapt_7 17 rfl rfl)
theorem dX8_adapt_181 : decode cX8_adapt 181 = .ok (.iadd, 1) := dk_96 (dk_at dksX8_adapt_7 18 rfl rfl)
theorem dX8_adapt_182 : decode cX8_adapt 182 = .ok (.putfield 97, 3) := dk_181 0 97 (dk_at dksX8_adapt_7 19 rfl rfl)
theorem dX8_adapt_185 : decode cX8_adapt 185 = .ok (.new 26, 3) := dk_187 0 26 (dk_at dksX8_adapt_8 0 rfl rfl)
theorem dX8_adapt_188 : decode cX8_adapt 188 = .ok (.dup, 1) := dk_89 (dk_at dksX8_adapt_8 3 rfl rfl)
theorem dX8_adapt_189 : decode cX8_adapt 189 = .ok (.iconst 4, 1) := dk_7 (dk_at dksX8_adapt_8 4 rfl rfl)
theorem dX8_adapt_190 : decode cX8_adapt 190 = .ok (.aload_n 0, 1) := dk_42 (dk_at dksX8_adapt_8 5 rfl rfl)
theorem dX8_adapt_191 : decode cX8_adapt 191 = .ok (.getfield 3, 3) := dk_180 0 3 (dk_at dksX8_adapt_8 6 rfl rfl)
theorem dX8_adapt_194 : decode cX8_adapt 194 = .ok (.getfield 15, 3) := dk_180 0 15 (dk_at dksX8_adapt_8 9 rfl rfl)
theorem dX8_adapt_197 : decode cX8_adapt 197 = .ok (.getfield 103, 3) := dk_180 0 103 (dk_at dksX8_adapt_8 12 rfl rfl)
theorem dX8_adapt_200 : decode cX8_adapt 200 = .ok (.iload_n 2, 1) := dk_28 (dk_at dksX8_adapt_8 15 rfl rfl)
theorem dX8_adapt_201 : decode cX8_adapt 201 = .ok (.iaload, 1) := dk_46 (dk_at dksX8_adapt_8 16 rfl rfl)
theorem dX8_adapt_202 : decode cX8_adapt 202 = .ok (.aload_n 1, 1) := dk_43 (dk_at dksX8_adapt_8 17 rfl rfl)
theorem dX8_adapt_203 : decode cX8_adapt 203 = .ok (.getfield 34, 3) := dk_180 0 34 (dk_at dksX8_adapt_8 18 rfl rfl)
theorem dX8_adapt_206 : decode cX8_adapt 206 = .ok (.invokespecial 48, 3) := dk_183 0 48 (dk_at dksX8_adapt_8 21 rfl rfl)
theorem dX8_adapt_209 : decode cX8_adapt 209 = .ok (.areturn, 1) := dk_176 (dk_at dksX8_adapt_9 0 rfl rfl)
abbrev cX8_reason : ByteArray := prog_4_method_6_code
def yX8_reason : MethodName := ⟨RX8, "reason", "(LCallMigrator$Node;LCallMigrator$Mapping;I)I"⟩
def dkwX8_reason_7 : List UInt8 := [167, 0, 23, 21, 5, 153, 0, 7, 8, 167, 0, 14, 21, 6, 153, 0, 8, 16, 6, 167, 0, 4, 3, 172]
abbrev dktX8_reason_7 : List UInt8 := dkwX8_reason_7 ++ []
def dkwX8_reason_6 : List UInt8 := [154, 0, 7, 4, 167, 0, 4, 3, 128, 54, 5, 132, 7, 1, 167, 255, 114, 21, 4, 153, 0, 7, 7]
abbrev dktX8_reason_6 : List UInt8 := dkwX8_reason_6 ++ dktX8_reason_7
def dkwX8_reason_5 : List UInt8 := [167, 255, 187, 21, 4, 21, 8, 4, 164, 0, 7, 4, 167, 0, 4, 3, 128, 54, 4, 21, 5, 21, 8]
abbrev dktX8_reason_5 : List UInt8 := dkwX8_reason_5 ++ dktX8_reason_6
def dkwX8_reason_4 : List UInt8 := [42, 43, 44, 21, 9, 29, 182, 0, 116, 153, 0, 7, 4, 167, 0, 4, 3, 128, 54, 6, 132, 9, 1]
abbrev dktX8_reason_4 : List UInt8 := dkwX8_reason_4 ++ dktX8_reason_5
def dkwX8_reason_3 : List UInt8 := [4, 167, 0, 4, 3, 96, 54, 8, 21, 6, 44, 180, 0, 94, 21, 9, 46, 2, 21, 7, 100, 160, 0, 19]
abbrev dktX8_reason_3 : List UInt8 := dkwX8_reason_3 ++ dktX8_reason_4
def dkwX8_reason_2 : List UInt8 := [54, 9, 21, 9, 29, 162, 0, 69, 21, 8, 44, 180, 0, 94, 21, 9, 46, 2, 21, 7, 100, 160, 0, 7]
abbrev dktX8_reason_2 : List UInt8 := dkwX8_reason_2 ++ dktX8_reason_3
def dkwX8_reason_1 : List UInt8 := [180, 0, 3, 180, 0, 15, 43, 180, 0, 34, 21, 7, 50, 182, 0, 112, 153, 0, 112, 3, 54, 8, 3]
abbrev dktX8_reason_1 : List UInt8 := dkwX8_reason_1 ++ dktX8_reason_2
def dkwX8_reason_0 : List UInt8 := [3, 54, 4, 3, 54, 5, 3, 54, 6, 3, 54, 7, 21, 7, 43, 180, 0, 34, 190, 162, 0, 138, 42]
abbrev dktX8_reason_0 : List UInt8 := dkwX8_reason_0 ++ dktX8_reason_1
theorem dksX8_reason_0 : cX8_reason.data.toList.drop 0 = dktX8_reason_0 := by decide +kernel
theorem dksX8_reason_1 : cX8_reason.data.toList.drop 23 = dktX8_reason_1 := dk_seg dksX8_reason_0 23 rfl rfl
theorem dksX8_reason_2 : cX8_reason.data.toList.drop 46 = dktX8_reason_2 := dk_seg dksX8_reason_1 23 rfl rfl
theorem dksX8_reason_3 : cX8_reason.data.toList.drop 70 = dktX8_reason_3 := dk_seg dksX8_reason_2 24 rfl rfl
theorem dksX8_reason_4 : cX8_reason.data.toList.drop 94 = dktX8_reason_4 := dk_seg dksX8_reason_3 24 rfl rfl
theorem dksX8_reason_5 : cX8_reason.data.toList.drop 117 = dktX8_reason_5 := dk_seg dksX8_reason_4 23 rfl rfl
theorem dksX8_reason_6 : cX8_reason.data.toList.drop 140 = dktX8_reason_6 := dk_seg dksX8_reason_5 23 rfl rfl
theorem dksX8_reason_7 : cX8_reason.data.toList.drop 163 = dktX8_reason_7 := dk_seg dksX8_reason_6 23 rfl rfl
theorem dX8_reason_0 : decode cX8_reason 0 = .ok (.iconst 0, 1) := dk_3 (dk_at dksX8_reason_0 0 rfl rfl)
theorem dX8_reason_1 : decode cX8_reason 1 = .ok (.istore 4, 2) := dk_54 4 (dk_at dksX8_reason_0 1 rfl rfl)
theorem dX8_reason_3 : decode cX8_reason 3 = .ok (.iconst 0, 1) := dk_3 (dk_at dksX8_reason_0 3 rfl rfl)
theorem dX8_reason_4 : decode cX8_reason 4 = .ok (.istore 5, 2) := dk_54 5 (dk_at dksX8_reason_0 4 rfl rfl)
theorem dX8_reason_6 : decode cX8_reason 6 = .ok (.iconst 0, 1) := dk_3 (dk_at dksX8_reason_0 6 rfl rfl)
theorem dX8_reason_7 : decode cX8_reason 7 = .ok (.istore 6, 2) := dk_54 6 (dk_at dksX8_reason_0 7 rfl rfl)
theorem dX8_reason_9 : decode cX8_reason 9 = .ok (.iconst 0, 1) := dk_3 (dk_at dksX8_reason_0 9 rfl rfl)
theorem dX8_reason_10 : decode cX8_reason 10 = .ok (.istore 7, 2) := dk_54 7 (dk_at dksX8_reason_0 10 rfl rfl)
theorem dX8_reason_12 : decode cX8_reason 12 = .ok (.iload 7, 2) := dk_21 7 (dk_at dksX8_reason_0 12 rfl rfl)
theorem dX8_reason_14 : decode cX8_reason 14 = .ok (.aload_n 1, 1) := dk_43 (dk_at dksX8_reason_0 14 rfl rfl)
theorem dX8_reason_15 : decode cX8_reason 15 = .ok (.getfield 34, 3) := dk_180 0 34 (dk_at dksX8_reason_0 15 rfl rfl)
theorem dX8_reason_18 : decode cX8_reason 18 = .ok (.arraylength, 1) := dk_190 (dk_at dksX8_reason_0 18 rfl rfl)
theorem dX8_reason_19 : decode cX8_reason 19 = .ok (.if_icmp .ge 138, 3) := dk_162 0 138 (dk_at dksX8_reason_0 19 rfl rfl)
theorem dX8_reason_22 : decode cX8_reason 22 = .ok (.aload_n 0, 1) := dk_42 (dk_at dksX8_reason_0 22 rfl rfl)
theorem dX8_reason_23 : decode cX8_reason 23 = .ok (.getfield 3, 3) := dk_180 0 3 (dk_at dksX8_reason_1 0 rfl rfl)
theorem dX8_reason_26 : decode cX8_reason 26 = .ok (.getfield 15, 3) := dk_180 0 15 (dk_at dksX8_reason_1 3 rfl rfl)
theorem dX8_reason_29 : decode cX8_reason 29 = .ok (.aload_n 1, 1) := dk_43 (dk_at dksX8_reason_1 6 rfl rfl)
theorem dX8_reason_30 : decode cX8_reason 30 = .ok (.getfield 34, 3) := dk_180 0 34 (dk_at dksX8_reason_1 7 rfl rfl)
theorem dX8_reason_33 : decode cX8_reason 33 = .ok (.iload 7, 2) := dk_21 7 (dk_at dksX8_reason_1 10 rfl rfl)
theorem dX8_reason_35 : decode cX8_reason 35 = .ok (.aaload, 1) := dk_50 (dk_at dksX8_reason_1 12 rfl rfl)
theorem dX8_reason_36 : decode cX8_reason 36 = .ok (.invokevirtual 112, 3) := dk_182 0 112 (dk_at dksX8_reason_1 13 rfl rfl)
theorem dX8_reason_39 : decode cX8_reason 39 = .ok (.ifCond .eq 112, 3) := dk_153 0 112 (dk_at dksX8_reason_1 16 rfl rfl)
theorem dX8_reason_42 : decode cX8_reason 42 = .ok (.iconst 0, 1) := dk_3 (dk_at dksX8_reason_1 19 rfl rfl)
theorem dX8_reason_43 : decode cX8_reason 43 = .ok (.istore 8, 2) := dk_54 8 (dk_at dksX8_reason_1 20 rfl rfl)
theorem dX8_reason_45 : decode cX8_reason 45 = .ok (.iconst 0, 1) := dk_3 (dk_at dksX8_reason_1 22 rfl rfl)
theorem dX8_reason_46 : decode cX8_reason 46 = .ok (.istore 9, 2) := dk_54 9 (dk_at dksX8_reason_2 0 rfl rfl)
theorem dX8_reason_48 : decode cX8_reason 48 = .ok (.iload 9, 2) := dk_21 9 (dk_at dksX8_reason_2 2 rfl rfl)
theorem dX8_reason_50 : decode cX8_reason 50 = .ok (.iload_n 3, 1) := dk_29 (dk_at dksX8_reason_2 4 rfl rfl)
theorem dX8_reason_51 : decode cX8_reason 51 = .ok (.if_icmp .ge 69, 3) := dk_162 0 69 (dk_at dksX8_reason_2 5 rfl rfl)
theorem dX8_reason_54 : decode cX8_reason 54 = .ok (.iload 8, 2) := dk_21 8 (dk_at dksX8_reason_2 8 rfl rfl)
theorem dX8_reason_56 : decode cX8_reason 56 = .ok (.aload_n 2, 1) := dk_44 (dk_at dksX8_reason_2 10 rfl rfl)
theorem dX8_reason_57 : decode cX8_reason 57 = .ok (.getfield 94, 3) := dk_180 0 94 (dk_at dksX8_reason_2 11 rfl rfl)
theorem dX8_reason_60 : decode cX8_reason 60 = .ok (.iload 9, 2) := dk_21 9 (dk_at dksX8_reason_2 14 rfl rfl)
theorem dX8_reason_62 : decode cX8_reason 62 = .ok (.iaload, 1) := dk_46 (dk_at dksX8_reason_2 16 rfl rfl)
theorem dX8_reason_63 : decode cX8_reason 63 = .ok (.iconst (-1), 1) := dk_2 (dk_at dksX8_reason_2 17 rfl rfl)
theorem dX8_reason_64 : decode cX8_reason 64 = .ok (.iload 7, 2) := dk_21 7 (dk_at dksX8_reason_2 18 rfl rfl)
theorem dX8_reason_66 : decode cX8_reason 66 = .ok (.isub, 1) := dk_100 (dk_at dksX8_reason_2 20 rfl rfl)
theorem dX8_reason_67 : decode cX8_reason 67 = .ok (.if_icmp .ne 7, 3) := dk_160 0 7 (dk_at dksX8_reason_2 21 rfl rfl)
theorem dX8_reason_70 : decode cX8_reason 70 = .ok (.iconst 1, 1) := dk_4 (dk_at dksX8_reason_3 0 rfl rfl)
theorem dX8_reason_71 : decode cX8_reason 71 = .ok (.goto 4, 3) := dk_167 0 4 (dk_at dksX8_reason_3 1 rfl rfl)
theorem dX8_reason_74 : decode cX8_reason 74 = .ok (.iconst 0, 1) := dk_3 (dk_at dksX8_reason_3 4 rfl rfl)
theorem dX8_reason_75 : decode cX8_reason 75 = .ok (.iadd, 1) := dk_96 (dk_at dksX8_reason_3 5 rfl rfl)
theorem dX8_reason_76 : decode cX8_reason 76 = .ok (.istore 8, 2) := dk_54 8 (dk_at dksX8_reason_3 6 rfl rfl)
theorem dX8_reason_78 : decode cX8_reason 78 = .ok (.iload 6, 2) := dk_21 6 (dk_at dksX8_reason_3 8 rfl rfl)
theorem dX8_reason_80 : decode cX8_reason 80 = .ok (.aload_n 2, 1) := dk_44 (dk_at dksX8_reason_3 10 rfl rfl)
theorem dX8_reason_81 : decode cX8_reason 81 = .ok (.getfield 94, 3) := dk_180 0 94 (dk_at dksX8_reason_3 11 rfl rfl)
theorem dX8_reason_84 : decode cX8_reason 84 = .ok (.iload 9, 2) := dk_21 9 (dk_at dksX8_reason_3 14 rfl rfl)
theorem dX8_reason_86 : decode cX8_reason 86 = .ok (.iaload, 1) := dk_46 (dk_at dksX8_reason_3 16 rfl rfl)
theorem dX8_reason_87 : decode cX8_reason 87 = .ok (.iconst (-1), 1) := dk_2 (dk_at dksX8_reason_3 17 rfl rfl)
theorem dX8_reason_88 : decode cX8_reason 88 = .ok (.iload 7, 2) := dk_21 7 (dk_at dksX8_reason_3 18 rfl rfl)
theorem dX8_reason_90 : decode cX8_reason 90 = .ok (.isub, 1) := dk_100 (dk_at dksX8_reason_3 20 rfl rfl)
theorem dX8_reason_91 : decode cX8_reason 91 = .ok (.if_icmp .ne 19, 3) := dk_160 0 19 (dk_at dksX8_reason_3 21 rfl rfl)
theorem dX8_reason_94 : decode cX8_reason 94 = .ok (.aload_n 0, 1) := dk_42 (dk_at dksX8_reason_4 0 rfl rfl)
theorem dX8_reason_95 : decode cX8_reason 95 = .ok (.aload_n 1, 1) := dk_43 (dk_at dksX8_reason_4 1 rfl rfl)
theorem dX8_reason_96 : decode cX8_reason 96 = .ok (.aload_n 2, 1) := dk_44 (dk_at dksX8_reason_4 2 rfl rfl)
theorem dX8_reason_97 : decode cX8_reason 97 = .ok (.iload 9, 2) := dk_21 9 (dk_at dksX8_reason_4 3 rfl rfl)
theorem dX8_reason_99 : decode cX8_reason 99 = .ok (.iload_n 3, 1) := dk_29 (dk_at dksX8_reason_4 5 rfl rfl)
theorem dX8_reason_100 : decode cX8_reason 100 = .ok (.invokevirtual 116, 3) := dk_182 0 116 (dk_at dksX8_reason_4 6 rfl rfl)
theorem dX8_reason_103 : decode cX8_reason 103 = .ok (.ifCond .eq 7, 3) := dk_153 0 7 (dk_at dksX8_reason_4 9 rfl rfl)
theorem dX8_reason_106 : decode cX8_reason 106 = .ok (.iconst 1, 1) := dk_4 (dk_at dksX8_reason_4 12 rfl rfl)
theorem dX8_reason_107 : decode cX8_reason 107 = .ok (.goto 4, 3) := dk_167 0 4 (dk_at dksX8_reason_4 13 rfl rfl)
theorem dX8_reason_110 : decode cX8_reason 110 = .ok (.iconst 0, 1) := dk_3 (dk_at dksX8_reason_4 16 rfl rfl)
theorem dX8_reason_111 : decode cX8_reason 111 = .ok (.ior, 1) := dk_128 (dk_at dksX8_reason_4 17 rfl rfl)
theorem dX8_reason_112 : decode cX8_reason 112 = .ok (.istore 6, 2) := dk_54 6 (dk_at dksX8_reason_4 18 rfl rfl)
theorem dX8_reason_114 : decode cX8_reason 114 = .ok (.iinc 9 1, 3) := dk_132 9 1 (dk_at dksX8_reason_4 20 rfl rfl)
theorem dX8_reason_117 : decode cX8_reason 117 = .ok (.goto (-69), 3) := dk_167 255 187 (dk_at dksX8_reason_5 0 rfl rfl)
theorem dX8_reason_120 : decode cX8_reason 120 = .ok (.iload 4, 2) := dk_21 4 (dk_at dksX8_reason_5 3 rfl rfl)
theorem dX8_reason_122 : decode cX8_reason 122 = .ok (.iload 8, 2) := dk_21 8 (dk_at dksX8_reason_5 5 rfl rfl)
theorem dX8_reason_124 : decode cX8_reason 124 = .ok (.iconst 1, 1) := dk_4 (dk_at dksX8_reason_5 7 rfl rfl)
theorem dX8_reason_125 : decode cX8_reason 125 = .ok (.if_icmp .le 7, 3) := dk_164 0 7 (dk_at dksX8_reason_5 8 rfl rfl)
theorem dX8_reason_128 : decode cX8_reason 128 = .ok (.iconst 1, 1) := dk_4 (dk_at dksX8_reason_5 11 rfl rfl)
theorem dX8_reason_129 : decode cX8_reason 129 = .ok (.goto 4, 3) := dk_167 0 4 (dk_at dksX8_reason_5 12 rfl rfl)
theorem dX8_reason_132 : decode cX8_reason 132 = .ok (.iconst 0, 1) := dk_3 (dk_at dksX8_reason_5 15 rfl rfl)
theorem dX8_reason_133 : decode cX8_reason 133 = .ok (.ior, 1) := dk_128 (dk_at dksX8_reason_5 16 rfl rfl)
theorem dX8_reason_134 : decode cX8_reason 134 = .ok (.istore 4, 2) := dk_54 4 (dk_at dksX8_reason_5 17 rfl rfl)
theorem dX8_reason_136 : decode cX8_reason 136 = .ok (.iload 5, 2) := dk_21 5 (dk_at dksX8_reason_5 19 rfl rfl)
theorem dX8_reason_138 : decode cX8_reason 138 = .ok (.iload 8, 2) := dk_21 8 (dk_at dksX8_reason_5 21 rfl rfl)
theorem dX8_reason_140 : decode cX8_reason 140 = .ok (.ifCond .ne 7, 3) := dk_154 0 7 (dk_at dksX8_reason_6 0 rfl rfl)
theorem dX8_reason_143 : decode cX8_reason 143 = .ok (.iconst 1, 1) := dk_4 (dk_at dksX8_reason_6 3 rfl rfl)
theorem dX8_reason_144 : decode cX8_reason 144 = .ok (.goto 4, 3) := dk_167 0 4 (dk_at dksX8_reason_6 4 rfl rfl)
theorem dX8_reason_147 : decode cX8_reason 147 = .ok (.iconst 0, 1) := dk_3 (dk_at dksX8_reason_6 7 rfl rfl)
theorem dX8_reason_148 : decode cX8_reason 148 = .ok (.ior, 1) := dk_128 (dk_at dksX8_reason_6 8 rfl rfl)
theorem dX8_reason_149 : decode cX8_reason 149 = .ok (.istore 5, 2) := dk_54 5 (dk_at dksX8_reason_6 9 rfl rfl)
theorem dX8_reason_151 : decode cX8_reason 151 = .ok (.iinc 7 1, 3) := dk_132 7 1 (dk_at dksX8_reason_6 11 rfl rfl)
theorem dX8_reason_154 : decode cX8_reason 154 = .ok (.goto (-142), 3) := dk_167 255 114 (dk_at dksX8_reason_6 14 rfl rfl)
theorem dX8_reason_157 : decode cX8_reason 157 = .ok (.iload 4, 2) := dk_21 4 (dk_at dksX8_reason_6 17 rfl rfl)
theorem dX8_reason_159 : decode cX8_reason 159 = .ok (.ifCond .eq 7, 3) := dk_153 0 7 (dk_at dksX8_reason_6 19 rfl rfl)
theorem dX8_reason_162 : decode cX8_reason 162 = .ok (.iconst 4, 1) := dk_7 (dk_at dksX8_reason_6 22 rfl rfl)
theorem dX8_reason_163 : decode cX8_reason 163 = .ok (.goto 23, 3) := dk_167 0 23 (dk_at dksX8_reason_7 0 rfl rfl)
theorem dX8_reason_166 : decode cX8_reason 166 = .ok (.iload 5, 2) := dk_21 5 (dk_at dksX8_reason_7 3 rfl rfl)
theorem dX8_reason_168 : decode cX8_reason 168 = .ok (.ifCond .eq 7, 3) := dk_153 0 7 (dk_at dksX8_reason_7 5 rfl rfl)
theorem dX8_reason_171 : decode cX8_reason 171 = .ok (.iconst 5, 1) := dk_8 (dk_at dksX8_reason_7 8 rfl rfl)
theorem dX8_reason_172 : decode cX8_reason 172 = .ok (.goto 14, 3) := dk_167 0 14 (dk_at dksX8_reason_7 9 rfl rfl)
theorem dX8_reason_175 : decode cX8_reason 175 = .ok (.iload 6, 2) := dk_21 6 (dk_at dksX8_reason_7 12 rfl rfl)
theorem dX8_reason_177 : decode cX8_reason 177 = .ok (.ifCond .eq 8, 3) := dk_153 0 8 (dk_at dksX8_reason_7 14 rfl rfl)
theorem dX8_reason_180 : decode cX8_reason 180 = .ok (.bipush 6, 2) := dk_16 6 (dk_at dksX8_reason_7 17 rfl rfl)
theorem dX8_reason_182 : decode cX8_reason 182 = .ok (.goto 4, 3) := dk_167 0 4 (dk_at dksX8_reason_7 19 rfl rfl)
theorem dX8_reason_185 : decode cX8_reason 185 = .ok (.iconst 0, 1) := dk_3 (dk_at dksX8_reason_7 22 rfl rfl)
theorem dX8_reason_186 : decode cX8_reason 186 = .ok (.ireturn, 1) := dk_172 (dk_at dksX8_reason_7 23 rfl rfl)
abbrev cX8_hasLaterSmaller : ByteArray := prog_4_method_7_code
def yX8_hasLaterSmaller : MethodName := ⟨RX8, "hasLaterSmaller", "(LCallMigrator$Node;LCallMigrator$Mapping;II)Z"⟩
def dkwX8_hasLaterSmaller_3 : List UInt8 := [54, 5, 132, 6, 1, 167, 255, 189, 21, 5, 172]
abbrev dktX8_hasLaterSmaller_3 : List UInt8 := dkwX8_hasLaterSmaller_3 ++ []
def dkwX8_hasLaterSmaller_2 : List UInt8 := [180, 0, 15, 43, 180, 0, 34, 2, 21, 7, 100, 50, 182, 0, 112, 153, 0, 7, 4, 167, 0, 4, 3, 128]
abbrev dktX8_hasLaterSmaller_2 : List UInt8 := dkwX8_hasLaterSmaller_2 ++ dktX8_hasLaterSmaller_3
def dkwX8_hasLaterSmaller_1 : List UInt8 := [21, 5, 21, 7, 156, 0, 40, 21, 7, 44, 180, 0, 94, 29, 46, 164, 0, 29, 42, 180, 0, 3]
abbrev dktX8_hasLaterSmaller_1 : List UInt8 := dkwX8_hasLaterSmaller_1 ++ dktX8_hasLaterSmaller_2
def dkwX8_hasLaterSmaller_0 : List UInt8 := [3, 54, 5, 29, 4, 96, 54, 6, 21, 6, 21, 4, 162, 0, 66, 44, 180, 0, 94, 21, 6, 46, 54, 7]
abbrev dktX8_hasLaterSmaller_0 : List UInt8 := dkwX8_hasLaterSmaller_0 ++ dktX8_hasLaterSmaller_1
theorem dksX8_hasLaterSmaller_0 : cX8_hasLaterSmaller.data.toList.drop 0 = dktX8_hasLaterSmaller_0 := by decide +kernel
theorem dksX8_hasLaterSmaller_1 : cX8_hasLaterSmaller.data.toList.drop 24 = dktX8_hasLaterSmaller_1 := dk_seg dksX8_hasLaterSmaller_0 24 rfl rfl
theorem dksX8_hasLaterSmaller_2 : cX8_hasLaterSmaller.data.toList.drop 46 = dktX8_hasLaterSmaller_2 := dk_seg dksX8_hasLaterSmaller_1 22 rfl rfl
theorem dksX8_hasLaterSmaller_3 : cX8_hasLaterSmaller.data.toList.drop 70 = dktX8_hasLaterSmaller_3 := dk_seg dksX8_hasLaterSmaller_2 24 rfl rfl
theorem dX8_hasLaterSmaller_0 : decode cX8_hasLaterSmaller 0 = .ok (.iconst 0, 1) := dk_3 (dk_at dksX8_hasLaterSmaller_0 0 rfl rfl)
theorem dX8_hasLaterSmaller_1 : decode cX8_hasLaterSmaller 1 = .ok (.istore 5, 2) := dk_54 5 (dk_at dksX8_hasLaterSmaller_0 1 rfl rfl)
theorem dX8_hasLaterSmaller_3 : decode cX8_hasLaterSmaller 3 = .ok (.iload_n 3, 1) := dk_29 (dk_at dksX8_hasLaterSmaller_0 3 rfl rfl)
theorem dX8_hasLaterSmaller_4 : decode cX8_hasLaterSmaller 4 = .ok (.iconst 1, 1) := dk_4 (dk_at dksX8_hasLaterSmaller_0 4 rfl rfl)
theorem dX8_hasLaterSmaller_5 : decode cX8_hasLaterSmaller 5 = .ok (.iadd, 1) := dk_96 (dk_at dksX8_hasLaterSmaller_0 5 rfl rfl)
theorem dX8_hasLaterSmaller_6 : decode cX8_hasLaterSmaller 6 = .ok (.istore 6, 2) := dk_54 6 (dk_at dksX8_hasLaterSmaller_0 6 rfl rfl)
theorem dX8_hasLaterSmaller_8 : decode cX8_hasLaterSmaller 8 = .ok (.iload 6, 2) := dk_21 6 (dk_at dksX8_hasLaterSmaller_0 8 rfl rfl)
theorem dX8_hasLaterSmaller_10 : decode cX8_hasLaterSmaller 10 = .ok (.iload 4, 2) := dk_21 4 (dk_at dksX8_hasLaterSmaller_0 10 rfl rfl)
theorem dX8_hasLaterSmaller_12 : decode cX8_hasLaterSmaller 12 = .ok (.if_icmp .ge 66, 3) := dk_162 0 66 (dk_at dksX8_hasLaterSmaller_0 12 rfl rfl)
theorem dX8_hasLaterSmaller_15 : decode cX8_hasLaterSmaller 15 = .ok (.aload_n 2, 1) := dk_44 (dk_at dksX8_hasLaterSmaller_0 15 rfl rfl)
theorem dX8_hasLaterSmaller_16 : decode cX8_hasLaterSmaller 16 = .ok (.getfield 94, 3) := dk_180 0 94 (dk_at dksX8_hasLaterSmaller_0 16 rfl rfl)
theorem dX8_hasLaterSmaller_19 : decode cX8_hasLaterSmaller 19 = .ok (.iload 6, 2) := dk_21 6 (dk_at dksX8_hasLaterSmaller_0 19 rfl rfl)
theorem dX8_hasLaterSmaller_21 : decode cX8_hasLaterSmaller 21 = .ok (.iaload, 1) := dk_46 (dk_at dksX8_hasLaterSmaller_0 21 rfl rfl)
theorem dX8_hasLaterSmaller_22 : decode cX8_hasLaterSmaller 22 = .ok (.istore 7, 2) := dk_54 7 (dk_at dksX8_hasLaterSmaller_0 22 rfl rfl)
theorem dX8_hasLaterSmaller_24 : decode cX8_hasLaterSmaller 24 = .ok (.iload 5, 2) := dk_21 5 (dk_at dksX8_hasLaterSmaller_1 0 rfl rfl)
theorem dX8_hasLaterSmaller_26 : decode cX8_hasLaterSmaller 26 = .ok (.iload 7, 2) := dk_21 7 (dk_at dksX8_hasLaterSmaller_1 2 rfl rfl)
theorem dX8_hasLaterSmaller_28 : decode cX8_hasLaterSmaller 28 = .ok (.ifCond .ge 40, 3) := dk_156 0 40 (dk_at dksX8_hasLaterSmaller_1 4 rfl rfl)
theorem dX8_hasLaterSmaller_31 : decode cX8_hasLaterSmaller 31 = .ok (.iload 7, 2) := dk_21 7 (dk_at dksX8_hasLaterSmaller_1 7 rfl rfl)
theorem dX8_hasLaterSmaller_33 : decode cX8_hasLaterSmaller 33 = .ok (.aload_n 2, 1) := dk_44 (dk_at dksX8_hasLaterSmaller_1 9 rfl rfl)
theorem dX8_hasLaterSmaller_34 : decode cX8_hasLaterSmaller 34 = .ok (.getfield 94, 3) := dk_180 0 94 (dk_at dksX8_hasLaterSmaller_1 10 rfl rfl)
theorem dX8_hasLaterSmaller_37 : decode cX8_hasLaterSmaller 37 = .ok (.iload_n 3, 1) := dk_29 (dk_at dksX8_hasLaterSmaller_1 13 rfl rfl)
theorem dX8_hasLaterSmaller_38 : decode cX8_hasLaterSmaller 38 = .ok (.iaload, 1) := dk_46 (dk_at dksX8_hasLaterSmaller_1 14 rfl rfl)
theorem dX8_hasLaterSmaller_39 : decode cX8_hasLaterSmaller 39 = .ok (.if_icmp .le 29, 3) := dk_164 0 29 (dk_at dksX8_hasLaterSmaller_1 15 rfl rfl)
theorem dX8_hasLaterSmaller_42 : decode cX8_hasLaterSmaller 42 = .ok (.aload_n 0, 1) := dk_42 (dk_at dksX8_hasLaterSmaller_1 18 rfl rfl)
theorem dX8_hasLaterSmaller_43 : decode cX8_hasLaterSmaller 43 = .ok (.getfield 3, 3) := dk_180 0 3 (dk_at dksX8_hasLaterSmaller_1 19 rfl rfl)
theorem dX8_hasLaterSmaller_46 : decode cX8_hasLaterSmaller 46 = .ok (.getfield 15, 3) := dk_180 0 15 (dk_at dksX8_hasLaterSmaller_2 0 rfl rfl)
theorem dX8_hasLaterSmaller_49 : decode cX8_hasLaterSmaller 49 = .ok (.aload_n 1, 1) := dk_43 (dk_at dksX8_hasLaterSmaller_2 3 rfl rfl)
theorem dX8_hasLaterSmaller_50 : decode cX8_hasLaterSmaller 50 = .ok (.getfield 34, 3) := dk_180 0 34 (dk_at dksX8_hasLaterSmaller_2 4 rfl rfl)
theorem dX8_hasLaterSmaller_53 : decode cX8_hasLaterSmaller 53 = .ok (.iconst (-1), 1) := dk_2 (dk_at dksX8_hasLaterSmaller_2 7 rfl rfl)
theorem dX8_hasLaterSmaller_54 : decode cX8_hasLaterSmaller 54 = .ok (.iload 7, 2) := dk_21 7 (dk_at dksX8_hasLaterSmaller_2 8 rfl rfl)
theorem dX8_hasLaterSmaller_56 : decode cX8_hasLaterSmaller 56 = .ok (.isub, 1) := dk_100 (dk_at dksX8_hasLaterSmaller_2 10 rfl rfl)
theorem dX8_hasLaterSmaller_57 : decode cX8_hasLaterSmaller 57 = .ok (.aaload, 1) := dk_50 (dk_at dksX8_hasLaterSmaller_2 11 rfl rfl)
theorem dX8_hasLaterSmaller_58 : decode cX8_hasLaterSmaller 58 = .ok (.invokevirtual 112, 3) := dk_182 0 112 (dk_at dksX8_hasLaterSmaller_2 12 rfl rfl)
theorem dX8_hasLaterSmaller_61 : decode cX8_hasLaterSmaller 61 = .ok (.ifCond .eq 7, 3) := dk_153 0 7 (dk_at dksX8_hasLaterSmaller_2 15 rfl rfl)
theorem dX8_hasLaterSmaller_64 : decode cX8_hasLaterSmaller 64 = .ok (.iconst 1, 1) := dk_4 (dk_at dksX8_hasLaterSmaller_2 18 rfl rfl)
theorem dX8_hasLaterSmaller_65 : decode cX8_hasLaterSmaller 65 = .ok (.goto 4, 3) := dk_167 0 4 (dk_at dksX8_hasLaterSmaller_2 19 rfl rfl)
theorem dX8_hasLaterSmaller_68 : decode cX8_hasLaterSmaller 68 = .ok (.iconst 0, 1) := dk_3 (dk_at dksX8_hasLaterSmaller_2 22 rfl rfl)
theorem dX8_hasLaterSmaller_69 : decode cX8_hasLaterSmaller 69 = .ok (.ior, 1) := dk_128 (dk_at dksX8_hasLaterSmaller_2 23 rfl rfl)
theorem dX8_hasLaterSmaller_70 : decode cX8_hasLaterSmaller 70 = .ok (.istore 5, 2) := dk_54 5 (dk_at dksX8_hasLaterSmaller_3 0 rfl rfl)
theorem dX8_hasLaterSmaller_72 : decode cX8_hasLaterSmaller 72 = .ok (.iinc 6 1, 3) := dk_132 6 1 (dk_at dksX8_hasLaterSmaller_3 2 rfl rfl)
theorem dX8_hasLaterSmaller_75 : decode cX8_hasLaterSmaller 75 = .ok (.goto (-67), 3) := dk_167 255 189 (dk_at dksX8_hasLaterSmaller_3 5 rfl rfl)
theorem dX8_hasLaterSmaller_78 : decode cX8_hasLaterSmaller 78 = .ok (.iload 5, 2) := dk_21 5 (dk_at dksX8_hasLaterSmaller_3 8 rfl rfl)
theorem dX8_hasLaterSmaller_80 : decode cX8_hasLaterSmaller 80 = .ok (.ireturn, 1) := dk_172 (dk_at dksX8_hasLaterSmaller_3 10 rfl rfl)
theorem q68 : (Jvm.Cond.initialized "CallMigrator$Migration") ∈ lw_all := lw_g (lw_at lw_m1 13 rfl) rfl
theorem q105 : (Jvm.Cond.fieldLinkNest "CallMigrator$Migration" (42 : Nat) "CallMigrator$Node" "kind" "I" "CallMigrator") ∈ lw_tbl := lw_at lw_m1 50 rfl
theorem q108 : (Jvm.Cond.fieldLinkNest "CallMigrator$Migration" (45 : Nat) "CallMigrator$Node" "value" "I" "CallMigrator") ∈ lw_tbl := lw_at lw_m1 53 rfl
theorem q111 : (Jvm.Cond.fieldLinkNest "CallMigrator$Migration" (34 : Nat) "CallMigrator$Node" "arguments" "[LCallMigrator$Node;" "CallMigrator") ∈ lw_tbl := lw_at lw_m1 56 rfl
theorem q113 : (Jvm.Cond.fieldLinkNest "CallMigrator$Migration" (25 : Nat) "CallMigrator$Node" "size" "I" "CallMigrator") ∈ lw_tbl := lw_at lw_m1 58 rfl
theorem q136 : (Jvm.Cond.fieldLinkNest "CallMigrator$Migration" (62 : Nat) "CallMigrator$Function" "arity" "I" "CallMigrator") ∈ lw_tbl := lw_at lw_m1 81 rfl
theorem q166 : (Jvm.Cond.fieldLinkNest "CallMigrator$Migration" (58 : Nat) "CallMigrator$State" "olds" "[LCallMigrator$Function;" "CallMigrator") ∈ lw_tbl := lw_at lw_m1 111 rfl
theorem q170 : (Jvm.Cond.fieldLinkNest "CallMigrator$Migration" (82 : Nat) "CallMigrator$State" "news" "[LCallMigrator$Function;" "CallMigrator") ∈ lw_tbl := lw_at lw_m1 115 rfl
theorem q174 : (Jvm.Cond.fieldLinkNest "CallMigrator$Migration" (109 : Nat) "CallMigrator$State" "adapters" "[LCallMigrator$Function;" "CallMigrator") ∈ lw_tbl := lw_at lw_m1 119 rfl
theorem q177 : (Jvm.Cond.fieldLinkNest "CallMigrator$Migration" (106 : Nat) "CallMigrator$State" "adapterCount" "I" "CallMigrator") ∈ lw_tbl := lw_at lw_m1 122 rfl
theorem q180 : (Jvm.Cond.fieldLinkNest "CallMigrator$Migration" (103 : Nat) "CallMigrator$State" "adapterOf" "[I" "CallMigrator") ∈ lw_tbl := lw_at lw_m1 125 rfl
theorem q183 : (Jvm.Cond.fieldLinkNest "CallMigrator$Migration" (78 : Nat) "CallMigrator$State" "mappings" "[LCallMigrator$Mapping;" "CallMigrator") ∈ lw_tbl := lw_at lw_m1 128 rfl
theorem q186 : (Jvm.Cond.fieldLinkNest "CallMigrator$Migration" (100 : Nat) "CallMigrator$State" "allowed" "I" "CallMigrator") ∈ lw_tbl := lw_at lw_m1 131 rfl
theorem q188 : (Jvm.Cond.fieldLinkNest "CallMigrator$Migration" (19 : Nat) "CallMigrator$State" "program" "LCallMigrator$Node;" "CallMigrator") ∈ lw_tbl := lw_at lw_m1 133 rfl
theorem q192 : (Jvm.Cond.fieldLinkNest "CallMigrator$Migration" (54 : Nat) "CallMigrator$State" "left" "[I" "CallMigrator") ∈ lw_tbl := lw_at lw_m1 137 rfl
theorem q231 : (Jvm.Cond.fieldLinkNest "CallMigrator$Migration" (15 : Nat) "CallMigrator" "state" "LCallMigrator$State;" "CallMigrator") ∈ lw_tbl := lw_at lw_m1 176 rfl
theorem q337 : (Jvm.Cond.fieldLinkNest "CallMigrator$Migration" (85 : Nat) "CallMigrator$Mapping" "target" "I" "CallMigrator") ∈ lw_tbl := lw_at lw_m2 42 rfl
theorem q341 : (Jvm.Cond.fieldLinkNest "CallMigrator$Migration" (94 : Nat) "CallMigrator$Mapping" "template" "[I" "CallMigrator") ∈ lw_tbl := lw_at lw_m2 46 rfl
theorem q524 : (Jvm.Cond.instantiable "CallMigrator$Migration" (3 : Nat)) ∈ lw_all := lw_g (lw_at lw_m2 229 rfl) rfl
theorem q526 : (Jvm.Cond.instanceMethod ({ cls := "CallMigrator$Migration", name := "<init>", desc := "(LCallMigrator;)V" } : Jvm.MethodName)) ∈ lw_all := lw_g (lw_at lw_m2 231 rfl) rfl
theorem q527 : (Jvm.Cond.code ({ cls := "CallMigrator$Migration", name := "<init>", desc := "(LCallMigrator;)V" } : Jvm.MethodName) prog_4_method_1_code (2 : Nat) (Option.none : Option Jvm.ClassFile.FieldType)) ∈ lw_all := lw_g (lw_at lw_m2 232 rfl) rfl
theorem q528 : (Jvm.Cond.methodLink "CallMigrator$Migration" (9 : Nat) ({ cls := "java/lang/Object", name := "<init>", desc := "()V" } : Jvm.MethodName)) ∈ lw_all := lw_g (lw_at lw_m2 233 rfl) rfl
theorem q529 : (Jvm.Cond.fieldLink "CallMigrator$Migration" (31 : Nat) "CallMigrator$Migration" "total" "I") ∈ lw_all := lw_g (lw_at lw_m2 234 rfl) rfl
theorem q530 : (Jvm.Cond.fieldLink "CallMigrator$Migration" (97 : Nat) "CallMigrator$Migration" "replaced" "I") ∈ lw_all := lw_g (lw_at lw_m2 235 rfl) rfl
theorem q532 : (Jvm.Cond.fieldLink "CallMigrator$Migration" (3 : Nat) "CallMigrator$Migration" "this$0" "LCallMigrator;") ∈ lw_all := lw_g (lw_at lw_m2 237 rfl) rfl
theorem q533 : (Jvm.Cond.lays "CallMigrator$Migration" "CallMigrator$Migration" "total" "I") ∈ lw_all := lw_g (lw_at lw_m2 238 rfl) rfl
theorem q534 : (Jvm.Cond.soleField "CallMigrator$Migration" "total") ∈ lw_all := lw_g (lw_at lw_m2 239 rfl) rfl
theorem q535 : (Jvm.Cond.lays "CallMigrator$Migration" "CallMigrator$Migration" "replaced" "I") ∈ lw_all := lw_g (lw_at lw_m3 0 rfl) rfl
theorem q536 : (Jvm.Cond.soleField "CallMigrator$Migration" "replaced") ∈ lw_all := lw_g (lw_at lw_m3 1 rfl) rfl
theorem q537 : (Jvm.Cond.laysFinal "CallMigrator$Migration" "CallMigrator$Migration" "this$0" "LCallMigrator;") ∈ lw_all := lw_g (lw_at lw_m3 2 rfl) rfl
theorem q538 : (Jvm.Cond.soleField "CallMigrator$Migration" "this$0") ∈ lw_all := lw_g (lw_at lw_m3 3 rfl) rfl
theorem q539 : (Jvm.Cond.superclass "CallMigrator$Migration" "java/lang/Object") ∈ lw_all := lw_g (lw_at lw_m3 4 rfl) rfl
theorem q541 : (Jvm.Cond.instanceMethod ({ cls := "CallMigrator$Migration", name := "migrate", desc := "(LCallMigrator$Node;)LCallMigrator$Node;" } : Jvm.MethodName)) ∈ lw_all := lw_g (lw_at lw_m3 6 rfl) rfl
theorem q542 : (Jvm.Cond.selects "CallMigrator$Migration" ({ cls := "CallMigrator$Migration", name := "migrate", desc := "(LCallMigrator$Node;)LCallMigrator$Node;" } : Jvm.MethodName) ({ cls := "CallMigrator$Migration", name := "migrate", desc := "(LCallMigrator$Node;)LCallMigrator$Node;" } : Jvm.MethodName)) ∈ lw_all := lw_g (lw_at lw_m3 7 rfl) rfl
theorem q543 : (Jvm.Cond.code ({ cls := "CallMigrator$Migration", name := "migrate", desc := "(LCallMigrator$Node;)LCallMigrator$Node;" } : Jvm.MethodName) prog_4_method_2_code (4 : Nat) (Option.some (Jvm.ClassFile.FieldType.object "CallMigrator$Node"))) ∈ lw_all := lw_g (lw_at lw_m3 8 rfl) rfl
theorem q544 : (Jvm.Cond.classLink "CallMigrator$Migration" (26 : Nat) "CallMigrator$Node") ∈ lw_all := lw_g (lw_at lw_m3 9 rfl) rfl
theorem q545 : (Jvm.Cond.methodLink "CallMigrator$Migration" (38 : Nat) ({ cls := "CallMigrator$Migration", name := "migrate", desc := "(LCallMigrator$Node;)LCallMigrator$Node;" } : Jvm.MethodName)) ∈ lw_all := lw_g (lw_at lw_m3 10 rfl) rfl
theorem q546 : (Jvm.Cond.methodLink "CallMigrator$Migration" (48 : Nat) ({ cls := "CallMigrator$Node", name := "<init>", desc := "(II[LCallMigrator$Node;)V" } : Jvm.MethodName)) ∈ lw_all := lw_g (lw_at lw_m3 11 rfl) rfl
theorem q547 : (Jvm.Cond.methodLink "CallMigrator$Migration" (51 : Nat) ({ cls := "CallMigrator$Migration", name := "site", desc := "(LCallMigrator$Node;)LCallMigrator$Node;" } : Jvm.MethodName)) ∈ lw_all := lw_g (lw_at lw_m3 12 rfl) rfl
theorem q548 : (Jvm.Cond.privateMethod ({ cls := "CallMigrator$Migration", name := "site", desc := "(LCallMigrator$Node;)LCallMigrator$Node;" } : Jvm.MethodName)) ∈ lw_tbl := lw_at lw_m3 13 rfl
theorem q549 : (Jvm.Cond.instanceMethod ({ cls := "CallMigrator$Migration", name := "site", desc := "(LCallMigrator$Node;)LCallMigrator$Node;" } : Jvm.MethodName)) ∈ lw_all := lw_g (lw_at lw_m3 14 rfl) rfl
theorem q550 : (Jvm.Cond.code ({ cls := "CallMigrator$Migration", name := "site", desc := "(LCallMigrator$Node;)LCallMigrator$Node;" } : Jvm.MethodName) prog_4_method_4_code (9 : Nat) (Option.some (Jvm.ClassFile.FieldType.object "CallMigrator$Node"))) ∈ lw_all := lw_g (lw_at lw_m3 15 rfl) rfl
theorem q551 : (Jvm.Cond.methodLink "CallMigrator$Migration" (67 : Nat) ({ cls := "CallMigrator$Migration", name := "leave", desc := "(LCallMigrator$Node;I)LCallMigrator$Node;" } : Jvm.MethodName)) ∈ lw_all := lw_g (lw_at lw_m3 16 rfl) rfl
theorem q552 : (Jvm.Cond.privateMethod ({ cls := "CallMigrator$Migration", name := "leave", desc := "(LCallMigrator$Node;I)LCallMigrator$Node;" } : Jvm.MethodName)) ∈ lw_tbl := lw_at lw_m3 17 rfl
theorem q553 : (Jvm.Cond.instanceMethod ({ cls := "CallMigrator$Migration", name := "leave", desc := "(LCallMigrator$Node;I)LCallMigrator$Node;" } : Jvm.MethodName)) ∈ lw_all := lw_g (lw_at lw_m3 18 rfl) rfl
theorem q554 : (Jvm.Cond.code ({ cls := "CallMigrator$Migration", name := "leave", desc := "(LCallMigrator$Node;I)LCallMigrator$Node;" } : Jvm.MethodName) prog_4_method_3_code (3 : Nat) (Option.some (Jvm.ClassFile.FieldType.object "CallMigrator$Node"))) ∈ lw_all := lw_g (lw_at lw_m3 19 rfl) rfl
theorem q555 : (Jvm.Cond.methodLink "CallMigrator$Migration" (71 : Nat) ({ cls := "CallMigrator$State", name := "isFaithful", desc := "(I)Z" } : Jvm.MethodName)) ∈ lw_all := lw_g (lw_at lw_m3 20 rfl) rfl
theorem q556 : (Jvm.Cond.methodLink "CallMigrator$Migration" (75 : Nat) ({ cls := "CallMigrator$Migration", name := "adapt", desc := "(LCallMigrator$Node;)LCallMigrator$Node;" } : Jvm.MethodName)) ∈ lw_all := lw_g (lw_at lw_m3 21 rfl) rfl
theorem q557 : (Jvm.Cond.privateMethod ({ cls := "CallMigrator$Migration", name := "adapt", desc := "(LCallMigrator$Node;)LCallMigrator$Node;" } : Jvm.MethodName)) ∈ lw_tbl := lw_at lw_m3 22 rfl
theorem q558 : (Jvm.Cond.instanceMethod ({ cls := "CallMigrator$Migration", name := "adapt", desc := "(LCallMigrator$Node;)LCallMigrator$Node;" } : Jvm.MethodName)) ∈ lw_all := lw_g (lw_at lw_m3 23 rfl) rfl
theorem q559 : (Jvm.Cond.code ({ cls := "CallMigrator$Migration", name := "adapt", desc := "(LCallMigrator$Node;)LCallMigrator$Node;" } : Jvm.MethodName) prog_4_method_5_code (3 : Nat) (Option.some (Jvm.ClassFile.FieldType.object "CallMigrator$Node"))) ∈ lw_all := lw_g (lw_at lw_m3 24 rfl) rfl
theorem q560 : (Jvm.Cond.methodLink "CallMigrator$Migration" (90 : Nat) ({ cls := "CallMigrator$Migration", name := "reason", desc := "(LCallMigrator$Node;LCallMigrator$Mapping;I)I" } : Jvm.MethodName)) ∈ lw_all := lw_g (lw_at lw_m3 25 rfl) rfl
theorem q561 : (Jvm.Cond.privateMethod ({ cls := "CallMigrator$Migration", name := "reason", desc := "(LCallMigrator$Node;LCallMigrator$Mapping;I)I" } : Jvm.MethodName)) ∈ lw_tbl := lw_at lw_m3 26 rfl
theorem q562 : (Jvm.Cond.instanceMethod ({ cls := "CallMigrator$Migration", name := "reason", desc := "(LCallMigrator$Node;LCallMigrator$Mapping;I)I" } : Jvm.MethodName)) ∈ lw_all := lw_g (lw_at lw_m3 27 rfl) rfl
theorem q563 : (Jvm.Cond.code ({ cls := "CallMigrator$Migration", name := "reason", desc := "(LCallMigrator$Node;LCallMigrator$Mapping;I)I" } : Jvm.MethodName) prog_4_method_6_code (10 : Nat) (Option.some Jvm.ClassFile.FieldType.int)) ∈ lw_all := lw_g (lw_at lw_m3 28 rfl) rfl
theorem q564 : (Jvm.Cond.methodLink "CallMigrator$Migration" (112 : Nat) ({ cls := "CallMigrator$State", name := "hasEffect", desc := "(LCallMigrator$Node;)Z" } : Jvm.MethodName)) ∈ lw_all := lw_g (lw_at lw_m3 29 rfl) rfl
theorem q573 : (Jvm.Cond.methodLink "CallMigrator$Migration" (116 : Nat) ({ cls := "CallMigrator$Migration", name := "hasLaterSmaller", desc := "(LCallMigrator$Node;LCallMigrator$Mapping;II)Z" } : Jvm.MethodName)) ∈ lw_all := lw_g (lw_at lw_m3 38 rfl) rfl
theorem q574 : (Jvm.Cond.privateMethod ({ cls := "CallMigrator$Migration", name := "hasLaterSmaller", desc := "(LCallMigrator$Node;LCallMigrator$Mapping;II)Z" } : Jvm.MethodName)) ∈ lw_tbl := lw_at lw_m3 39 rfl
theorem q575 : (Jvm.Cond.instanceMethod ({ cls := "CallMigrator$Migration", name := "hasLaterSmaller", desc := "(LCallMigrator$Node;LCallMigrator$Mapping;II)Z" } : Jvm.MethodName)) ∈ lw_all := lw_g (lw_at lw_m3 40 rfl) rfl
theorem q576 : (Jvm.Cond.code ({ cls := "CallMigrator$Migration", name := "hasLaterSmaller", desc := "(LCallMigrator$Node;LCallMigrator$Mapping;II)Z" } : Jvm.MethodName) prog_4_method_7_code (8 : Nat) (Option.some Jvm.ClassFile.FieldType.boolean)) ∈ lw_all := lw_g (lw_at lw_m3 41 rfl) rfl
theorem in_X8 : ∀ w ∈ wsX80, w ∈ lw_all := lw_in wsX80 [533, 535, 537] (by decide +kernel) (by decide +kernel)
