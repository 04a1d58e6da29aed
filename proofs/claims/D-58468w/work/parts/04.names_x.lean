/-! LayeredCharters -/
set_option maxRecDepth 100000
def RX0 : String := "LayeredCharters"
def TX0 : u_T := fun k => match k with
  | 0 => ("LayeredCharters", "guild", "LLayeredCharters$Guild;", false)
  | 1 => ("LayeredCharters", "history", "Ljava/util/List;", true)
  | 2 => ("LayeredCharters", "slots", "[LLayeredCharters$Guild;", true)
  | 3 => ("LayeredCharters", "pad", "Ljava/lang/StringBuilder;", true)
  | 4 => ("LayeredCharters", "place", "I", false)
  | _ => ("LayeredCharters", "isWrong", "Z", false)
def tyX0 : Nat → FieldType := fun k => match k with
  | 0 => .object "LayeredCharters$Guild"
  | 1 => .object "java/util/List"
  | 2 => .array (.object "LayeredCharters$Guild")
  | 3 => .object "java/lang/StringBuilder"
  | 4 => .int
  | _ => .boolean
abbrev wsX00 : List Cond := u_ws RX0 TX0 6
theorem nmX0 : ∀ a, a < 6 → ∀ b, b < 6 → a ≠ b → (TX0 a).2.1 ≠ (TX0 b).2.1 := by decide +kernel
theorem tyX0_ok : ∀ k, k < 6 → parseFieldDescriptor (TX0 k).2.2.1 = some (tyX0 k) := by decide +kernel
abbrev cX0_init : ByteArray := prog_1_method_1_code
def yX0_init : MethodName := ⟨RX0, "<init>", "()V"⟩
def dkwX0_init_1 : List UInt8 := [181, 0, 19, 42, 5, 189, 0, 7, 181, 0, 23, 42, 187, 0, 27, 89, 183, 0, 29, 181, 0, 30, 177]
abbrev dktX0_init_1 : List UInt8 := dkwX0_init_1 ++ []
def dkwX0_init_0 : List UInt8 := [42, 183, 0, 1, 42, 187, 0, 7, 89, 183, 0, 9, 181, 0, 10, 42, 187, 0, 16, 89, 183, 0, 18]
abbrev dktX0_init_0 : List UInt8 := dkwX0_init_0 ++ dktX0_init_1
theorem dksX0_init_0 : cX0_init.data.toList.drop 0 = dktX0_init_0 := by decide +kernel
theorem dksX0_init_1 : cX0_init.data.toList.drop 23 = dktX0_init_1 := dk_seg dksX0_init_0 23 rfl rfl
theorem dX0_init_0 : decode cX0_init 0 = .ok (.aload_n 0, 1) := dk_42 (dk_at dksX0_init_0 0 rfl rfl)
theorem dX0_init_1 : decode cX0_init 1 = .ok (.invokespecial 1, 3) := dk_183 0 1 (dk_at dksX0_init_0 1 rfl rfl)
theorem dX0_init_4 : decode cX0_init 4 = .ok (.aload_n 0, 1) := dk_42 (dk_at dksX0_init_0 4 rfl rfl)
theorem dX0_init_5 : decode cX0_init 5 = .ok (.new 7, 3) := dk_187 0 7 (dk_at dksX0_init_0 5 rfl rfl)
theorem dX0_init_8 : decode cX0_init 8 = .ok (.dup, 1) := dk_89 (dk_at dksX0_init_0 8 rfl rfl)
theorem dX0_init_9 : decode cX0_init 9 = .ok (.invokespecial 9, 3) := dk_183 0 9 (dk_at dksX0_init_0 9 rfl rfl)
theorem dX0_init_12 : decode cX0_init 12 = .ok (.putfield 10, 3) := dk_181 0 10 (dk_at dksX0_init_0 12 rfl rfl)
theorem dX0_init_15 : decode cX0_init 15 = .ok (.aload_n 0, 1) := dk_42 (dk_at dksX0_init_0 15 rfl rfl)
theorem dX0_init_16 : decode cX0_init 16 = .ok (.new 16, 3) := dk_187 0 16 (dk_at dksX0_init_0 16 rfl rfl)
theorem dX0_init_19 : decode cX0_init 19 = .ok (.dup, 1) := dk_89 (dk_at dksX0_init_0 19 rfl rfl)
theorem dX0_init_20 : decode cX0_init 20 = .ok (.invokespecial 18, 3) := dk_183 0 18 (dk_at dksX0_init_0 20 rfl rfl)
theorem dX0_init_23 : decode cX0_init 23 = .ok (.putfield 19, 3) := dk_181 0 19 (dk_at dksX0_init_1 0 rfl rfl)
theorem dX0_init_26 : decode cX0_init 26 = .ok (.aload_n 0, 1) := dk_42 (dk_at dksX0_init_1 3 rfl rfl)
theorem dX0_init_27 : decode cX0_init 27 = .ok (.iconst 2, 1) := dk_5 (dk_at dksX0_init_1 4 rfl rfl)
theorem dX0_init_28 : decode cX0_init 28 = .ok (.anewarray 7, 3) := dk_189 0 7 (dk_at dksX0_init_1 5 rfl rfl)
theorem dX0_init_31 : decode cX0_init 31 = .ok (.putfield 23, 3) := dk_181 0 23 (dk_at dksX0_init_1 8 rfl rfl)
theorem dX0_init_34 : decode cX0_init 34 = .ok (.aload_n 0, 1) := dk_42 (dk_at dksX0_init_1 11 rfl rfl)
theorem dX0_init_35 : decode cX0_init 35 = .ok (.new 27, 3) := dk_187 0 27 (dk_at dksX0_init_1 12 rfl rfl)
theorem dX0_init_38 : decode cX0_init 38 = .ok (.dup, 1) := dk_89 (dk_at dksX0_init_1 15 rfl rfl)
theorem dX0_init_39 : decode cX0_init 39 = .ok (.invokespecial 29, 3) := dk_183 0 29 (dk_at dksX0_init_1 16 rfl rfl)
theorem dX0_init_42 : decode cX0_init 42 = .ok (.putfield 30, 3) := dk_181 0 30 (dk_at dksX0_init_1 19 rfl rfl)
theorem dX0_init_45 : decode cX0_init 45 = .ok (.return_, 1) := dk_177 (dk_at dksX0_init_1 22 rfl rfl)
abbrev cX0_add : ByteArray := prog_1_method_3_code
def yX0_add : MethodName := ⟨RX0, "add", "(IIIII)I"⟩
def dkwX0_add_5 : List UInt8 := [180, 0, 10, 180, 0, 65, 180, 0, 69, 185, 0, 44, 1, 0, 4, 100, 172]
abbrev dktX0_add_5 : List UInt8 := dkwX0_add_5 ++ []
def dkwX0_add_4 : List UInt8 := [180, 0, 69, 187, 0, 77, 89, 27, 28, 29, 21, 4, 21, 5, 183, 0, 79, 185, 0, 38, 2, 0, 87, 42]
abbrev dktX0_add_4 : List UInt8 := dkwX0_add_4 ++ dktX0_add_5
def dkwX0_add_3 : List UInt8 := [185, 0, 44, 1, 0, 16, 24, 160, 0, 6, 16, 252, 172, 42, 182, 0, 74, 42, 180, 0, 10, 180, 0, 65]
abbrev dktX0_add_3 : List UInt8 := dkwX0_add_3 ++ dktX0_add_4
def dkwX0_add_2 : List UInt8 := [172, 28, 154, 0, 10, 27, 158, 0, 6, 16, 251, 172, 42, 180, 0, 10, 180, 0, 65, 180, 0, 69]
abbrev dktX0_add_2 : List UInt8 := dkwX0_add_2 ++ dktX0_add_3
def dkwX0_add_1 : List UInt8 := [154, 0, 5, 2, 172, 28, 3, 5, 184, 0, 58, 153, 0, 11, 21, 5, 184, 0, 62, 154, 0, 6, 16, 254]
abbrev dktX0_add_1 : List UInt8 := dkwX0_add_1 ++ dktX0_add_2
def dkwX0_add_0 : List UInt8 := [27, 184, 0, 52, 153, 0, 23, 29, 3, 8, 184, 0, 58, 153, 0, 14, 21, 4, 3, 16, 6, 184, 0, 58]
abbrev dktX0_add_0 : List UInt8 := dkwX0_add_0 ++ dktX0_add_1
theorem dksX0_add_0 : cX0_add.data.toList.drop 0 = dktX0_add_0 := by decide +kernel
theorem dksX0_add_1 : cX0_add.data.toList.drop 24 = dktX0_add_1 := dk_seg dksX0_add_0 24 rfl rfl
theorem dksX0_add_2 : cX0_add.data.toList.drop 48 = dktX0_add_2 := dk_seg dksX0_add_1 24 rfl rfl
theorem dksX0_add_3 : cX0_add.data.toList.drop 70 = dktX0_add_3 := dk_seg dksX0_add_2 22 rfl rfl
theorem dksX0_add_4 : cX0_add.data.toList.drop 94 = dktX0_add_4 := dk_seg dksX0_add_3 24 rfl rfl
theorem dksX0_add_5 : cX0_add.data.toList.drop 118 = dktX0_add_5 := dk_seg dksX0_add_4 24 rfl rfl
theorem dX0_add_0 : decode cX0_add 0 = .ok (.iload_n 1, 1) := dk_27 (dk_at dksX0_add_0 0 rfl rfl)
theorem dX0_add_1 : decode cX0_add 1 = .ok (.invokestatic 52, 3) := dk_184 0 52 (dk_at dksX0_add_0 1 rfl rfl)
theorem dX0_add_4 : decode cX0_add 4 = .ok (.ifCond .eq 23, 3) := dk_153 0 23 (dk_at dksX0_add_0 4 rfl rfl)
theorem dX0_add_7 : decode cX0_add 7 = .ok (.iload_n 3, 1) := dk_29 (dk_at dksX0_add_0 7 rfl rfl)
theorem dX0_add_8 : decode cX0_add 8 = .ok (.iconst 0, 1) := dk_3 (dk_at dksX0_add_0 8 rfl rfl)
theorem dX0_add_9 : decode cX0_add 9 = .ok (.iconst 5, 1) := dk_8 (dk_at dksX0_add_0 9 rfl rfl)
theorem dX0_add_10 : decode cX0_add 10 = .ok (.invokestatic 58, 3) := dk_184 0 58 (dk_at dksX0_add_0 10 rfl rfl)
theorem dX0_add_13 : decode cX0_add 13 = .ok (.ifCond .eq 14, 3) := dk_153 0 14 (dk_at dksX0_add_0 13 rfl rfl)
theorem dX0_add_16 : decode cX0_add 16 = .ok (.iload 4, 2) := dk_21 4 (dk_at dksX0_add_0 16 rfl rfl)
theorem dX0_add_18 : decode cX0_add 18 = .ok (.iconst 0, 1) := dk_3 (dk_at dksX0_add_0 18 rfl rfl)
theorem dX0_add_19 : decode cX0_add 19 = .ok (.bipush 6, 2) := dk_16 6 (dk_at dksX0_add_0 19 rfl rfl)
theorem dX0_add_21 : decode cX0_add 21 = .ok (.invokestatic 58, 3) := dk_184 0 58 (dk_at dksX0_add_0 21 rfl rfl)
theorem dX0_add_24 : decode cX0_add 24 = .ok (.ifCond .ne 5, 3) := dk_154 0 5 (dk_at dksX0_add_1 0 rfl rfl)
theorem dX0_add_27 : decode cX0_add 27 = .ok (.iconst (-1), 1) := dk_2 (dk_at dksX0_add_1 3 rfl rfl)
theorem dX0_add_28 : decode cX0_add 28 = .ok (.ireturn, 1) := dk_172 (dk_at dksX0_add_1 4 rfl rfl)
theorem dX0_add_29 : decode cX0_add 29 = .ok (.iload_n 2, 1) := dk_28 (dk_at dksX0_add_1 5 rfl rfl)
theorem dX0_add_30 : decode cX0_add 30 = .ok (.iconst 0, 1) := dk_3 (dk_at dksX0_add_1 6 rfl rfl)
theorem dX0_add_31 : decode cX0_add 31 = .ok (.iconst 2, 1) := dk_5 (dk_at dksX0_add_1 7 rfl rfl)
theorem dX0_add_32 : decode cX0_add 32 = .ok (.invokestatic 58, 3) := dk_184 0 58 (dk_at dksX0_add_1 8 rfl rfl)
theorem dX0_add_35 : decode cX0_add 35 = .ok (.ifCond .eq 11, 3) := dk_153 0 11 (dk_at dksX0_add_1 11 rfl rfl)
theorem dX0_add_38 : decode cX0_add 38 = .ok (.iload 5, 2) := dk_21 5 (dk_at dksX0_add_1 14 rfl rfl)
theorem dX0_add_40 : decode cX0_add 40 = .ok (.invokestatic 62, 3) := dk_184 0 62 (dk_at dksX0_add_1 16 rfl rfl)
theorem dX0_add_43 : decode cX0_add 43 = .ok (.ifCond .ne 6, 3) := dk_154 0 6 (dk_at dksX0_add_1 19 rfl rfl)
theorem dX0_add_46 : decode cX0_add 46 = .ok (.bipush (-2), 2) := dk_16 254 (dk_at dksX0_add_1 22 rfl rfl)
theorem dX0_add_48 : decode cX0_add 48 = .ok (.ireturn, 1) := dk_172 (dk_at dksX0_add_2 0 rfl rfl)
theorem dX0_add_49 : decode cX0_add 49 = .ok (.iload_n 2, 1) := dk_28 (dk_at dksX0_add_2 1 rfl rfl)
theorem dX0_add_50 : decode cX0_add 50 = .ok (.ifCond .ne 10, 3) := dk_154 0 10 (dk_at dksX0_add_2 2 rfl rfl)
theorem dX0_add_53 : decode cX0_add 53 = .ok (.iload_n 1, 1) := dk_27 (dk_at dksX0_add_2 5 rfl rfl)
theorem dX0_add_54 : decode cX0_add 54 = .ok (.ifCond .le 6, 3) := dk_158 0 6 (dk_at dksX0_add_2 6 rfl rfl)
theorem dX0_add_57 : decode cX0_add 57 = .ok (.bipush (-5), 2) := dk_16 251 (dk_at dksX0_add_2 9 rfl rfl)
theorem dX0_add_59 : decode cX0_add 59 = .ok (.ireturn, 1) := dk_172 (dk_at dksX0_add_2 11 rfl rfl)
theorem dX0_add_60 : decode cX0_add 60 = .ok (.aload_n 0, 1) := dk_42 (dk_at dksX0_add_2 12 rfl rfl)
theorem dX0_add_61 : decode cX0_add 61 = .ok (.getfield 10, 3) := dk_180 0 10 (dk_at dksX0_add_2 13 rfl rfl)
theorem dX0_add_64 : decode cX0_add 64 = .ok (.getfield 65, 3) := dk_180 0 65 (dk_at dksX0_add_2 16 rfl rfl)
theorem dX0_add_67 : decode cX0_add 67 = .ok (.getfield 69, 3) := dk_180 0 69 (dk_at dksX0_add_2 19 rfl rfl)
theorem dX0_add_70 : decode cX0_add 70 = .ok (.invokeinterface 44 1, 5) := by decide +kernel
theorem dX0_add_75 : decode cX0_add 75 = .ok (.bipush 24, 2) := dk_16 24 (dk_at dksX0_add_3 5 rfl rfl)
theorem dX0_add_77 : decode cX0_add 77 = .ok (.if_icmp .ne 6, 3) := dk_160 0 6 (dk_at dksX0_add_3 7 rfl rfl)
theorem dX0_add_80 : decode cX0_add 80 = .ok (.bipush (-4), 2) := dk_16 252 (dk_at dksX0_add_3 10 rfl rfl)
theorem dX0_add_82 : decode cX0_add 82 = .ok (.ireturn, 1) := dk_172 (dk_at dksX0_add_3 12 rfl rfl)
theorem dX0_add_83 : decode cX0_add 83 = .ok (.aload_n 0, 1) := dk_42 (dk_at dksX0_add_3 13 rfl rfl)
theorem dX0_add_84 : decode cX0_add 84 = .ok (.invokevirtual 74, 3) := dk_182 0 74 (dk_at dksX0_add_3 14 rfl rfl)
theorem dX0_add_87 : decode cX0_add 87 = .ok (.aload_n 0, 1) := dk_42 (dk_at dksX0_add_3 17 rfl rfl)
theorem dX0_add_88 : decode cX0_add 88 = .ok (.getfield 10, 3) := dk_180 0 10 (dk_at dksX0_add_3 18 rfl rfl)
theorem dX0_add_91 : decode cX0_add 91 = .ok (.getfield 65, 3) := dk_180 0 65 (dk_at dksX0_add_3 21 rfl rfl)
theorem dX0_add_94 : decode cX0_add 94 = .ok (.getfield 69, 3) := dk_180 0 69 (dk_at dksX0_add_4 0 rfl rfl)
theorem dX0_add_97 : decode cX0_add 97 = .ok (.new 77, 3) := dk_187 0 77 (dk_at dksX0_add_4 3 rfl rfl)
theorem dX0_add_100 : decode cX0_add 100 = .ok (.dup, 1) := dk_89 (dk_at dksX0_add_4 6 rfl rfl)
theorem dX0_add_101 : decode cX0_add 101 = .ok (.iload_n 1, 1) := dk_27 (dk_at dksX0_add_4 7 rfl rfl)
theorem dX0_add_102 : decode cX0_add 102 = .ok (.iload_n 2, 1) := dk_28 (dk_at dksX0_add_4 8 rfl rfl)
theorem dX0_add_103 : decode cX0_add 103 = .ok (.iload_n 3, 1) := dk_29 (dk_at dksX0_add_4 9 rfl rfl)
theorem dX0_add_104 : decode cX0_add 104 = .ok (.iload 4, 2) := dk_21 4 (dk_at dksX0_add_4 10 rfl rfl)
theorem dX0_add_106 : decode cX0_add 106 = .ok (.iload 5, 2) := dk_21 5 (dk_at dksX0_add_4 12 rfl rfl)
theorem dX0_add_108 : decode cX0_add 108 = .ok (.invokespecial 79, 3) := dk_183 0 79 (dk_at dksX0_add_4 14 rfl rfl)
theorem dX0_add_111 : decode cX0_add 111 = .ok (.invokeinterface 38 2, 5) := by decide +kernel
theorem dX0_add_116 : decode cX0_add 116 = .ok (.pop, 1) := dk_87 (dk_at dksX0_add_4 22 rfl rfl)
theorem dX0_add_117 : decode cX0_add 117 = .ok (.aload_n 0, 1) := dk_42 (dk_at dksX0_add_4 23 rfl rfl)
theorem dX0_add_118 : decode cX0_add 118 = .ok (.getfield 10, 3) := dk_180 0 10 (dk_at dksX0_add_5 0 rfl rfl)
theorem dX0_add_121 : decode cX0_add 121 = .ok (.getfield 65, 3) := dk_180 0 65 (dk_at dksX0_add_5 3 rfl rfl)
theorem dX0_add_124 : decode cX0_add 124 = .ok (.getfield 69, 3) := dk_180 0 69 (dk_at dksX0_add_5 6 rfl rfl)
theorem dX0_add_127 : decode cX0_add 127 = .ok (.invokeinterface 44 1, 5) := by decide +kernel
theorem dX0_add_132 : decode cX0_add 132 = .ok (.iconst 1, 1) := dk_4 (dk_at dksX0_add_5 14 rfl rfl)
theorem dX0_add_133 : decode cX0_add 133 = .ok (.isub, 1) := dk_100 (dk_at dksX0_add_5 15 rfl rfl)
theorem dX0_add_134 : decode cX0_add 134 = .ok (.ireturn, 1) := dk_172 (dk_at dksX0_add_5 16 rfl rfl)
abbrev cX0_record : ByteArray := prog_1_method_2_code
def yX0_record : MethodName := ⟨RX0, "record", "()V"⟩
def dkwX0_record_1 : List UInt8 := [185, 0, 44, 1, 0, 16, 6, 164, 0, 14, 42, 180, 0, 19, 3, 185, 0, 48, 2, 0, 87, 177]
abbrev dktX0_record_1 : List UInt8 := dkwX0_record_1 ++ []
def dkwX0_record_0 : List UInt8 := [42, 180, 0, 19, 42, 180, 0, 10, 182, 0, 34, 185, 0, 38, 2, 0, 87, 42, 180, 0, 19]
abbrev dktX0_record_0 : List UInt8 := dkwX0_record_0 ++ dktX0_record_1
theorem dksX0_record_0 : cX0_record.data.toList.drop 0 = dktX0_record_0 := by decide +kernel
theorem dksX0_record_1 : cX0_record.data.toList.drop 21 = dktX0_record_1 := dk_seg dksX0_record_0 21 rfl rfl
theorem dX0_record_0 : decode cX0_record 0 = .ok (.aload_n 0, 1) := dk_42 (dk_at dksX0_record_0 0 rfl rfl)
theorem dX0_record_1 : decode cX0_record 1 = .ok (.getfield 19, 3) := dk_180 0 19 (dk_at dksX0_record_0 1 rfl rfl)
theorem dX0_record_4 : decode cX0_record 4 = .ok (.aload_n 0, 1) := dk_42 (dk_at dksX0_record_0 4 rfl rfl)
theorem dX0_record_5 : decode cX0_record 5 = .ok (.getfield 10, 3) := dk_180 0 10 (dk_at dksX0_record_0 5 rfl rfl)
theorem dX0_record_8 : decode cX0_record 8 = .ok (.invokevirtual 34, 3) := dk_182 0 34 (dk_at dksX0_record_0 8 rfl rfl)
theorem dX0_record_11 : decode cX0_record 11 = .ok (.invokeinterface 38 2, 5) := by decide +kernel
theorem dX0_record_16 : decode cX0_record 16 = .ok (.pop, 1) := dk_87 (dk_at dksX0_record_0 16 rfl rfl)
theorem dX0_record_17 : decode cX0_record 17 = .ok (.aload_n 0, 1) := dk_42 (dk_at dksX0_record_0 17 rfl rfl)
theorem dX0_record_18 : decode cX0_record 18 = .ok (.getfield 19, 3) := dk_180 0 19 (dk_at dksX0_record_0 18 rfl rfl)
theorem dX0_record_21 : decode cX0_record 21 = .ok (.invokeinterface 44 1, 5) := by decide +kernel
theorem dX0_record_26 : decode cX0_record 26 = .ok (.bipush 6, 2) := dk_16 6 (dk_at dksX0_record_1 5 rfl rfl)
theorem dX0_record_28 : decode cX0_record 28 = .ok (.if_icmp .le 14, 3) := dk_164 0 14 (dk_at dksX0_record_1 7 rfl rfl)
theorem dX0_record_31 : decode cX0_record 31 = .ok (.aload_n 0, 1) := dk_42 (dk_at dksX0_record_1 10 rfl rfl)
theorem dX0_record_32 : decode cX0_record 32 = .ok (.getfield 19, 3) := dk_180 0 19 (dk_at dksX0_record_1 11 rfl rfl)
theorem dX0_record_35 : decode cX0_record 35 = .ok (.iconst 0, 1) := dk_3 (dk_at dksX0_record_1 14 rfl rfl)
theorem dX0_record_36 : decode cX0_record 36 = .ok (.invokeinterface 48 2, 5) := by decide +kernel
theorem dX0_record_41 : decode cX0_record 41 = .ok (.pop, 1) := dk_87 (dk_at dksX0_record_1 20 rfl rfl)
theorem dX0_record_42 : decode cX0_record 42 = .ok (.return_, 1) := dk_177 (dk_at dksX0_record_1 21 rfl rfl)
abbrev cX0_strike : ByteArray := prog_1_method_4_code
def yX0_strike : MethodName := ⟨RX0, "strike", "(I)I"⟩
def dkwX0_strike_2 : List UInt8 := [185, 0, 44, 1, 0, 172]
abbrev dktX0_strike_2 : List UInt8 := dkwX0_strike_2 ++ []
def dkwX0_strike_1 : List UInt8 := [180, 0, 65, 180, 0, 69, 27, 185, 0, 48, 2, 0, 87, 42, 180, 0, 10, 180, 0, 65, 180, 0, 69]
abbrev dktX0_strike_1 : List UInt8 := dkwX0_strike_1 ++ dktX0_strike_2
def dkwX0_strike_0 : List UInt8 := [42, 180, 0, 10, 180, 0, 65, 27, 182, 0, 82, 154, 0, 5, 2, 172, 42, 182, 0, 74, 42, 180, 0, 10]
abbrev dktX0_strike_0 : List UInt8 := dkwX0_strike_0 ++ dktX0_strike_1
theorem dksX0_strike_0 : cX0_strike.data.toList.drop 0 = dktX0_strike_0 := by decide +kernel
theorem dksX0_strike_1 : cX0_strike.data.toList.drop 24 = dktX0_strike_1 := dk_seg dksX0_strike_0 24 rfl rfl
theorem dksX0_strike_2 : cX0_strike.data.toList.drop 47 = dktX0_strike_2 := dk_seg dksX0_strike_1 23 rfl rfl
theorem dX0_strike_0 : decode cX0_strike 0 = .ok (.aload_n 0, 1) := dk_42 (dk_at dksX0_strike_0 0 rfl rfl)
theorem dX0_strike_1 : decode cX0_strike 1 = .ok (.getfield 10, 3) := dk_180 0 10 (dk_at dksX0_strike_0 1 rfl rfl)
theorem dX0_strike_4 : decode cX0_strike 4 = .ok (.getfield 65, 3) := dk_180 0 65 (dk_at dksX0_strike_0 4 rfl rfl)
theorem dX0_strike_7 : decode cX0_strike 7 = .ok (.iload_n 1, 1) := dk_27 (dk_at dksX0_strike_0 7 rfl rfl)
theorem dX0_strike_8 : decode cX0_strike 8 = .ok (.invokevirtual 82, 3) := dk_182 0 82 (dk_at dksX0_strike_0 8 rfl rfl)
theorem dX0_strike_11 : decode cX0_strike 11 = .ok (.ifCond .ne 5, 3) := dk_154 0 5 (dk_at dksX0_strike_0 11 rfl rfl)
theorem dX0_strike_14 : decode cX0_strike 14 = .ok (.iconst (-1), 1) := dk_2 (dk_at dksX0_strike_0 14 rfl rfl)
theorem dX0_strike_15 : decode cX0_strike 15 = .ok (.ireturn, 1) := dk_172 (dk_at dksX0_strike_0 15 rfl rfl)
theorem dX0_strike_16 : decode cX0_strike 16 = .ok (.aload_n 0, 1) := dk_42 (dk_at dksX0_strike_0 16 rfl rfl)
theorem dX0_strike_17 : decode cX0_strike 17 = .ok (.invokevirtual 74, 3) := dk_182 0 74 (dk_at dksX0_strike_0 17 rfl rfl)
theorem dX0_strike_20 : decode cX0_strike 20 = .ok (.aload_n 0, 1) := dk_42 (dk_at dksX0_strike_0 20 rfl rfl)
theorem dX0_strike_21 : decode cX0_strike 21 = .ok (.getfield 10, 3) := dk_180 0 10 (dk_at dksX0_strike_0 21 rfl rfl)
theorem dX0_strike_24 : decode cX0_strike 24 = .ok (.getfield 65, 3) := dk_180 0 65 (dk_at dksX0_strike_1 0 rfl rfl)
theorem dX0_strike_27 : decode cX0_strike 27 = .ok (.getfield 69, 3) := dk_180 0 69 (dk_at dksX0_strike_1 3 rfl rfl)
theorem dX0_strike_30 : decode cX0_strike 30 = .ok (.iload_n 1, 1) := dk_27 (dk_at dksX0_strike_1 6 rfl rfl)
theorem dX0_strike_31 : decode cX0_strike 31 = .ok (.invokeinterface 48 2, 5) := by decide +kernel
theorem dX0_strike_36 : decode cX0_strike 36 = .ok (.pop, 1) := dk_87 (dk_at dksX0_strike_1 12 rfl rfl)
theorem dX0_strike_37 : decode cX0_strike 37 = .ok (.aload_n 0, 1) := dk_42 (dk_at dksX0_strike_1 13 rfl rfl)
theorem dX0_strike_38 : decode cX0_strike 38 = .ok (.getfield 10, 3) := dk_180 0 10 (dk_at dksX0_strike_1 14 rfl rfl)
theorem dX0_strike_41 : decode cX0_strike 41 = .ok (.getfield 65, 3) := dk_180 0 65 (dk_at dksX0_strike_1 17 rfl rfl)
theorem dX0_strike_44 : decode cX0_strike 44 = .ok (.getfield 69, 3) := dk_180 0 69 (dk_at dksX0_strike_1 20 rfl rfl)
theorem dX0_strike_47 : decode cX0_strike 47 = .ok (.invokeinterface 44 1, 5) := by decide +kernel
theorem dX0_strike_52 : decode cX0_strike 52 = .ok (.ireturn, 1) := dk_172 (dk_at dksX0_strike_2 5 rfl rfl)
abbrev cX0_seal : ByteArray := prog_1_method_6_code
def yX0_seal : MethodName := ⟨RX0, "seal", "(II)I"⟩
def dkwX0_seal_2 : List UInt8 := [192, 0, 77, 78, 42, 27, 45, 180, 0, 102, 28, 182, 0, 105, 45, 180, 0, 109, 172]
abbrev dktX0_seal_2 : List UInt8 := dkwX0_seal_2 ++ []
def dkwX0_seal_1 : List UInt8 := [16, 254, 172, 42, 182, 0, 74, 42, 180, 0, 10, 180, 0, 65, 180, 0, 69, 27, 185, 0, 85, 2, 0]
abbrev dktX0_seal_1 : List UInt8 := dkwX0_seal_1 ++ dktX0_seal_2
def dkwX0_seal_0 : List UInt8 := [42, 180, 0, 10, 180, 0, 65, 27, 182, 0, 82, 154, 0, 5, 2, 172, 28, 184, 0, 62, 154, 0, 6]
abbrev dktX0_seal_0 : List UInt8 := dkwX0_seal_0 ++ dktX0_seal_1
theorem dksX0_seal_0 : cX0_seal.data.toList.drop 0 = dktX0_seal_0 := by decide +kernel
theorem dksX0_seal_1 : cX0_seal.data.toList.drop 23 = dktX0_seal_1 := dk_seg dksX0_seal_0 23 rfl rfl
theorem dksX0_seal_2 : cX0_seal.data.toList.drop 46 = dktX0_seal_2 := dk_seg dksX0_seal_1 23 rfl rfl
theorem dX0_seal_0 : decode cX0_seal 0 = .ok (.aload_n 0, 1) := dk_42 (dk_at dksX0_seal_0 0 rfl rfl)
theorem dX0_seal_1 : decode cX0_seal 1 = .ok (.getfield 10, 3) := dk_180 0 10 (dk_at dksX0_seal_0 1 rfl rfl)
theorem dX0_seal_4 : decode cX0_seal 4 = .ok (.getfield 65, 3) := dk_180 0 65 (dk_at dksX0_seal_0 4 rfl rfl)
theorem dX0_seal_7 : decode cX0_seal 7 = .ok (.iload_n 1, 1) := dk_27 (dk_at dksX0_seal_0 7 rfl rfl)
theorem dX0_seal_8 : decode cX0_seal 8 = .ok (.invokevirtual 82, 3) := dk_182 0 82 (dk_at dksX0_seal_0 8 rfl rfl)
theorem dX0_seal_11 : decode cX0_seal 11 = .ok (.ifCond .ne 5, 3) := dk_154 0 5 (dk_at dksX0_seal_0 11 rfl rfl)
theorem dX0_seal_14 : decode cX0_seal 14 = .ok (.iconst (-1), 1) := dk_2 (dk_at dksX0_seal_0 14 rfl rfl)
theorem dX0_seal_15 : decode cX0_seal 15 = .ok (.ireturn, 1) := dk_172 (dk_at dksX0_seal_0 15 rfl rfl)
theorem dX0_seal_16 : decode cX0_seal 16 = .ok (.iload_n 2, 1) := dk_28 (dk_at dksX0_seal_0 16 rfl rfl)
theorem dX0_seal_17 : decode cX0_seal 17 = .ok (.invokestatic 62, 3) := dk_184 0 62 (dk_at dksX0_seal_0 17 rfl rfl)
theorem dX0_seal_20 : decode cX0_seal 20 = .ok (.ifCond .ne 6, 3) := dk_154 0 6 (dk_at dksX0_seal_0 20 rfl rfl)
theorem dX0_seal_23 : decode cX0_seal 23 = .ok (.bipush (-2), 2) := dk_16 254 (dk_at dksX0_seal_1 0 rfl rfl)
theorem dX0_seal_25 : decode cX0_seal 25 = .ok (.ireturn, 1) := dk_172 (dk_at dksX0_seal_1 2 rfl rfl)
theorem dX0_seal_26 : decode cX0_seal 26 = .ok (.aload_n 0, 1) := dk_42 (dk_at dksX0_seal_1 3 rfl rfl)
theorem dX0_seal_27 : decode cX0_seal 27 = .ok (.invokevirtual 74, 3) := dk_182 0 74 (dk_at dksX0_seal_1 4 rfl rfl)
theorem dX0_seal_30 : decode cX0_seal 30 = .ok (.aload_n 0, 1) := dk_42 (dk_at dksX0_seal_1 7 rfl rfl)
theorem dX0_seal_31 : decode cX0_seal 31 = .ok (.getfield 10, 3) := dk_180 0 10 (dk_at dksX0_seal_1 8 rfl rfl)
theorem dX0_seal_34 : decode cX0_seal 34 = .ok (.getfield 65, 3) := dk_180 0 65 (dk_at dksX0_seal_1 11 rfl rfl)
theorem dX0_seal_37 : decode cX0_seal 37 = .ok (.getfield 69, 3) := dk_180 0 69 (dk_at dksX0_seal_1 14 rfl rfl)
theorem dX0_seal_40 : decode cX0_seal 40 = .ok (.iload_n 1, 1) := dk_27 (dk_at dksX0_seal_1 17 rfl rfl)
theorem dX0_seal_41 : decode cX0_seal 41 = .ok (.invokeinterface 85 2, 5) := by decide +kernel
theorem dX0_seal_46 : decode cX0_seal 46 = .ok (.checkcast 77, 3) := dk_192 0 77 (dk_at dksX0_seal_2 0 rfl rfl)
theorem dX0_seal_49 : decode cX0_seal 49 = .ok (.astore_n 3, 1) := dk_78 (dk_at dksX0_seal_2 3 rfl rfl)
theorem dX0_seal_50 : decode cX0_seal 50 = .ok (.aload_n 0, 1) := dk_42 (dk_at dksX0_seal_2 4 rfl rfl)
theorem dX0_seal_51 : decode cX0_seal 51 = .ok (.iload_n 1, 1) := dk_27 (dk_at dksX0_seal_2 5 rfl rfl)
theorem dX0_seal_52 : decode cX0_seal 52 = .ok (.aload_n 3, 1) := dk_45 (dk_at dksX0_seal_2 6 rfl rfl)
theorem dX0_seal_53 : decode cX0_seal 53 = .ok (.getfield 102, 3) := dk_180 0 102 (dk_at dksX0_seal_2 7 rfl rfl)
theorem dX0_seal_56 : decode cX0_seal 56 = .ok (.iload_n 2, 1) := dk_28 (dk_at dksX0_seal_2 10 rfl rfl)
theorem dX0_seal_57 : decode cX0_seal 57 = .ok (.invokevirtual 105, 3) := dk_182 0 105 (dk_at dksX0_seal_2 11 rfl rfl)
theorem dX0_seal_60 : decode cX0_seal 60 = .ok (.aload_n 3, 1) := dk_45 (dk_at dksX0_seal_2 14 rfl rfl)
theorem dX0_seal_61 : decode cX0_seal 61 = .ok (.getfield 109, 3) := dk_180 0 109 (dk_at dksX0_seal_2 15 rfl rfl)
theorem dX0_seal_64 : decode cX0_seal 64 = .ok (.ireturn, 1) := dk_172 (dk_at dksX0_seal_2 18 rfl rfl)
abbrev cX0_change : ByteArray := prog_1_method_5_code
def yX0_change : MethodName := ⟨RX0, "change", "(III)V"⟩
def dkwX0_change_2 : List UInt8 := [180, 0, 92, 25, 4, 180, 0, 95, 29, 183, 0, 79, 185, 0, 98, 3, 0, 87, 177]
abbrev dktX0_change_2 : List UInt8 := dkwX0_change_2 ++ []
def dkwX0_change_1 : List UInt8 := [180, 0, 10, 180, 0, 65, 180, 0, 69, 27, 187, 0, 77, 89, 28, 25, 4, 180, 0, 88, 25, 4]
abbrev dktX0_change_1 : List UInt8 := dkwX0_change_1 ++ dktX0_change_2
def dkwX0_change_0 : List UInt8 := [42, 180, 0, 10, 180, 0, 65, 180, 0, 69, 27, 185, 0, 85, 2, 0, 192, 0, 77, 58, 4, 42]
abbrev dktX0_change_0 : List UInt8 := dkwX0_change_0 ++ dktX0_change_1
theorem dksX0_change_0 : cX0_change.data.toList.drop 0 = dktX0_change_0 := by decide +kernel
theorem dksX0_change_1 : cX0_change.data.toList.drop 22 = dktX0_change_1 := dk_seg dksX0_change_0 22 rfl rfl
theorem dksX0_change_2 : cX0_change.data.toList.drop 44 = dktX0_change_2 := dk_seg dksX0_change_1 22 rfl rfl
theorem dX0_change_0 : decode cX0_change 0 = .ok (.aload_n 0, 1) := dk_42 (dk_at dksX0_change_0 0 rfl rfl)
theorem dX0_change_1 : decode cX0_change 1 = .ok (.getfield 10, 3) := dk_180 0 10 (dk_at dksX0_change_0 1 rfl rfl)
theorem dX0_change_4 : decode cX0_change 4 = .ok (.getfield 65, 3) := dk_180 0 65 (dk_at dksX0_change_0 4 rfl rfl)
theorem dX0_change_7 : decode cX0_change 7 = .ok (.getfield 69, 3) := dk_180 0 69 (dk_at dksX0_change_0 7 rfl rfl)
theorem dX0_change_10 : decode cX0_change 10 = .ok (.iload_n 1, 1) := dk_27 (dk_at dksX0_change_0 10 rfl rfl)
theorem dX0_change_11 : decode cX0_change 11 = .ok (.invokeinterface 85 2, 5) := by decide +kernel
theorem dX0_change_16 : decode cX0_change 16 = .ok (.checkcast 77, 3) := dk_192 0 77 (dk_at dksX0_change_0 16 rfl rfl)
theorem dX0_change_19 : decode cX0_change 19 = .ok (.astore 4, 2) := dk_58 4 (dk_at dksX0_change_0 19 rfl rfl)
theorem dX0_change_21 : decode cX0_change 21 = .ok (.aload_n 0, 1) := dk_42 (dk_at dksX0_change_0 21 rfl rfl)
theorem dX0_change_22 : decode cX0_change 22 = .ok (.getfield 10, 3) := dk_180 0 10 (dk_at dksX0_change_1 0 rfl rfl)
theorem dX0_change_25 : decode cX0_change 25 = .ok (.getfield 65, 3) := dk_180 0 65 (dk_at dksX0_change_1 3 rfl rfl)
theorem dX0_change_28 : decode cX0_change 28 = .ok (.getfield 69, 3) := dk_180 0 69 (dk_at dksX0_change_1 6 rfl rfl)
theorem dX0_change_31 : decode cX0_change 31 = .ok (.iload_n 1, 1) := dk_27 (dk_at dksX0_change_1 9 rfl rfl)
theorem dX0_change_32 : decode cX0_change 32 = .ok (.new 77, 3) := dk_187 0 77 (dk_at dksX0_change_1 10 rfl rfl)
theorem dX0_change_35 : decode cX0_change 35 = .ok (.dup, 1) := dk_89 (dk_at dksX0_change_1 13 rfl rfl)
theorem dX0_change_36 : decode cX0_change 36 = .ok (.iload_n 2, 1) := dk_28 (dk_at dksX0_change_1 14 rfl rfl)
theorem dX0_change_37 : decode cX0_change 37 = .ok (.aload 4, 2) := dk_25 4 (dk_at dksX0_change_1 15 rfl rfl)
theorem dX0_change_39 : decode cX0_change 39 = .ok (.getfield 88, 3) := dk_180 0 88 (dk_at dksX0_change_1 17 rfl rfl)
theorem dX0_change_42 : decode cX0_change 42 = .ok (.aload 4, 2) := dk_25 4 (dk_at dksX0_change_1 20 rfl rfl)
theorem dX0_change_44 : decode cX0_change 44 = .ok (.getfield 92, 3) := dk_180 0 92 (dk_at dksX0_change_2 0 rfl rfl)
theorem dX0_change_47 : decode cX0_change 47 = .ok (.aload 4, 2) := dk_25 4 (dk_at dksX0_change_2 3 rfl rfl)
theorem dX0_change_49 : decode cX0_change 49 = .ok (.getfield 95, 3) := dk_180 0 95 (dk_at dksX0_change_2 5 rfl rfl)
theorem dX0_change_52 : decode cX0_change 52 = .ok (.iload_n 3, 1) := dk_29 (dk_at dksX0_change_2 8 rfl rfl)
theorem dX0_change_53 : decode cX0_change 53 = .ok (.invokespecial 79, 3) := dk_183 0 79 (dk_at dksX0_change_2 9 rfl rfl)
theorem dX0_change_56 : decode cX0_change 56 = .ok (.invokeinterface 98 3, 5) := by decide +kernel
theorem dX0_change_61 : decode cX0_change 61 = .ok (.pop, 1) := dk_87 (dk_at dksX0_change_2 17 rfl rfl)
theorem dX0_change_62 : decode cX0_change 62 = .ok (.return_, 1) := dk_177 (dk_at dksX0_change_2 18 rfl rfl)
abbrev cX0_move : ByteArray := prog_1_method_7_code
def yX0_move : MethodName := ⟨RX0, "move", "(II)I"⟩
def dkwX0_move_3 : List UInt8 := [45, 180, 0, 102, 172]
abbrev dktX0_move_3 : List UInt8 := dkwX0_move_3 ++ []
def dkwX0_move_2 : List UInt8 := [154, 0, 10, 28, 158, 0, 6, 16, 251, 172, 42, 182, 0, 74, 42, 27, 28, 45, 180, 0, 109, 182, 0, 105]
abbrev dktX0_move_2 : List UInt8 := dkwX0_move_2 ++ dktX0_move_3
def dkwX0_move_1 : List UInt8 := [180, 0, 10, 180, 0, 65, 180, 0, 69, 27, 185, 0, 85, 2, 0, 192, 0, 77, 78, 45, 180, 0, 88]
abbrev dktX0_move_1 : List UInt8 := dkwX0_move_1 ++ dktX0_move_2
def dkwX0_move_0 : List UInt8 := [42, 180, 0, 10, 180, 0, 65, 27, 182, 0, 82, 153, 0, 10, 28, 184, 0, 52, 154, 0, 5, 2, 172, 42]
abbrev dktX0_move_0 : List UInt8 := dkwX0_move_0 ++ dktX0_move_1
theorem dksX0_move_0 : cX0_move.data.toList.drop 0 = dktX0_move_0 := by decide +kernel
theorem dksX0_move_1 : cX0_move.data.toList.drop 24 = dktX0_move_1 := dk_seg dksX0_move_0 24 rfl rfl
theorem dksX0_move_2 : cX0_move.data.toList.drop 47 = dktX0_move_2 := dk_seg dksX0_move_1 23 rfl rfl
theorem dksX0_move_3 : cX0_move.data.toList.drop 71 = dktX0_move_3 := dk_seg dksX0_move_2 24 rfl rfl
theorem dX0_move_0 : decode cX0_move 0 = .ok (.aload_n 0, 1) := dk_42 (dk_at dksX0_move_0 0 rfl rfl)
theorem dX0_move_1 : decode cX0_move 1 = .ok (.getfield 10, 3) := dk_180 0 10 (dk_at dksX0_move_0 1 rfl rfl)
theorem dX0_move_4 : decode cX0_move 4 = .ok (.getfield 65, 3) := dk_180 0 65 (dk_at dksX0_move_0 4 rfl rfl)
theorem dX0_move_7 : decode cX0_move 7 = .ok (.iload_n 1, 1) := dk_27 (dk_at dksX0_move_0 7 rfl rfl)
theorem dX0_move_8 : decode cX0_move 8 = .ok (.invokevirtual 82, 3) := dk_182 0 82 (dk_at dksX0_move_0 8 rfl rfl)
theorem dX0_move_11 : decode cX0_move 11 = .ok (.ifCond .eq 10, 3) := dk_153 0 10 (dk_at dksX0_move_0 11 rfl rfl)
theorem dX0_move_14 : decode cX0_move 14 = .ok (.iload_n 2, 1) := dk_28 (dk_at dksX0_move_0 14 rfl rfl)
theorem dX0_move_15 : decode cX0_move 15 = .ok (.invokestatic 52, 3) := dk_184 0 52 (dk_at dksX0_move_0 15 rfl rfl)
theorem dX0_move_18 : decode cX0_move 18 = .ok (.ifCond .ne 5, 3) := dk_154 0 5 (dk_at dksX0_move_0 18 rfl rfl)
theorem dX0_move_21 : decode cX0_move 21 = .ok (.iconst (-1), 1) := dk_2 (dk_at dksX0_move_0 21 rfl rfl)
theorem dX0_move_22 : decode cX0_move 22 = .ok (.ireturn, 1) := dk_172 (dk_at dksX0_move_0 22 rfl rfl)
theorem dX0_move_23 : decode cX0_move 23 = .ok (.aload_n 0, 1) := dk_42 (dk_at dksX0_move_0 23 rfl rfl)
theorem dX0_move_24 : decode cX0_move 24 = .ok (.getfield 10, 3) := dk_180 0 10 (dk_at dksX0_move_1 0 rfl rfl)
theorem dX0_move_27 : decode cX0_move 27 = .ok (.getfield 65, 3) := dk_180 0 65 (dk_at dksX0_move_1 3 rfl rfl)
theorem dX0_move_30 : decode cX0_move 30 = .ok (.getfield 69, 3) := dk_180 0 69 (dk_at dksX0_move_1 6 rfl rfl)
theorem dX0_move_33 : decode cX0_move 33 = .ok (.iload_n 1, 1) := dk_27 (dk_at dksX0_move_1 9 rfl rfl)
theorem dX0_move_34 : decode cX0_move 34 = .ok (.invokeinterface 85 2, 5) := by decide +kernel
theorem dX0_move_39 : decode cX0_move 39 = .ok (.checkcast 77, 3) := dk_192 0 77 (dk_at dksX0_move_1 15 rfl rfl)
theorem dX0_move_42 : decode cX0_move 42 = .ok (.astore_n 3, 1) := dk_78 (dk_at dksX0_move_1 18 rfl rfl)
theorem dX0_move_43 : decode cX0_move 43 = .ok (.aload_n 3, 1) := dk_45 (dk_at dksX0_move_1 19 rfl rfl)
theorem dX0_move_44 : decode cX0_move 44 = .ok (.getfield 88, 3) := dk_180 0 88 (dk_at dksX0_move_1 20 rfl rfl)
theorem dX0_move_47 : decode cX0_move 47 = .ok (.ifCond .ne 10, 3) := dk_154 0 10 (dk_at dksX0_move_2 0 rfl rfl)
theorem dX0_move_50 : decode cX0_move 50 = .ok (.iload_n 2, 1) := dk_28 (dk_at dksX0_move_2 3 rfl rfl)
theorem dX0_move_51 : decode cX0_move 51 = .ok (.ifCond .le 6, 3) := dk_158 0 6 (dk_at dksX0_move_2 4 rfl rfl)
theorem dX0_move_54 : decode cX0_move 54 = .ok (.bipush (-5), 2) := dk_16 251 (dk_at dksX0_move_2 7 rfl rfl)
theorem dX0_move_56 : decode cX0_move 56 = .ok (.ireturn, 1) := dk_172 (dk_at dksX0_move_2 9 rfl rfl)
theorem dX0_move_57 : decode cX0_move 57 = .ok (.aload_n 0, 1) := dk_42 (dk_at dksX0_move_2 10 rfl rfl)
theorem dX0_move_58 : decode cX0_move 58 = .ok (.invokevirtual 74, 3) := dk_182 0 74 (dk_at dksX0_move_2 11 rfl rfl)
theorem dX0_move_61 : decode cX0_move 61 = .ok (.aload_n 0, 1) := dk_42 (dk_at dksX0_move_2 14 rfl rfl)
theorem dX0_move_62 : decode cX0_move 62 = .ok (.iload_n 1, 1) := dk_27 (dk_at dksX0_move_2 15 rfl rfl)
theorem dX0_move_63 : decode cX0_move 63 = .ok (.iload_n 2, 1) := dk_28 (dk_at dksX0_move_2 16 rfl rfl)
theorem dX0_move_64 : decode cX0_move 64 = .ok (.aload_n 3, 1) := dk_45 (dk_at dksX0_move_2 17 rfl rfl)
theorem dX0_move_65 : decode cX0_move 65 = .ok (.getfield 109, 3) := dk_180 0 109 (dk_at dksX0_move_2 18 rfl rfl)
theorem dX0_move_68 : decode cX0_move 68 = .ok (.invokevirtual 105, 3) := dk_182 0 105 (dk_at dksX0_move_2 21 rfl rfl)
theorem dX0_move_71 : decode cX0_move 71 = .ok (.aload_n 3, 1) := dk_45 (dk_at dksX0_move_3 0 rfl rfl)
theorem dX0_move_72 : decode cX0_move 72 = .ok (.getfield 102, 3) := dk_180 0 102 (dk_at dksX0_move_3 1 rfl rfl)
theorem dX0_move_75 : decode cX0_move 75 = .ok (.ireturn, 1) := dk_172 (dk_at dksX0_move_3 4 rfl rfl)
abbrev cX0_read : ByteArray := prog_1_method_8_code
def yX0_read : MethodName := ⟨RX0, "read", "()I"⟩
def dkwX0_read_4 : List UInt8 := [180, 0, 69, 185, 0, 44, 1, 0, 172]
abbrev dktX0_read_4 : List UInt8 := dkwX0_read_4 ++ []
def dkwX0_read_3 : List UInt8 := [192, 0, 125, 185, 0, 127, 2, 0, 87, 42, 180, 0, 30, 3, 182, 0, 131, 42, 180, 0, 10, 180, 0, 65]
abbrev dktX0_read_3 : List UInt8 := dkwX0_read_3 ++ dktX0_read_4
def dkwX0_read_2 : List UInt8 := [164, 0, 6, 16, 252, 172, 42, 182, 0, 74, 42, 180, 0, 10, 180, 0, 65, 180, 0, 69, 43, 182, 0, 122]
abbrev dktX0_read_2 : List UInt8 := dkwX0_read_2 ++ dktX0_read_3
def dkwX0_read_1 : List UInt8 := [180, 0, 69, 185, 0, 44, 1, 0, 43, 182, 0, 122, 192, 0, 39, 185, 0, 44, 1, 0, 96, 16, 24]
abbrev dktX0_read_1 : List UInt8 := dkwX0_read_1 ++ dktX0_read_2
def dkwX0_read_0 : List UInt8 := [42, 182, 0, 112, 76, 43, 182, 0, 116, 154, 0, 6, 16, 253, 172, 42, 180, 0, 10, 180, 0, 65]
abbrev dktX0_read_0 : List UInt8 := dkwX0_read_0 ++ dktX0_read_1
theorem dksX0_read_0 : cX0_read.data.toList.drop 0 = dktX0_read_0 := by decide +kernel
theorem dksX0_read_1 : cX0_read.data.toList.drop 22 = dktX0_read_1 := dk_seg dksX0_read_0 22 rfl rfl
theorem dksX0_read_2 : cX0_read.data.toList.drop 45 = dktX0_read_2 := dk_seg dksX0_read_1 23 rfl rfl
theorem dksX0_read_3 : cX0_read.data.toList.drop 69 = dktX0_read_3 := dk_seg dksX0_read_2 24 rfl rfl
theorem dksX0_read_4 : cX0_read.data.toList.drop 93 = dktX0_read_4 := dk_seg dksX0_read_3 24 rfl rfl
theorem dX0_read_0 : decode cX0_read 0 = .ok (.aload_n 0, 1) := dk_42 (dk_at dksX0_read_0 0 rfl rfl)
theorem dX0_read_1 : decode cX0_read 1 = .ok (.invokevirtual 112, 3) := dk_182 0 112 (dk_at dksX0_read_0 1 rfl rfl)
theorem dX0_read_4 : decode cX0_read 4 = .ok (.astore_n 1, 1) := dk_76 (dk_at dksX0_read_0 4 rfl rfl)
theorem dX0_read_5 : decode cX0_read 5 = .ok (.aload_n 1, 1) := dk_43 (dk_at dksX0_read_0 5 rfl rfl)
theorem dX0_read_6 : decode cX0_read 6 = .ok (.invokevirtual 116, 3) := dk_182 0 116 (dk_at dksX0_read_0 6 rfl rfl)
theorem dX0_read_9 : decode cX0_read 9 = .ok (.ifCond .ne 6, 3) := dk_154 0 6 (dk_at dksX0_read_0 9 rfl rfl)
theorem dX0_read_12 : decode cX0_read 12 = .ok (.bipush (-3), 2) := dk_16 253 (dk_at dksX0_read_0 12 rfl rfl)
theorem dX0_read_14 : decode cX0_read 14 = .ok (.ireturn, 1) := dk_172 (dk_at dksX0_read_0 14 rfl rfl)
theorem dX0_read_15 : decode cX0_read 15 = .ok (.aload_n 0, 1) := dk_42 (dk_at dksX0_read_0 15 rfl rfl)
theorem dX0_read_16 : decode cX0_read 16 = .ok (.getfield 10, 3) := dk_180 0 10 (dk_at dksX0_read_0 16 rfl rfl)
theorem dX0_read_19 : decode cX0_read 19 = .ok (.getfield 65, 3) := dk_180 0 65 (dk_at dksX0_read_0 19 rfl rfl)
theorem dX0_read_22 : decode cX0_read 22 = .ok (.getfield 69, 3) := dk_180 0 69 (dk_at dksX0_read_1 0 rfl rfl)
theorem dX0_read_25 : decode cX0_read 25 = .ok (.invokeinterface 44 1, 5) := by decide +kernel
theorem dX0_read_30 : decode cX0_read 30 = .ok (.aload_n 1, 1) := dk_43 (dk_at dksX0_read_1 8 rfl rfl)
theorem dX0_read_31 : decode cX0_read 31 = .ok (.invokevirtual 122, 3) := dk_182 0 122 (dk_at dksX0_read_1 9 rfl rfl)
theorem dX0_read_34 : decode cX0_read 34 = .ok (.checkcast 39, 3) := dk_192 0 39 (dk_at dksX0_read_1 12 rfl rfl)
theorem dX0_read_37 : decode cX0_read 37 = .ok (.invokeinterface 44 1, 5) := by decide +kernel
theorem dX0_read_42 : decode cX0_read 42 = .ok (.iadd, 1) := dk_96 (dk_at dksX0_read_1 20 rfl rfl)
theorem dX0_read_43 : decode cX0_read 43 = .ok (.bipush 24, 2) := dk_16 24 (dk_at dksX0_read_1 21 rfl rfl)
theorem dX0_read_45 : decode cX0_read 45 = .ok (.if_icmp .le 6, 3) := dk_164 0 6 (dk_at dksX0_read_2 0 rfl rfl)
theorem dX0_read_48 : decode cX0_read 48 = .ok (.bipush (-4), 2) := dk_16 252 (dk_at dksX0_read_2 3 rfl rfl)
theorem dX0_read_50 : decode cX0_read 50 = .ok (.ireturn, 1) := dk_172 (dk_at dksX0_read_2 5 rfl rfl)
theorem dX0_read_51 : decode cX0_read 51 = .ok (.aload_n 0, 1) := dk_42 (dk_at dksX0_read_2 6 rfl rfl)
theorem dX0_read_52 : decode cX0_read 52 = .ok (.invokevirtual 74, 3) := dk_182 0 74 (dk_at dksX0_read_2 7 rfl rfl)
theorem dX0_read_55 : decode cX0_read 55 = .ok (.aload_n 0, 1) := dk_42 (dk_at dksX0_read_2 10 rfl rfl)
theorem dX0_read_56 : decode cX0_read 56 = .ok (.getfield 10, 3) := dk_180 0 10 (dk_at dksX0_read_2 11 rfl rfl)
theorem dX0_read_59 : decode cX0_read 59 = .ok (.getfield 65, 3) := dk_180 0 65 (dk_at dksX0_read_2 14 rfl rfl)
theorem dX0_read_62 : decode cX0_read 62 = .ok (.getfield 69, 3) := dk_180 0 69 (dk_at dksX0_read_2 17 rfl rfl)
theorem dX0_read_65 : decode cX0_read 65 = .ok (.aload_n 1, 1) := dk_43 (dk_at dksX0_read_2 20 rfl rfl)
theorem dX0_read_66 : decode cX0_read 66 = .ok (.invokevirtual 122, 3) := dk_182 0 122 (dk_at dksX0_read_2 21 rfl rfl)
theorem dX0_read_69 : decode cX0_read 69 = .ok (.checkcast 125, 3) := dk_192 0 125 (dk_at dksX0_read_3 0 rfl rfl)
theorem dX0_read_72 : decode cX0_read 72 = .ok (.invokeinterface 127 2, 5) := by decide +kernel
theorem dX0_read_77 : decode cX0_read 77 = .ok (.pop, 1) := dk_87 (dk_at dksX0_read_3 8 rfl rfl)
theorem dX0_read_78 : decode cX0_read 78 = .ok (.aload_n 0, 1) := dk_42 (dk_at dksX0_read_3 9 rfl rfl)
theorem dX0_read_79 : decode cX0_read 79 = .ok (.getfield 30, 3) := dk_180 0 30 (dk_at dksX0_read_3 10 rfl rfl)
theorem dX0_read_82 : decode cX0_read 82 = .ok (.iconst 0, 1) := dk_3 (dk_at dksX0_read_3 13 rfl rfl)
theorem dX0_read_83 : decode cX0_read 83 = .ok (.invokevirtual 131, 3) := dk_182 0 131 (dk_at dksX0_read_3 14 rfl rfl)
theorem dX0_read_86 : decode cX0_read 86 = .ok (.aload_n 0, 1) := dk_42 (dk_at dksX0_read_3 17 rfl rfl)
theorem dX0_read_87 : decode cX0_read 87 = .ok (.getfield 10, 3) := dk_180 0 10 (dk_at dksX0_read_3 18 rfl rfl)
theorem dX0_read_90 : decode cX0_read 90 = .ok (.getfield 65, 3) := dk_180 0 65 (dk_at dksX0_read_3 21 rfl rfl)
theorem dX0_read_93 : decode cX0_read 93 = .ok (.getfield 69, 3) := dk_180 0 69 (dk_at dksX0_read_4 0 rfl rfl)
theorem dX0_read_96 : decode cX0_read 96 = .ok (.invokeinterface 44 1, 5) := by decide +kernel
theorem dX0_read_101 : decode cX0_read 101 = .ok (.ireturn, 1) := dk_172 (dk_at dksX0_read_4 8 rfl rfl)
abbrev cX0_readRules : ByteArray := prog_1_method_30_code
def yX0_readRules : MethodName := ⟨RX0, "readRules", "()Ljava/util/Optional;"⟩
def dkwX0_readRules_4 : List UInt8 := [153, 0, 9, 184, 1, 17, 167, 0, 7, 43, 184, 1, 20, 176]
abbrev dktX0_readRules_4 : List UInt8 := dkwX0_readRules_4 ++ []
def dkwX0_readRules_3 : List UInt8 := [180, 0, 247, 154, 255, 213, 43, 42, 182, 1, 13, 185, 0, 38, 2, 0, 87, 167, 255, 199, 42, 180, 0, 247]
abbrev dktX0_readRules_3 : List UInt8 := dkwX0_readRules_3 ++ dktX0_readRules_4
def dkwX0_readRules_2 : List UInt8 := [162, 0, 42, 42, 42, 182, 0, 251, 16, 59, 160, 0, 7, 4, 167, 0, 4, 3, 182, 0, 255, 42]
abbrev dktX0_readRules_2 : List UInt8 := dkwX0_readRules_2 ++ dktX0_readRules_3
def dkwX0_readRules_1 : List UInt8 := [185, 0, 38, 2, 0, 87, 42, 180, 0, 247, 154, 0, 56, 42, 180, 0, 240, 42, 180, 0, 30, 182, 0, 222]
abbrev dktX0_readRules_1 : List UInt8 := dkwX0_readRules_1 ++ dktX0_readRules_2
def dkwX0_readRules_0 : List UInt8 := [187, 0, 16, 89, 183, 0, 18, 76, 42, 3, 181, 0, 240, 42, 3, 181, 0, 247, 43, 42, 182, 1, 13]
abbrev dktX0_readRules_0 : List UInt8 := dkwX0_readRules_0 ++ dktX0_readRules_1
theorem dksX0_readRules_0 : cX0_readRules.data.toList.drop 0 = dktX0_readRules_0 := by decide +kernel
theorem dksX0_readRules_1 : cX0_readRules.data.toList.drop 23 = dktX0_readRules_1 := dk_seg dksX0_readRules_0 23 rfl rfl
theorem dksX0_readRules_2 : cX0_readRules.data.toList.drop 47 = dktX0_readRules_2 := dk_seg dksX0_readRules_1 24 rfl rfl
theorem dksX0_readRules_3 : cX0_readRules.data.toList.drop 69 = dktX0_readRules_3 := dk_seg dksX0_readRules_2 22 rfl rfl
theorem dksX0_readRules_4 : cX0_readRules.data.toList.drop 93 = dktX0_readRules_4 := dk_seg dksX0_readRules_3 24 rfl rfl
theorem dX0_readRules_0 : decode cX0_readRules 0 = .ok (.new 16, 3) := dk_187 0 16 (dk_at dksX0_readRules_0 0 rfl rfl)
theorem dX0_readRules_3 : decode cX0_readRules 3 = .ok (.dup, 1) := dk_89 (dk_at dksX0_readRules_0 3 rfl rfl)
theorem dX0_readRules_4 : decode cX0_readRules 4 = .ok (.invokespecial 18, 3) := dk_183 0 18 (dk_at dksX0_readRules_0 4 rfl rfl)
theorem dX0_readRules_7 : decode cX0_readRules 7 = .ok (.astore_n 1, 1) := dk_76 (dk_at dksX0_readRules_0 7 rfl rfl)
theorem dX0_readRules_8 : decode cX0_readRules 8 = .ok (.aload_n 0, 1) := dk_42 (dk_at dksX0_readRules_0 8 rfl rfl)
theorem dX0_readRules_9 : decode cX0_readRules 9 = .ok (.iconst 0, 1) := dk_3 (dk_at dksX0_readRules_0 9 rfl rfl)
theorem dX0_readRules_10 : decode cX0_readRules 10 = .ok (.putfield 240, 3) := dk_181 0 240 (dk_at dksX0_readRules_0 10 rfl rfl)
theorem dX0_readRules_13 : decode cX0_readRules 13 = .ok (.aload_n 0, 1) := dk_42 (dk_at dksX0_readRules_0 13 rfl rfl)
theorem dX0_readRules_14 : decode cX0_readRules 14 = .ok (.iconst 0, 1) := dk_3 (dk_at dksX0_readRules_0 14 rfl rfl)
theorem dX0_readRules_15 : decode cX0_readRules 15 = .ok (.putfield 247, 3) := dk_181 0 247 (dk_at dksX0_readRules_0 15 rfl rfl)
theorem dX0_readRules_18 : decode cX0_readRules 18 = .ok (.aload_n 1, 1) := dk_43 (dk_at dksX0_readRules_0 18 rfl rfl)
theorem dX0_readRules_19 : decode cX0_readRules 19 = .ok (.aload_n 0, 1) := dk_42 (dk_at dksX0_readRules_0 19 rfl rfl)
theorem dX0_readRules_20 : decode cX0_readRules 20 = .ok (.invokevirtual 269, 3) := dk_182 1 13 (dk_at dksX0_readRules_0 20 rfl rfl)
theorem dX0_readRules_23 : decode cX0_readRules 23 = .ok (.invokeinterface 38 2, 5) := by decide +kernel
theorem dX0_readRules_28 : decode cX0_readRules 28 = .ok (.pop, 1) := dk_87 (dk_at dksX0_readRules_1 5 rfl rfl)
theorem dX0_readRules_29 : decode cX0_readRules 29 = .ok (.aload_n 0, 1) := dk_42 (dk_at dksX0_readRules_1 6 rfl rfl)
theorem dX0_readRules_30 : decode cX0_readRules 30 = .ok (.getfield 247, 3) := dk_180 0 247 (dk_at dksX0_readRules_1 7 rfl rfl)
theorem dX0_readRules_33 : decode cX0_readRules 33 = .ok (.ifCond .ne 56, 3) := dk_154 0 56 (dk_at dksX0_readRules_1 10 rfl rfl)
theorem dX0_readRules_36 : decode cX0_readRules 36 = .ok (.aload_n 0, 1) := dk_42 (dk_at dksX0_readRules_1 13 rfl rfl)
theorem dX0_readRules_37 : decode cX0_readRules 37 = .ok (.getfield 240, 3) := dk_180 0 240 (dk_at dksX0_readRules_1 14 rfl rfl)
theorem dX0_readRules_40 : decode cX0_readRules 40 = .ok (.aload_n 0, 1) := dk_42 (dk_at dksX0_readRules_1 17 rfl rfl)
theorem dX0_readRules_41 : decode cX0_readRules 41 = .ok (.getfield 30, 3) := dk_180 0 30 (dk_at dksX0_readRules_1 18 rfl rfl)
theorem dX0_readRules_44 : decode cX0_readRules 44 = .ok (.invokevirtual 222, 3) := dk_182 0 222 (dk_at dksX0_readRules_1 21 rfl rfl)
theorem dX0_readRules_47 : decode cX0_readRules 47 = .ok (.if_icmp .ge 42, 3) := dk_162 0 42 (dk_at dksX0_readRules_2 0 rfl rfl)
theorem dX0_readRules_50 : decode cX0_readRules 50 = .ok (.aload_n 0, 1) := dk_42 (dk_at dksX0_readRules_2 3 rfl rfl)
theorem dX0_readRules_51 : decode cX0_readRules 51 = .ok (.aload_n 0, 1) := dk_42 (dk_at dksX0_readRules_2 4 rfl rfl)
theorem dX0_readRules_52 : decode cX0_readRules 52 = .ok (.invokevirtual 251, 3) := dk_182 0 251 (dk_at dksX0_readRules_2 5 rfl rfl)
theorem dX0_readRules_55 : decode cX0_readRules 55 = .ok (.bipush 59, 2) := dk_16 59 (dk_at dksX0_readRules_2 8 rfl rfl)
theorem dX0_readRules_57 : decode cX0_readRules 57 = .ok (.if_icmp .ne 7, 3) := dk_160 0 7 (dk_at dksX0_readRules_2 10 rfl rfl)
theorem dX0_readRules_60 : decode cX0_readRules 60 = .ok (.iconst 1, 1) := dk_4 (dk_at dksX0_readRules_2 13 rfl rfl)
theorem dX0_readRules_61 : decode cX0_readRules 61 = .ok (.goto 4, 3) := dk_167 0 4 (dk_at dksX0_readRules_2 14 rfl rfl)
theorem dX0_readRules_64 : decode cX0_readRules 64 = .ok (.iconst 0, 1) := dk_3 (dk_at dksX0_readRules_2 17 rfl rfl)
theorem dX0_readRules_65 : decode cX0_readRules 65 = .ok (.invokevirtual 255, 3) := dk_182 0 255 (dk_at dksX0_readRules_2 18 rfl rfl)
theorem dX0_readRules_68 : decode cX0_readRules 68 = .ok (.aload_n 0, 1) := dk_42 (dk_at dksX0_readRules_2 21 rfl rfl)
theorem dX0_readRules_69 : decode cX0_readRules 69 = .ok (.getfield 247, 3) := dk_180 0 247 (dk_at dksX0_readRules_3 0 rfl rfl)
theorem dX0_readRules_72 : decode cX0_readRules 72 = .ok (.ifCond .ne (-43), 3) := dk_154 255 213 (dk_at dksX0_readRules_3 3 rfl rfl)
theorem dX0_readRules_75 : decode cX0_readRules 75 = .ok (.aload_n 1, 1) := dk_43 (dk_at dksX0_readRules_3 6 rfl rfl)
theorem dX0_readRules_76 : decode cX0_readRules 76 = .ok (.aload_n 0, 1) := dk_42 (dk_at dksX0_readRules_3 7 rfl rfl)
theorem dX0_readRules_77 : decode cX0_readRules 77 = .ok (.invokevirtual 269, 3) := dk_182 1 13 (dk_at dksX0_readRules_3 8 rfl rfl)
theorem dX0_readRules_80 : decode cX0_readRules 80 = .ok (.invokeinterface 38 2, 5) := by decide +kernel
theorem dX0_readRules_85 : decode cX0_readRules 85 = .ok (.pop, 1) := dk_87 (dk_at dksX0_readRules_3 16 rfl rfl)
theorem dX0_readRules_86 : decode cX0_readRules 86 = .ok (.goto (-57), 3) := dk_167 255 199 (dk_at dksX0_readRules_3 17 rfl rfl)
theorem dX0_readRules_89 : decode cX0_readRules 89 = .ok (.aload_n 0, 1) := dk_42 (dk_at dksX0_readRules_3 20 rfl rfl)
theorem dX0_readRules_90 : decode cX0_readRules 90 = .ok (.getfield 247, 3) := dk_180 0 247 (dk_at dksX0_readRules_3 21 rfl rfl)
theorem dX0_readRules_93 : decode cX0_readRules 93 = .ok (.ifCond .eq 9, 3) := dk_153 0 9 (dk_at dksX0_readRules_4 0 rfl rfl)
theorem dX0_readRules_96 : decode cX0_readRules 96 = .ok (.invokestatic 273, 3) := dk_184 1 17 (dk_at dksX0_readRules_4 3 rfl rfl)
theorem dX0_readRules_99 : decode cX0_readRules 99 = .ok (.goto 7, 3) := dk_167 0 7 (dk_at dksX0_readRules_4 6 rfl rfl)
theorem dX0_readRules_102 : decode cX0_readRules 102 = .ok (.aload_n 1, 1) := dk_43 (dk_at dksX0_readRules_4 9 rfl rfl)
theorem dX0_readRules_103 : decode cX0_readRules 103 = .ok (.invokestatic 276, 3) := dk_184 1 20 (dk_at dksX0_readRules_4 10 rfl rfl)
theorem dX0_readRules_106 : decode cX0_readRules 106 = .ok (.areturn, 1) := dk_176 (dk_at dksX0_readRules_4 13 rfl rfl)
abbrev cX0_readRule : ByteArray := prog_1_method_29_code
def yX0_readRule : MethodName := ⟨RX0, "readRule", "()LLayeredCharters$Rule;"⟩
def dkwX0_readRule_5 : List UInt8 := [21, 5, 183, 0, 79, 176]
abbrev dktX0_readRule_5 : List UInt8 := dkwX0_readRule_5 ++ []
def dkwX0_readRule_4 : List UInt8 := [16, 48, 100, 54, 5, 42, 21, 5, 184, 0, 62, 182, 0, 255, 187, 0, 77, 89, 27, 28, 29, 21, 4]
abbrev dktX0_readRule_4 : List UInt8 := dkwX0_readRule_4 ++ dktX0_readRule_5
def dkwX0_readRule_3 : List UInt8 := [182, 1, 10, 54, 4, 4, 54, 5, 42, 180, 0, 247, 154, 0, 25, 28, 153, 0, 21, 42, 182, 0, 251]
abbrev dktX0_readRule_3 : List UInt8 := dkwX0_readRule_3 ++ dktX0_readRule_4
def dkwX0_readRule_2 : List UInt8 := [154, 0, 11, 27, 154, 0, 7, 4, 167, 0, 4, 3, 182, 0, 255, 42, 7, 182, 1, 10, 62, 42, 8]
abbrev dktX0_readRule_2 : List UInt8 := dkwX0_readRule_2 ++ dktX0_readRule_3
def dkwX0_readRule_1 : List UInt8 := [19, 1, 3, 42, 182, 0, 251, 182, 1, 5, 167, 0, 5, 16, 250, 61, 42, 28, 157, 0, 11, 28]
abbrev dktX0_readRule_1 : List UInt8 := dkwX0_readRule_1 ++ dktX0_readRule_2
def dkwX0_readRule_0 : List UInt8 := [42, 182, 0, 251, 16, 48, 100, 60, 42, 27, 184, 0, 52, 182, 0, 255, 42, 182, 0, 251, 158, 0, 16]
abbrev dktX0_readRule_0 : List UInt8 := dkwX0_readRule_0 ++ dktX0_readRule_1
theorem dksX0_readRule_0 : cX0_readRule.data.toList.drop 0 = dktX0_readRule_0 := by decide +kernel
theorem dksX0_readRule_1 : cX0_readRule.data.toList.drop 23 = dktX0_readRule_1 := dk_seg dksX0_readRule_0 23 rfl rfl
theorem dksX0_readRule_2 : cX0_readRule.data.toList.drop 45 = dktX0_readRule_2 := dk_seg dksX0_readRule_1 22 rfl rfl
theorem dksX0_readRule_3 : cX0_readRule.data.toList.drop 68 = dktX0_readRule_3 := dk_seg dksX0_readRule_2 23 rfl rfl
theorem dksX0_readRule_4 : cX0_readRule.data.toList.drop 91 = dktX0_readRule_4 := dk_seg dksX0_readRule_3 23 rfl rfl
theorem dksX0_readRule_5 : cX0_readRule.data.toList.drop 114 = dktX0_readRule_5 := dk_seg dksX0_readRule_4 23 rfl rfl
theorem dX0_readRule_0 : decode cX0_readRule 0 = .ok (.aload_n 0, 1) := dk_42 (dk_at dksX0_readRule_0 0 rfl rfl)
theorem dX0_readRule_1 : decode cX0_readRule 1 = .ok (.invokevirtual 251, 3) := dk_182 0 251 (dk_at dksX0_readRule_0 1 rfl rfl)
theorem dX0_readRule_4 : decode cX0_readRule 4 = .ok (.bipush 48, 2) := dk_16 48 (dk_at dksX0_readRule_0 4 rfl rfl)
theorem dX0_readRule_6 : decode cX0_readRule 6 = .ok (.isub, 1) := dk_100 (dk_at dksX0_readRule_0 6 rfl rfl)
theorem dX0_readRule_7 : decode cX0_readRule 7 = .ok (.istore_n 1, 1) := dk_60 (dk_at dksX0_readRule_0 7 rfl rfl)
theorem dX0_readRule_8 : decode cX0_readRule 8 = .ok (.aload_n 0, 1) := dk_42 (dk_at dksX0_readRule_0 8 rfl rfl)
theorem dX0_readRule_9 : decode cX0_readRule 9 = .ok (.iload_n 1, 1) := dk_27 (dk_at dksX0_readRule_0 9 rfl rfl)
theorem dX0_readRule_10 : decode cX0_readRule 10 = .ok (.invokestatic 52, 3) := dk_184 0 52 (dk_at dksX0_readRule_0 10 rfl rfl)
theorem dX0_readRule_13 : decode cX0_readRule 13 = .ok (.invokevirtual 255, 3) := dk_182 0 255 (dk_at dksX0_readRule_0 13 rfl rfl)
theorem dX0_readRule_16 : decode cX0_readRule 16 = .ok (.aload_n 0, 1) := dk_42 (dk_at dksX0_readRule_0 16 rfl rfl)
theorem dX0_readRule_17 : decode cX0_readRule 17 = .ok (.invokevirtual 251, 3) := dk_182 0 251 (dk_at dksX0_readRule_0 17 rfl rfl)
theorem dX0_readRule_20 : decode cX0_readRule 20 = .ok (.ifCond .le 16, 3) := dk_158 0 16 (dk_at dksX0_readRule_0 20 rfl rfl)
theorem dX0_readRule_23 : decode cX0_readRule 23 = .ok (.ldc_w 259, 3) := dk_19 1 3 (dk_at dksX0_readRule_1 0 rfl rfl)
theorem dX0_readRule_26 : decode cX0_readRule 26 = .ok (.aload_n 0, 1) := dk_42 (dk_at dksX0_readRule_1 3 rfl rfl)
theorem dX0_readRule_27 : decode cX0_readRule 27 = .ok (.invokevirtual 251, 3) := dk_182 0 251 (dk_at dksX0_readRule_1 4 rfl rfl)
theorem dX0_readRule_30 : decode cX0_readRule 30 = .ok (.invokevirtual 261, 3) := dk_182 1 5 (dk_at dksX0_readRule_1 7 rfl rfl)
theorem dX0_readRule_33 : decode cX0_readRule 33 = .ok (.goto 5, 3) := dk_167 0 5 (dk_at dksX0_readRule_1 10 rfl rfl)
theorem dX0_readRule_36 : decode cX0_readRule 36 = .ok (.bipush (-6), 2) := dk_16 250 (dk_at dksX0_readRule_1 13 rfl rfl)
theorem dX0_readRule_38 : decode cX0_readRule 38 = .ok (.istore_n 2, 1) := dk_61 (dk_at dksX0_readRule_1 15 rfl rfl)
theorem dX0_readRule_39 : decode cX0_readRule 39 = .ok (.aload_n 0, 1) := dk_42 (dk_at dksX0_readRule_1 16 rfl rfl)
theorem dX0_readRule_40 : decode cX0_readRule 40 = .ok (.iload_n 2, 1) := dk_28 (dk_at dksX0_readRule_1 17 rfl rfl)
theorem dX0_readRule_41 : decode cX0_readRule 41 = .ok (.ifCond .gt 11, 3) := dk_157 0 11 (dk_at dksX0_readRule_1 18 rfl rfl)
theorem dX0_readRule_44 : decode cX0_readRule 44 = .ok (.iload_n 2, 1) := dk_28 (dk_at dksX0_readRule_1 21 rfl rfl)
theorem dX0_readRule_45 : decode cX0_readRule 45 = .ok (.ifCond .ne 11, 3) := dk_154 0 11 (dk_at dksX0_readRule_2 0 rfl rfl)
theorem dX0_readRule_48 : decode cX0_readRule 48 = .ok (.iload_n 1, 1) := dk_27 (dk_at dksX0_readRule_2 3 rfl rfl)
theorem dX0_readRule_49 : decode cX0_readRule 49 = .ok (.ifCond .ne 7, 3) := dk_154 0 7 (dk_at dksX0_readRule_2 4 rfl rfl)
theorem dX0_readRule_52 : decode cX0_readRule 52 = .ok (.iconst 1, 1) := dk_4 (dk_at dksX0_readRule_2 7 rfl rfl)
theorem dX0_readRule_53 : decode cX0_readRule 53 = .ok (.goto 4, 3) := dk_167 0 4 (dk_at dksX0_readRule_2 8 rfl rfl)
theorem dX0_readRule_56 : decode cX0_readRule 56 = .ok (.iconst 0, 1) := dk_3 (dk_at dksX0_readRule_2 11 rfl rfl)
theorem dX0_readRule_57 : decode cX0_readRule 57 = .ok (.invokevirtual 255, 3) := dk_182 0 255 (dk_at dksX0_readRule_2 12 rfl rfl)
theorem dX0_readRule_60 : decode cX0_readRule 60 = .ok (.aload_n 0, 1) := dk_42 (dk_at dksX0_readRule_2 15 rfl rfl)
theorem dX0_readRule_61 : decode cX0_readRule 61 = .ok (.iconst 4, 1) := dk_7 (dk_at dksX0_readRule_2 16 rfl rfl)
theorem dX0_readRule_62 : decode cX0_readRule 62 = .ok (.invokevirtual 266, 3) := dk_182 1 10 (dk_at dksX0_readRule_2 17 rfl rfl)
theorem dX0_readRule_65 : decode cX0_readRule 65 = .ok (.istore_n 3, 1) := dk_62 (dk_at dksX0_readRule_2 20 rfl rfl)
theorem dX0_readRule_66 : decode cX0_readRule 66 = .ok (.aload_n 0, 1) := dk_42 (dk_at dksX0_readRule_2 21 rfl rfl)
theorem dX0_readRule_67 : decode cX0_readRule 67 = .ok (.iconst 5, 1) := dk_8 (dk_at dksX0_readRule_2 22 rfl rfl)
theorem dX0_readRule_68 : decode cX0_readRule 68 = .ok (.invokevirtual 266, 3) := dk_182 1 10 (dk_at dksX0_readRule_3 0 rfl rfl)
theorem dX0_readRule_71 : decode cX0_readRule 71 = .ok (.istore 4, 2) := dk_54 4 (dk_at dksX0_readRule_3 3 rfl rfl)
theorem dX0_readRule_73 : decode cX0_readRule 73 = .ok (.iconst 1, 1) := dk_4 (dk_at dksX0_readRule_3 5 rfl rfl)
theorem dX0_readRule_74 : decode cX0_readRule 74 = .ok (.istore 5, 2) := dk_54 5 (dk_at dksX0_readRule_3 6 rfl rfl)
theorem dX0_readRule_76 : decode cX0_readRule 76 = .ok (.aload_n 0, 1) := dk_42 (dk_at dksX0_readRule_3 8 rfl rfl)
theorem dX0_readRule_77 : decode cX0_readRule 77 = .ok (.getfield 247, 3) := dk_180 0 247 (dk_at dksX0_readRule_3 9 rfl rfl)
theorem dX0_readRule_80 : decode cX0_readRule 80 = .ok (.ifCond .ne 25, 3) := dk_154 0 25 (dk_at dksX0_readRule_3 12 rfl rfl)
theorem dX0_readRule_83 : decode cX0_readRule 83 = .ok (.iload_n 2, 1) := dk_28 (dk_at dksX0_readRule_3 15 rfl rfl)
theorem dX0_readRule_84 : decode cX0_readRule 84 = .ok (.ifCond .eq 21, 3) := dk_153 0 21 (dk_at dksX0_readRule_3 16 rfl rfl)
theorem dX0_readRule_87 : decode cX0_readRule 87 = .ok (.aload_n 0, 1) := dk_42 (dk_at dksX0_readRule_3 19 rfl rfl)
theorem dX0_readRule_88 : decode cX0_readRule 88 = .ok (.invokevirtual 251, 3) := dk_182 0 251 (dk_at dksX0_readRule_3 20 rfl rfl)
theorem dX0_readRule_91 : decode cX0_readRule 91 = .ok (.bipush 48, 2) := dk_16 48 (dk_at dksX0_readRule_4 0 rfl rfl)
theorem dX0_readRule_93 : decode cX0_readRule 93 = .ok (.isub, 1) := dk_100 (dk_at dksX0_readRule_4 2 rfl rfl)
theorem dX0_readRule_94 : decode cX0_readRule 94 = .ok (.istore 5, 2) := dk_54 5 (dk_at dksX0_readRule_4 3 rfl rfl)
theorem dX0_readRule_96 : decode cX0_readRule 96 = .ok (.aload_n 0, 1) := dk_42 (dk_at dksX0_readRule_4 5 rfl rfl)
theorem dX0_readRule_97 : decode cX0_readRule 97 = .ok (.iload 5, 2) := dk_21 5 (dk_at dksX0_readRule_4 6 rfl rfl)
theorem dX0_readRule_99 : decode cX0_readRule 99 = .ok (.invokestatic 62, 3) := dk_184 0 62 (dk_at dksX0_readRule_4 8 rfl rfl)
theorem dX0_readRule_102 : decode cX0_readRule 102 = .ok (.invokevirtual 255, 3) := dk_182 0 255 (dk_at dksX0_readRule_4 11 rfl rfl)
theorem dX0_readRule_105 : decode cX0_readRule 105 = .ok (.new 77, 3) := dk_187 0 77 (dk_at dksX0_readRule_4 14 rfl rfl)
theorem dX0_readRule_108 : decode cX0_readRule 108 = .ok (.dup, 1) := dk_89 (dk_at dksX0_readRule_4 17 rfl rfl)
theorem dX0_readRule_109 : decode cX0_readRule 109 = .ok (.iload_n 1, 1) := dk_27 (dk_at dksX0_readRule_4 18 rfl rfl)
theorem dX0_readRule_110 : decode cX0_readRule 110 = .ok (.iload_n 2, 1) := dk_28 (dk_at dksX0_readRule_4 19 rfl rfl)
theorem dX0_readRule_111 : decode cX0_readRule 111 = .ok (.iload_n 3, 1) := dk_29 (dk_at dksX0_readRule_4 20 rfl rfl)
theorem dX0_readRule_112 : decode cX0_readRule 112 = .ok (.iload 4, 2) := dk_21 4 (dk_at dksX0_readRule_4 21 rfl rfl)
theorem dX0_readRule_114 : decode cX0_readRule 114 = .ok (.iload 5, 2) := dk_21 5 (dk_at dksX0_readRule_5 0 rfl rfl)
theorem dX0_readRule_116 : decode cX0_readRule 116 = .ok (.invokespecial 79, 3) := dk_183 0 79 (dk_at dksX0_readRule_5 2 rfl rfl)
theorem dX0_readRule_119 : decode cX0_readRule 119 = .ok (.areturn, 1) := dk_176 (dk_at dksX0_readRule_5 5 rfl rfl)
abbrev cX0_sign : ByteArray := prog_1_method_26_code
def yX0_sign : MethodName := ⟨RX0, "sign", "()C"⟩
def dkwX0_sign_1 : List UInt8 := [182, 0, 243, 167, 0, 4, 3, 172]
abbrev dktX0_sign_1 : List UInt8 := dkwX0_sign_1 ++ []
def dkwX0_sign_0 : List UInt8 := [42, 180, 0, 240, 42, 180, 0, 30, 182, 0, 222, 162, 0, 17, 42, 180, 0, 30, 42, 180, 0, 240]
abbrev dktX0_sign_0 : List UInt8 := dkwX0_sign_0 ++ dktX0_sign_1
theorem dksX0_sign_0 : cX0_sign.data.toList.drop 0 = dktX0_sign_0 := by decide +kernel
theorem dksX0_sign_1 : cX0_sign.data.toList.drop 22 = dktX0_sign_1 := dk_seg dksX0_sign_0 22 rfl rfl
theorem dX0_sign_0 : decode cX0_sign 0 = .ok (.aload_n 0, 1) := dk_42 (dk_at dksX0_sign_0 0 rfl rfl)
theorem dX0_sign_1 : decode cX0_sign 1 = .ok (.getfield 240, 3) := dk_180 0 240 (dk_at dksX0_sign_0 1 rfl rfl)
theorem dX0_sign_4 : decode cX0_sign 4 = .ok (.aload_n 0, 1) := dk_42 (dk_at dksX0_sign_0 4 rfl rfl)
theorem dX0_sign_5 : decode cX0_sign 5 = .ok (.getfield 30, 3) := dk_180 0 30 (dk_at dksX0_sign_0 5 rfl rfl)
theorem dX0_sign_8 : decode cX0_sign 8 = .ok (.invokevirtual 222, 3) := dk_182 0 222 (dk_at dksX0_sign_0 8 rfl rfl)
theorem dX0_sign_11 : decode cX0_sign 11 = .ok (.if_icmp .ge 17, 3) := dk_162 0 17 (dk_at dksX0_sign_0 11 rfl rfl)
theorem dX0_sign_14 : decode cX0_sign 14 = .ok (.aload_n 0, 1) := dk_42 (dk_at dksX0_sign_0 14 rfl rfl)
theorem dX0_sign_15 : decode cX0_sign 15 = .ok (.getfield 30, 3) := dk_180 0 30 (dk_at dksX0_sign_0 15 rfl rfl)
theorem dX0_sign_18 : decode cX0_sign 18 = .ok (.aload_n 0, 1) := dk_42 (dk_at dksX0_sign_0 18 rfl rfl)
theorem dX0_sign_19 : decode cX0_sign 19 = .ok (.getfield 240, 3) := dk_180 0 240 (dk_at dksX0_sign_0 19 rfl rfl)
theorem dX0_sign_22 : decode cX0_sign 22 = .ok (.invokevirtual 243, 3) := dk_182 0 243 (dk_at dksX0_sign_1 0 rfl rfl)
theorem dX0_sign_25 : decode cX0_sign 25 = .ok (.goto 4, 3) := dk_167 0 4 (dk_at dksX0_sign_1 3 rfl rfl)
theorem dX0_sign_28 : decode cX0_sign 28 = .ok (.iconst 0, 1) := dk_3 (dk_at dksX0_sign_1 6 rfl rfl)
theorem dX0_sign_29 : decode cX0_sign 29 = .ok (.ireturn, 1) := dk_172 (dk_at dksX0_sign_1 7 rfl rfl)
abbrev cX0_accept : ByteArray := prog_1_method_27_code
def yX0_accept : MethodName := ⟨RX0, "accept", "(Z)V"⟩
def dkwX0_accept_1 : List UInt8 := [180, 0, 247, 153, 0, 7, 3, 167, 0, 4, 4, 96, 181, 0, 240, 177]
abbrev dktX0_accept_1 : List UInt8 := dkwX0_accept_1 ++ []
def dkwX0_accept_0 : List UInt8 := [42, 89, 180, 0, 247, 27, 154, 0, 7, 4, 167, 0, 4, 3, 128, 181, 0, 247, 42, 89, 180, 0, 240, 42]
abbrev dktX0_accept_0 : List UInt8 := dkwX0_accept_0 ++ dktX0_accept_1
theorem dksX0_accept_0 : cX0_accept.data.toList.drop 0 = dktX0_accept_0 := by decide +kernel
theorem dksX0_accept_1 : cX0_accept.data.toList.drop 24 = dktX0_accept_1 := dk_seg dksX0_accept_0 24 rfl rfl
theorem dX0_accept_0 : decode cX0_accept 0 = .ok (.aload_n 0, 1) := dk_42 (dk_at dksX0_accept_0 0 rfl rfl)
theorem dX0_accept_1 : decode cX0_accept 1 = .ok (.dup, 1) := dk_89 (dk_at dksX0_accept_0 1 rfl rfl)
theorem dX0_accept_2 : decode cX0_accept 2 = .ok (.getfield 247, 3) := dk_180 0 247 (dk_at dksX0_accept_0 2 rfl rfl)
theorem dX0_accept_5 : decode cX0_accept 5 = .ok (.iload_n 1, 1) := dk_27 (dk_at dksX0_accept_0 5 rfl rfl)
theorem dX0_accept_6 : decode cX0_accept 6 = .ok (.ifCond .ne 7, 3) := dk_154 0 7 (dk_at dksX0_accept_0 6 rfl rfl)
theorem dX0_accept_9 : decode cX0_accept 9 = .ok (.iconst 1, 1) := dk_4 (dk_at dksX0_accept_0 9 rfl rfl)
theorem dX0_accept_10 : decode cX0_accept 10 = .ok (.goto 4, 3) := dk_167 0 4 (dk_at dksX0_accept_0 10 rfl rfl)
theorem dX0_accept_13 : decode cX0_accept 13 = .ok (.iconst 0, 1) := dk_3 (dk_at dksX0_accept_0 13 rfl rfl)
theorem dX0_accept_14 : decode cX0_accept 14 = .ok (.ior, 1) := dk_128 (dk_at dksX0_accept_0 14 rfl rfl)
theorem dX0_accept_15 : decode cX0_accept 15 = .ok (.putfield 247, 3) := dk_181 0 247 (dk_at dksX0_accept_0 15 rfl rfl)
theorem dX0_accept_18 : decode cX0_accept 18 = .ok (.aload_n 0, 1) := dk_42 (dk_at dksX0_accept_0 18 rfl rfl)
theorem dX0_accept_19 : decode cX0_accept 19 = .ok (.dup, 1) := dk_89 (dk_at dksX0_accept_0 19 rfl rfl)
theorem dX0_accept_20 : decode cX0_accept 20 = .ok (.getfield 240, 3) := dk_180 0 240 (dk_at dksX0_accept_0 20 rfl rfl)
theorem dX0_accept_23 : decode cX0_accept 23 = .ok (.aload_n 0, 1) := dk_42 (dk_at dksX0_accept_0 23 rfl rfl)
theorem dX0_accept_24 : decode cX0_accept 24 = .ok (.getfield 247, 3) := dk_180 0 247 (dk_at dksX0_accept_1 0 rfl rfl)
theorem dX0_accept_27 : decode cX0_accept 27 = .ok (.ifCond .eq 7, 3) := dk_153 0 7 (dk_at dksX0_accept_1 3 rfl rfl)
theorem dX0_accept_30 : decode cX0_accept 30 = .ok (.iconst 0, 1) := dk_3 (dk_at dksX0_accept_1 6 rfl rfl)
theorem dX0_accept_31 : decode cX0_accept 31 = .ok (.goto 4, 3) := dk_167 0 4 (dk_at dksX0_accept_1 7 rfl rfl)
theorem dX0_accept_34 : decode cX0_accept 34 = .ok (.iconst 1, 1) := dk_4 (dk_at dksX0_accept_1 10 rfl rfl)
theorem dX0_accept_35 : decode cX0_accept 35 = .ok (.iadd, 1) := dk_96 (dk_at dksX0_accept_1 11 rfl rfl)
theorem dX0_accept_36 : decode cX0_accept 36 = .ok (.putfield 240, 3) := dk_181 0 240 (dk_at dksX0_accept_1 12 rfl rfl)
theorem dX0_accept_39 : decode cX0_accept 39 = .ok (.return_, 1) := dk_177 (dk_at dksX0_accept_1 15 rfl rfl)
abbrev cX0_digitOrStar : ByteArray := prog_1_method_28_code
def yX0_digitOrStar : MethodName := ⟨RX0, "digitOrStar", "(I)I"⟩
def dkwX0_digitOrStar_2 : List UInt8 := [182, 0, 255, 28, 172]
abbrev dktX0_digitOrStar_2 : List UInt8 := dkwX0_digitOrStar_2 ++ []
def dkwX0_digitOrStar_1 : List UInt8 := [42, 182, 0, 251, 16, 42, 159, 0, 12, 28, 3, 27, 184, 0, 58, 153, 0, 7, 4, 167, 0, 4, 3]
abbrev dktX0_digitOrStar_1 : List UInt8 := dkwX0_digitOrStar_1 ++ dktX0_digitOrStar_2
def dkwX0_digitOrStar_0 : List UInt8 := [42, 182, 0, 251, 16, 42, 160, 0, 9, 27, 4, 96, 167, 0, 10, 42, 182, 0, 251, 16, 48, 100, 61, 42]
abbrev dktX0_digitOrStar_0 : List UInt8 := dkwX0_digitOrStar_0 ++ dktX0_digitOrStar_1
theorem dksX0_digitOrStar_0 : cX0_digitOrStar.data.toList.drop 0 = dktX0_digitOrStar_0 := by decide +kernel
theorem dksX0_digitOrStar_1 : cX0_digitOrStar.data.toList.drop 24 = dktX0_digitOrStar_1 := dk_seg dksX0_digitOrStar_0 24 rfl rfl
theorem dksX0_digitOrStar_2 : cX0_digitOrStar.data.toList.drop 47 = dktX0_digitOrStar_2 := dk_seg dksX0_digitOrStar_1 23 rfl rfl
theorem dX0_digitOrStar_0 : decode cX0_digitOrStar 0 = .ok (.aload_n 0, 1) := dk_42 (dk_at dksX0_digitOrStar_0 0 rfl rfl)
theorem dX0_digitOrStar_1 : decode cX0_digitOrStar 1 = .ok (.invokevirtual 251, 3) := dk_182 0 251 (dk_at dksX0_digitOrStar_0 1 rfl rfl)
theorem dX0_digitOrStar_4 : decode cX0_digitOrStar 4 = .ok (.bipush 42, 2) := dk_16 42 (dk_at dksX0_digitOrStar_0 4 rfl rfl)
theorem dX0_digitOrStar_6 : decode cX0_digitOrStar 6 = .ok (.if_icmp .ne 9, 3) := dk_160 0 9 (dk_at dksX0_digitOrStar_0 6 rfl rfl)
theorem dX0_digitOrStar_9 : decode cX0_digitOrStar 9 = .ok (.iload_n 1, 1) := dk_27 (dk_at dksX0_digitOrStar_0 9 rfl rfl)
theorem dX0_digitOrStar_10 : decode cX0_digitOrStar 10 = .ok (.iconst 1, 1) := dk_4 (dk_at dksX0_digitOrStar_0 10 rfl rfl)
theorem dX0_digitOrStar_11 : decode cX0_digitOrStar 11 = .ok (.iadd, 1) := dk_96 (dk_at dksX0_digitOrStar_0 11 rfl rfl)
theorem dX0_digitOrStar_12 : decode cX0_digitOrStar 12 = .ok (.goto 10, 3) := dk_167 0 10 (dk_at dksX0_digitOrStar_0 12 rfl rfl)
theorem dX0_digitOrStar_15 : decode cX0_digitOrStar 15 = .ok (.aload_n 0, 1) := dk_42 (dk_at dksX0_digitOrStar_0 15 rfl rfl)
theorem dX0_digitOrStar_16 : decode cX0_digitOrStar 16 = .ok (.invokevirtual 251, 3) := dk_182 0 251 (dk_at dksX0_digitOrStar_0 16 rfl rfl)
theorem dX0_digitOrStar_19 : decode cX0_digitOrStar 19 = .ok (.bipush 48, 2) := dk_16 48 (dk_at dksX0_digitOrStar_0 19 rfl rfl)
theorem dX0_digitOrStar_21 : decode cX0_digitOrStar 21 = .ok (.isub, 1) := dk_100 (dk_at dksX0_digitOrStar_0 21 rfl rfl)
theorem dX0_digitOrStar_22 : decode cX0_digitOrStar 22 = .ok (.istore_n 2, 1) := dk_61 (dk_at dksX0_digitOrStar_0 22 rfl rfl)
theorem dX0_digitOrStar_23 : decode cX0_digitOrStar 23 = .ok (.aload_n 0, 1) := dk_42 (dk_at dksX0_digitOrStar_0 23 rfl rfl)
theorem dX0_digitOrStar_24 : decode cX0_digitOrStar 24 = .ok (.aload_n 0, 1) := dk_42 (dk_at dksX0_digitOrStar_1 0 rfl rfl)
theorem dX0_digitOrStar_25 : decode cX0_digitOrStar 25 = .ok (.invokevirtual 251, 3) := dk_182 0 251 (dk_at dksX0_digitOrStar_1 1 rfl rfl)
theorem dX0_digitOrStar_28 : decode cX0_digitOrStar 28 = .ok (.bipush 42, 2) := dk_16 42 (dk_at dksX0_digitOrStar_1 4 rfl rfl)
theorem dX0_digitOrStar_30 : decode cX0_digitOrStar 30 = .ok (.if_icmp .eq 12, 3) := dk_159 0 12 (dk_at dksX0_digitOrStar_1 6 rfl rfl)
theorem dX0_digitOrStar_33 : decode cX0_digitOrStar 33 = .ok (.iload_n 2, 1) := dk_28 (dk_at dksX0_digitOrStar_1 9 rfl rfl)
theorem dX0_digitOrStar_34 : decode cX0_digitOrStar 34 = .ok (.iconst 0, 1) := dk_3 (dk_at dksX0_digitOrStar_1 10 rfl rfl)
theorem dX0_digitOrStar_35 : decode cX0_digitOrStar 35 = .ok (.iload_n 1, 1) := dk_27 (dk_at dksX0_digitOrStar_1 11 rfl rfl)
theorem dX0_digitOrStar_36 : decode cX0_digitOrStar 36 = .ok (.invokestatic 58, 3) := dk_184 0 58 (dk_at dksX0_digitOrStar_1 12 rfl rfl)
theorem dX0_digitOrStar_39 : decode cX0_digitOrStar 39 = .ok (.ifCond .eq 7, 3) := dk_153 0 7 (dk_at dksX0_digitOrStar_1 15 rfl rfl)
theorem dX0_digitOrStar_42 : decode cX0_digitOrStar 42 = .ok (.iconst 1, 1) := dk_4 (dk_at dksX0_digitOrStar_1 18 rfl rfl)
theorem dX0_digitOrStar_43 : decode cX0_digitOrStar 43 = .ok (.goto 4, 3) := dk_167 0 4 (dk_at dksX0_digitOrStar_1 19 rfl rfl)
theorem dX0_digitOrStar_46 : decode cX0_digitOrStar 46 = .ok (.iconst 0, 1) := dk_3 (dk_at dksX0_digitOrStar_1 22 rfl rfl)
theorem dX0_digitOrStar_47 : decode cX0_digitOrStar 47 = .ok (.invokevirtual 255, 3) := dk_182 0 255 (dk_at dksX0_digitOrStar_2 0 rfl rfl)
theorem dX0_digitOrStar_50 : decode cX0_digitOrStar 50 = .ok (.iload_n 2, 1) := dk_28 (dk_at dksX0_digitOrStar_2 3 rfl rfl)
theorem dX0_digitOrStar_51 : decode cX0_digitOrStar 51 = .ok (.ireturn, 1) := dk_172 (dk_at dksX0_digitOrStar_2 4 rfl rfl)
abbrev cX0_tidy : ByteArray := prog_1_method_9_code
def yX0_tidy : MethodName := ⟨RX0, "tidy", "()I"⟩
def dkwX0_tidy_2 : List UInt8 := [180, 0, 65, 182, 0, 135, 61, 167, 255, 221, 27, 172]
abbrev dktX0_tidy_2 : List UInt8 := dkwX0_tidy_2 ++ []
def dkwX0_tidy_1 : List UInt8 := [180, 0, 10, 180, 0, 65, 180, 0, 69, 28, 185, 0, 48, 2, 0, 87, 132, 1, 1, 42, 180, 0, 10]
abbrev dktX0_tidy_1 : List UInt8 := dkwX0_tidy_1 ++ dktX0_tidy_2
def dkwX0_tidy_0 : List UInt8 := [42, 182, 0, 74, 3, 60, 42, 180, 0, 10, 180, 0, 65, 182, 0, 135, 61, 28, 155, 0, 37, 42]
abbrev dktX0_tidy_0 : List UInt8 := dkwX0_tidy_0 ++ dktX0_tidy_1
theorem dksX0_tidy_0 : cX0_tidy.data.toList.drop 0 = dktX0_tidy_0 := by decide +kernel
theorem dksX0_tidy_1 : cX0_tidy.data.toList.drop 22 = dktX0_tidy_1 := dk_seg dksX0_tidy_0 22 rfl rfl
theorem dksX0_tidy_2 : cX0_tidy.data.toList.drop 45 = dktX0_tidy_2 := dk_seg dksX0_tidy_1 23 rfl rfl
theorem dX0_tidy_0 : decode cX0_tidy 0 = .ok (.aload_n 0, 1) := dk_42 (dk_at dksX0_tidy_0 0 rfl rfl)
theorem dX0_tidy_1 : decode cX0_tidy 1 = .ok (.invokevirtual 74, 3) := dk_182 0 74 (dk_at dksX0_tidy_0 1 rfl rfl)
theorem dX0_tidy_4 : decode cX0_tidy 4 = .ok (.iconst 0, 1) := dk_3 (dk_at dksX0_tidy_0 4 rfl rfl)
theorem dX0_tidy_5 : decode cX0_tidy 5 = .ok (.istore_n 1, 1) := dk_60 (dk_at dksX0_tidy_0 5 rfl rfl)
theorem dX0_tidy_6 : decode cX0_tidy 6 = .ok (.aload_n 0, 1) := dk_42 (dk_at dksX0_tidy_0 6 rfl rfl)
theorem dX0_tidy_7 : decode cX0_tidy 7 = .ok (.getfield 10, 3) := dk_180 0 10 (dk_at dksX0_tidy_0 7 rfl rfl)
theorem dX0_tidy_10 : decode cX0_tidy 10 = .ok (.getfield 65, 3) := dk_180 0 65 (dk_at dksX0_tidy_0 10 rfl rfl)
theorem dX0_tidy_13 : decode cX0_tidy 13 = .ok (.invokevirtual 135, 3) := dk_182 0 135 (dk_at dksX0_tidy_0 13 rfl rfl)
theorem dX0_tidy_16 : decode cX0_tidy 16 = .ok (.istore_n 2, 1) := dk_61 (dk_at dksX0_tidy_0 16 rfl rfl)
theorem dX0_tidy_17 : decode cX0_tidy 17 = .ok (.iload_n 2, 1) := dk_28 (dk_at dksX0_tidy_0 17 rfl rfl)
theorem dX0_tidy_18 : decode cX0_tidy 18 = .ok (.ifCond .lt 37, 3) := dk_155 0 37 (dk_at dksX0_tidy_0 18 rfl rfl)
theorem dX0_tidy_21 : decode cX0_tidy 21 = .ok (.aload_n 0, 1) := dk_42 (dk_at dksX0_tidy_0 21 rfl rfl)
theorem dX0_tidy_22 : decode cX0_tidy 22 = .ok (.getfield 10, 3) := dk_180 0 10 (dk_at dksX0_tidy_1 0 rfl rfl)
theorem dX0_tidy_25 : decode cX0_tidy 25 = .ok (.getfield 65, 3) := dk_180 0 65 (dk_at dksX0_tidy_1 3 rfl rfl)
theorem dX0_tidy_28 : decode cX0_tidy 28 = .ok (.getfield 69, 3) := dk_180 0 69 (dk_at dksX0_tidy_1 6 rfl rfl)
theorem dX0_tidy_31 : decode cX0_tidy 31 = .ok (.iload_n 2, 1) := dk_28 (dk_at dksX0_tidy_1 9 rfl rfl)
theorem dX0_tidy_32 : decode cX0_tidy 32 = .ok (.invokeinterface 48 2, 5) := by decide +kernel
theorem dX0_tidy_37 : decode cX0_tidy 37 = .ok (.pop, 1) := dk_87 (dk_at dksX0_tidy_1 15 rfl rfl)
theorem dX0_tidy_38 : decode cX0_tidy 38 = .ok (.iinc 1 1, 3) := dk_132 1 1 (dk_at dksX0_tidy_1 16 rfl rfl)
theorem dX0_tidy_41 : decode cX0_tidy 41 = .ok (.aload_n 0, 1) := dk_42 (dk_at dksX0_tidy_1 19 rfl rfl)
theorem dX0_tidy_42 : decode cX0_tidy 42 = .ok (.getfield 10, 3) := dk_180 0 10 (dk_at dksX0_tidy_1 20 rfl rfl)
theorem dX0_tidy_45 : decode cX0_tidy 45 = .ok (.getfield 65, 3) := dk_180 0 65 (dk_at dksX0_tidy_2 0 rfl rfl)
theorem dX0_tidy_48 : decode cX0_tidy 48 = .ok (.invokevirtual 135, 3) := dk_182 0 135 (dk_at dksX0_tidy_2 3 rfl rfl)
theorem dX0_tidy_51 : decode cX0_tidy 51 = .ok (.istore_n 2, 1) := dk_61 (dk_at dksX0_tidy_2 6 rfl rfl)
theorem dX0_tidy_52 : decode cX0_tidy 52 = .ok (.goto (-35), 3) := dk_167 255 221 (dk_at dksX0_tidy_2 7 rfl rfl)
theorem dX0_tidy_55 : decode cX0_tidy 55 = .ok (.iload_n 1, 1) := dk_27 (dk_at dksX0_tidy_2 10 rfl rfl)
theorem dX0_tidy_56 : decode cX0_tidy 56 = .ok (.ireturn, 1) := dk_172 (dk_at dksX0_tidy_2 11 rfl rfl)
abbrev cX0_join : ByteArray := prog_1_method_10_code
def yX0_join : MethodName := ⟨RX0, "join", "(II)I"⟩
def dkwX0_join_3 : List UInt8 := [180, 0, 144, 185, 0, 44, 1, 0, 4, 100, 172]
abbrev dktX0_join_3 : List UInt8 := dkwX0_join_3 ++ []
def dkwX0_join_2 : List UInt8 := [180, 0, 144, 187, 0, 147, 89, 27, 28, 183, 0, 149, 185, 0, 38, 2, 0, 87, 42, 180, 0, 10]
abbrev dktX0_join_2 : List UInt8 := dkwX0_join_2 ++ dktX0_join_3
def dkwX0_join_1 : List UInt8 := [180, 0, 144, 185, 0, 44, 1, 0, 16, 10, 160, 0, 6, 16, 252, 172, 42, 182, 0, 74, 42, 180, 0, 10]
abbrev dktX0_join_1 : List UInt8 := dkwX0_join_1 ++ dktX0_join_2
def dkwX0_join_0 : List UInt8 := [27, 184, 0, 138, 154, 0, 5, 2, 172, 28, 184, 0, 141, 154, 0, 6, 16, 254, 172, 42, 180, 0, 10]
abbrev dktX0_join_0 : List UInt8 := dkwX0_join_0 ++ dktX0_join_1
theorem dksX0_join_0 : cX0_join.data.toList.drop 0 = dktX0_join_0 := by decide +kernel
theorem dksX0_join_1 : cX0_join.data.toList.drop 23 = dktX0_join_1 := dk_seg dksX0_join_0 23 rfl rfl
theorem dksX0_join_2 : cX0_join.data.toList.drop 47 = dktX0_join_2 := dk_seg dksX0_join_1 24 rfl rfl
theorem dksX0_join_3 : cX0_join.data.toList.drop 69 = dktX0_join_3 := dk_seg dksX0_join_2 22 rfl rfl
theorem dX0_join_0 : decode cX0_join 0 = .ok (.iload_n 1, 1) := dk_27 (dk_at dksX0_join_0 0 rfl rfl)
theorem dX0_join_1 : decode cX0_join 1 = .ok (.invokestatic 138, 3) := dk_184 0 138 (dk_at dksX0_join_0 1 rfl rfl)
theorem dX0_join_4 : decode cX0_join 4 = .ok (.ifCond .ne 5, 3) := dk_154 0 5 (dk_at dksX0_join_0 4 rfl rfl)
theorem dX0_join_7 : decode cX0_join 7 = .ok (.iconst (-1), 1) := dk_2 (dk_at dksX0_join_0 7 rfl rfl)
theorem dX0_join_8 : decode cX0_join 8 = .ok (.ireturn, 1) := dk_172 (dk_at dksX0_join_0 8 rfl rfl)
theorem dX0_join_9 : decode cX0_join 9 = .ok (.iload_n 2, 1) := dk_28 (dk_at dksX0_join_0 9 rfl rfl)
theorem dX0_join_10 : decode cX0_join 10 = .ok (.invokestatic 141, 3) := dk_184 0 141 (dk_at dksX0_join_0 10 rfl rfl)
theorem dX0_join_13 : decode cX0_join 13 = .ok (.ifCond .ne 6, 3) := dk_154 0 6 (dk_at dksX0_join_0 13 rfl rfl)
theorem dX0_join_16 : decode cX0_join 16 = .ok (.bipush (-2), 2) := dk_16 254 (dk_at dksX0_join_0 16 rfl rfl)
theorem dX0_join_18 : decode cX0_join 18 = .ok (.ireturn, 1) := dk_172 (dk_at dksX0_join_0 18 rfl rfl)
theorem dX0_join_19 : decode cX0_join 19 = .ok (.aload_n 0, 1) := dk_42 (dk_at dksX0_join_0 19 rfl rfl)
theorem dX0_join_20 : decode cX0_join 20 = .ok (.getfield 10, 3) := dk_180 0 10 (dk_at dksX0_join_0 20 rfl rfl)
theorem dX0_join_23 : decode cX0_join 23 = .ok (.getfield 144, 3) := dk_180 0 144 (dk_at dksX0_join_1 0 rfl rfl)
theorem dX0_join_26 : decode cX0_join 26 = .ok (.invokeinterface 44 1, 5) := by decide +kernel
theorem dX0_join_31 : decode cX0_join 31 = .ok (.bipush 10, 2) := dk_16 10 (dk_at dksX0_join_1 8 rfl rfl)
theorem dX0_join_33 : decode cX0_join 33 = .ok (.if_icmp .ne 6, 3) := dk_160 0 6 (dk_at dksX0_join_1 10 rfl rfl)
theorem dX0_join_36 : decode cX0_join 36 = .ok (.bipush (-4), 2) := dk_16 252 (dk_at dksX0_join_1 13 rfl rfl)
theorem dX0_join_38 : decode cX0_join 38 = .ok (.ireturn, 1) := dk_172 (dk_at dksX0_join_1 15 rfl rfl)
theorem dX0_join_39 : decode cX0_join 39 = .ok (.aload_n 0, 1) := dk_42 (dk_at dksX0_join_1 16 rfl rfl)
theorem dX0_join_40 : decode cX0_join 40 = .ok (.invokevirtual 74, 3) := dk_182 0 74 (dk_at dksX0_join_1 17 rfl rfl)
theorem dX0_join_43 : decode cX0_join 43 = .ok (.aload_n 0, 1) := dk_42 (dk_at dksX0_join_1 20 rfl rfl)
theorem dX0_join_44 : decode cX0_join 44 = .ok (.getfield 10, 3) := dk_180 0 10 (dk_at dksX0_join_1 21 rfl rfl)
theorem dX0_join_47 : decode cX0_join 47 = .ok (.getfield 144, 3) := dk_180 0 144 (dk_at dksX0_join_2 0 rfl rfl)
theorem dX0_join_50 : decode cX0_join 50 = .ok (.new 147, 3) := dk_187 0 147 (dk_at dksX0_join_2 3 rfl rfl)
theorem dX0_join_53 : decode cX0_join 53 = .ok (.dup, 1) := dk_89 (dk_at dksX0_join_2 6 rfl rfl)
theorem dX0_join_54 : decode cX0_join 54 = .ok (.iload_n 1, 1) := dk_27 (dk_at dksX0_join_2 7 rfl rfl)
theorem dX0_join_55 : decode cX0_join 55 = .ok (.iload_n 2, 1) := dk_28 (dk_at dksX0_join_2 8 rfl rfl)
theorem dX0_join_56 : decode cX0_join 56 = .ok (.invokespecial 149, 3) := dk_183 0 149 (dk_at dksX0_join_2 9 rfl rfl)
theorem dX0_join_59 : decode cX0_join 59 = .ok (.invokeinterface 38 2, 5) := by decide +kernel
theorem dX0_join_64 : decode cX0_join 64 = .ok (.pop, 1) := dk_87 (dk_at dksX0_join_2 17 rfl rfl)
theorem dX0_join_65 : decode cX0_join 65 = .ok (.aload_n 0, 1) := dk_42 (dk_at dksX0_join_2 18 rfl rfl)
theorem dX0_join_66 : decode cX0_join 66 = .ok (.getfield 10, 3) := dk_180 0 10 (dk_at dksX0_join_2 19 rfl rfl)
theorem dX0_join_69 : decode cX0_join 69 = .ok (.getfield 144, 3) := dk_180 0 144 (dk_at dksX0_join_3 0 rfl rfl)
theorem dX0_join_72 : decode cX0_join 72 = .ok (.invokeinterface 44 1, 5) := by decide +kernel
theorem dX0_join_77 : decode cX0_join 77 = .ok (.iconst 1, 1) := dk_4 (dk_at dksX0_join_3 8 rfl rfl)
theorem dX0_join_78 : decode cX0_join 78 = .ok (.isub, 1) := dk_100 (dk_at dksX0_join_3 9 rfl rfl)
theorem dX0_join_79 : decode cX0_join 79 = .ok (.ireturn, 1) := dk_172 (dk_at dksX0_join_3 10 rfl rfl)
abbrev cX0_leave : ByteArray := prog_1_method_11_code
def yX0_leave : MethodName := ⟨RX0, "leave", "(I)I"⟩
def dkwX0_leave_1 : List UInt8 := [27, 185, 0, 48, 2, 0, 192, 0, 147, 180, 0, 155, 172]
abbrev dktX0_leave_1 : List UInt8 := dkwX0_leave_1 ++ []
def dkwX0_leave_0 : List UInt8 := [42, 180, 0, 10, 27, 182, 0, 152, 154, 0, 5, 2, 172, 42, 182, 0, 74, 42, 180, 0, 10, 180, 0, 144]
abbrev dktX0_leave_0 : List UInt8 := dkwX0_leave_0 ++ dktX0_leave_1
theorem dksX0_leave_0 : cX0_leave.data.toList.drop 0 = dktX0_leave_0 := by decide +kernel
theorem dksX0_leave_1 : cX0_leave.data.toList.drop 24 = dktX0_leave_1 := dk_seg dksX0_leave_0 24 rfl rfl
theorem dX0_leave_0 : decode cX0_leave 0 = .ok (.aload_n 0, 1) := dk_42 (dk_at dksX0_leave_0 0 rfl rfl)
theorem dX0_leave_1 : decode cX0_leave 1 = .ok (.getfield 10, 3) := dk_180 0 10 (dk_at dksX0_leave_0 1 rfl rfl)
theorem dX0_leave_4 : decode cX0_leave 4 = .ok (.iload_n 1, 1) := dk_27 (dk_at dksX0_leave_0 4 rfl rfl)
theorem dX0_leave_5 : decode cX0_leave 5 = .ok (.invokevirtual 152, 3) := dk_182 0 152 (dk_at dksX0_leave_0 5 rfl rfl)
theorem dX0_leave_8 : decode cX0_leave 8 = .ok (.ifCond .ne 5, 3) := dk_154 0 5 (dk_at dksX0_leave_0 8 rfl rfl)
theorem dX0_leave_11 : decode cX0_leave 11 = .ok (.iconst (-1), 1) := dk_2 (dk_at dksX0_leave_0 11 rfl rfl)
theorem dX0_leave_12 : decode cX0_leave 12 = .ok (.ireturn, 1) := dk_172 (dk_at dksX0_leave_0 12 rfl rfl)
theorem dX0_leave_13 : decode cX0_leave 13 = .ok (.aload_n 0, 1) := dk_42 (dk_at dksX0_leave_0 13 rfl rfl)
theorem dX0_leave_14 : decode cX0_leave 14 = .ok (.invokevirtual 74, 3) := dk_182 0 74 (dk_at dksX0_leave_0 14 rfl rfl)
theorem dX0_leave_17 : decode cX0_leave 17 = .ok (.aload_n 0, 1) := dk_42 (dk_at dksX0_leave_0 17 rfl rfl)
theorem dX0_leave_18 : decode cX0_leave 18 = .ok (.getfield 10, 3) := dk_180 0 10 (dk_at dksX0_leave_0 18 rfl rfl)
theorem dX0_leave_21 : decode cX0_leave 21 = .ok (.getfield 144, 3) := dk_180 0 144 (dk_at dksX0_leave_0 21 rfl rfl)
theorem dX0_leave_24 : decode cX0_leave 24 = .ok (.iload_n 1, 1) := dk_27 (dk_at dksX0_leave_1 0 rfl rfl)
theorem dX0_leave_25 : decode cX0_leave 25 = .ok (.invokeinterface 48 2, 5) := by decide +kernel
theorem dX0_leave_30 : decode cX0_leave 30 = .ok (.checkcast 147, 3) := dk_192 0 147 (dk_at dksX0_leave_1 6 rfl rfl)
theorem dX0_leave_33 : decode cX0_leave 33 = .ok (.getfield 155, 3) := dk_180 0 155 (dk_at dksX0_leave_1 9 rfl rfl)
theorem dX0_leave_36 : decode cX0_leave 36 = .ok (.ireturn, 1) := dk_172 (dk_at dksX0_leave_1 12 rfl rfl)
abbrev cX0_rank : ByteArray := prog_1_method_12_code
def yX0_rank : MethodName := ⟨RX0, "rank", "(II)I"⟩
def dkwX0_rank_2 : List UInt8 := [180, 0, 10, 180, 0, 144, 27, 185, 0, 85, 2, 0, 192, 0, 147, 28, 181, 0, 158, 29, 172]
abbrev dktX0_rank_2 : List UInt8 := dkwX0_rank_2 ++ []
def dkwX0_rank_1 : List UInt8 := [182, 0, 74, 42, 180, 0, 10, 180, 0, 144, 27, 185, 0, 85, 2, 0, 192, 0, 147, 180, 0, 158, 62, 42]
abbrev dktX0_rank_1 : List UInt8 := dkwX0_rank_1 ++ dktX0_rank_2
def dkwX0_rank_0 : List UInt8 := [42, 180, 0, 10, 27, 182, 0, 152, 154, 0, 5, 2, 172, 28, 184, 0, 141, 154, 0, 6, 16, 254, 172, 42]
abbrev dktX0_rank_0 : List UInt8 := dkwX0_rank_0 ++ dktX0_rank_1
theorem dksX0_rank_0 : cX0_rank.data.toList.drop 0 = dktX0_rank_0 := by decide +kernel
theorem dksX0_rank_1 : cX0_rank.data.toList.drop 24 = dktX0_rank_1 := dk_seg dksX0_rank_0 24 rfl rfl
theorem dksX0_rank_2 : cX0_rank.data.toList.drop 48 = dktX0_rank_2 := dk_seg dksX0_rank_1 24 rfl rfl
theorem dX0_rank_0 : decode cX0_rank 0 = .ok (.aload_n 0, 1) := dk_42 (dk_at dksX0_rank_0 0 rfl rfl)
theorem dX0_rank_1 : decode cX0_rank 1 = .ok (.getfield 10, 3) := dk_180 0 10 (dk_at dksX0_rank_0 1 rfl rfl)
theorem dX0_rank_4 : decode cX0_rank 4 = .ok (.iload_n 1, 1) := dk_27 (dk_at dksX0_rank_0 4 rfl rfl)
theorem dX0_rank_5 : decode cX0_rank 5 = .ok (.invokevirtual 152, 3) := dk_182 0 152 (dk_at dksX0_rank_0 5 rfl rfl)
theorem dX0_rank_8 : decode cX0_rank 8 = .ok (.ifCond .ne 5, 3) := dk_154 0 5 (dk_at dksX0_rank_0 8 rfl rfl)
theorem dX0_rank_11 : decode cX0_rank 11 = .ok (.iconst (-1), 1) := dk_2 (dk_at dksX0_rank_0 11 rfl rfl)
theorem dX0_rank_12 : decode cX0_rank 12 = .ok (.ireturn, 1) := dk_172 (dk_at dksX0_rank_0 12 rfl rfl)
theorem dX0_rank_13 : decode cX0_rank 13 = .ok (.iload_n 2, 1) := dk_28 (dk_at dksX0_rank_0 13 rfl rfl)
theorem dX0_rank_14 : decode cX0_rank 14 = .ok (.invokestatic 141, 3) := dk_184 0 141 (dk_at dksX0_rank_0 14 rfl rfl)
theorem dX0_rank_17 : decode cX0_rank 17 = .ok (.ifCond .ne 6, 3) := dk_154 0 6 (dk_at dksX0_rank_0 17 rfl rfl)
theorem dX0_rank_20 : decode cX0_rank 20 = .ok (.bipush (-2), 2) := dk_16 254 (dk_at dksX0_rank_0 20 rfl rfl)
theorem dX0_rank_22 : decode cX0_rank 22 = .ok (.ireturn, 1) := dk_172 (dk_at dksX0_rank_0 22 rfl rfl)
theorem dX0_rank_23 : decode cX0_rank 23 = .ok (.aload_n 0, 1) := dk_42 (dk_at dksX0_rank_0 23 rfl rfl)
theorem dX0_rank_24 : decode cX0_rank 24 = .ok (.invokevirtual 74, 3) := dk_182 0 74 (dk_at dksX0_rank_1 0 rfl rfl)
theorem dX0_rank_27 : decode cX0_rank 27 = .ok (.aload_n 0, 1) := dk_42 (dk_at dksX0_rank_1 3 rfl rfl)
theorem dX0_rank_28 : decode cX0_rank 28 = .ok (.getfield 10, 3) := dk_180 0 10 (dk_at dksX0_rank_1 4 rfl rfl)
theorem dX0_rank_31 : decode cX0_rank 31 = .ok (.getfield 144, 3) := dk_180 0 144 (dk_at dksX0_rank_1 7 rfl rfl)
theorem dX0_rank_34 : decode cX0_rank 34 = .ok (.iload_n 1, 1) := dk_27 (dk_at dksX0_rank_1 10 rfl rfl)
theorem dX0_rank_35 : decode cX0_rank 35 = .ok (.invokeinterface 85 2, 5) := by decide +kernel
theorem dX0_rank_40 : decode cX0_rank 40 = .ok (.checkcast 147, 3) := dk_192 0 147 (dk_at dksX0_rank_1 16 rfl rfl)
theorem dX0_rank_43 : decode cX0_rank 43 = .ok (.getfield 158, 3) := dk_180 0 158 (dk_at dksX0_rank_1 19 rfl rfl)
theorem dX0_rank_46 : decode cX0_rank 46 = .ok (.istore_n 3, 1) := dk_62 (dk_at dksX0_rank_1 22 rfl rfl)
theorem dX0_rank_47 : decode cX0_rank 47 = .ok (.aload_n 0, 1) := dk_42 (dk_at dksX0_rank_1 23 rfl rfl)
theorem dX0_rank_48 : decode cX0_rank 48 = .ok (.getfield 10, 3) := dk_180 0 10 (dk_at dksX0_rank_2 0 rfl rfl)
theorem dX0_rank_51 : decode cX0_rank 51 = .ok (.getfield 144, 3) := dk_180 0 144 (dk_at dksX0_rank_2 3 rfl rfl)
theorem dX0_rank_54 : decode cX0_rank 54 = .ok (.iload_n 1, 1) := dk_27 (dk_at dksX0_rank_2 6 rfl rfl)
theorem dX0_rank_55 : decode cX0_rank 55 = .ok (.invokeinterface 85 2, 5) := by decide +kernel
theorem dX0_rank_60 : decode cX0_rank 60 = .ok (.checkcast 147, 3) := dk_192 0 147 (dk_at dksX0_rank_2 12 rfl rfl)
theorem dX0_rank_63 : decode cX0_rank 63 = .ok (.iload_n 2, 1) := dk_28 (dk_at dksX0_rank_2 15 rfl rfl)
theorem dX0_rank_64 : decode cX0_rank 64 = .ok (.putfield 158, 3) := dk_181 0 158 (dk_at dksX0_rank_2 16 rfl rfl)
theorem dX0_rank_67 : decode cX0_rank 67 = .ok (.iload_n 3, 1) := dk_29 (dk_at dksX0_rank_2 19 rfl rfl)
theorem dX0_rank_68 : decode cX0_rank 68 = .ok (.ireturn, 1) := dk_172 (dk_at dksX0_rank_2 20 rfl rfl)
abbrev cX0_act : ByteArray := prog_1_method_13_code
def yX0_act : MethodName := ⟨RX0, "act", "(II)I"⟩
def dkwX0_act_2 : List UInt8 := [172]
abbrev dktX0_act_2 : List UInt8 := dkwX0_act_2 ++ []
def dkwX0_act_1 : List UInt8 := [42, 180, 0, 10, 42, 180, 0, 10, 180, 0, 144, 27, 185, 0, 85, 2, 0, 192, 0, 147, 28, 182, 0, 164]
abbrev dktX0_act_1 : List UInt8 := dkwX0_act_1 ++ dktX0_act_2
def dkwX0_act_0 : List UInt8 := [42, 180, 0, 10, 27, 182, 0, 152, 153, 0, 10, 28, 184, 0, 161, 154, 0, 5, 2, 172, 42, 182, 0, 74]
abbrev dktX0_act_0 : List UInt8 := dkwX0_act_0 ++ dktX0_act_1
theorem dksX0_act_0 : cX0_act.data.toList.drop 0 = dktX0_act_0 := by decide +kernel
theorem dksX0_act_1 : cX0_act.data.toList.drop 24 = dktX0_act_1 := dk_seg dksX0_act_0 24 rfl rfl
theorem dksX0_act_2 : cX0_act.data.toList.drop 48 = dktX0_act_2 := dk_seg dksX0_act_1 24 rfl rfl
theorem dX0_act_0 : decode cX0_act 0 = .ok (.aload_n 0, 1) := dk_42 (dk_at dksX0_act_0 0 rfl rfl)
theorem dX0_act_1 : decode cX0_act 1 = .ok (.getfield 10, 3) := dk_180 0 10 (dk_at dksX0_act_0 1 rfl rfl)
theorem dX0_act_4 : decode cX0_act 4 = .ok (.iload_n 1, 1) := dk_27 (dk_at dksX0_act_0 4 rfl rfl)
theorem dX0_act_5 : decode cX0_act 5 = .ok (.invokevirtual 152, 3) := dk_182 0 152 (dk_at dksX0_act_0 5 rfl rfl)
theorem dX0_act_8 : decode cX0_act 8 = .ok (.ifCond .eq 10, 3) := dk_153 0 10 (dk_at dksX0_act_0 8 rfl rfl)
theorem dX0_act_11 : decode cX0_act 11 = .ok (.iload_n 2, 1) := dk_28 (dk_at dksX0_act_0 11 rfl rfl)
theorem dX0_act_12 : decode cX0_act 12 = .ok (.invokestatic 161, 3) := dk_184 0 161 (dk_at dksX0_act_0 12 rfl rfl)
theorem dX0_act_15 : decode cX0_act 15 = .ok (.ifCond .ne 5, 3) := dk_154 0 5 (dk_at dksX0_act_0 15 rfl rfl)
theorem dX0_act_18 : decode cX0_act 18 = .ok (.iconst (-1), 1) := dk_2 (dk_at dksX0_act_0 18 rfl rfl)
theorem dX0_act_19 : decode cX0_act 19 = .ok (.ireturn, 1) := dk_172 (dk_at dksX0_act_0 19 rfl rfl)
theorem dX0_act_20 : decode cX0_act 20 = .ok (.aload_n 0, 1) := dk_42 (dk_at dksX0_act_0 20 rfl rfl)
theorem dX0_act_21 : decode cX0_act 21 = .ok (.invokevirtual 74, 3) := dk_182 0 74 (dk_at dksX0_act_0 21 rfl rfl)
theorem dX0_act_24 : decode cX0_act 24 = .ok (.aload_n 0, 1) := dk_42 (dk_at dksX0_act_1 0 rfl rfl)
theorem dX0_act_25 : decode cX0_act 25 = .ok (.getfield 10, 3) := dk_180 0 10 (dk_at dksX0_act_1 1 rfl rfl)
theorem dX0_act_28 : decode cX0_act 28 = .ok (.aload_n 0, 1) := dk_42 (dk_at dksX0_act_1 4 rfl rfl)
theorem dX0_act_29 : decode cX0_act 29 = .ok (.getfield 10, 3) := dk_180 0 10 (dk_at dksX0_act_1 5 rfl rfl)
theorem dX0_act_32 : decode cX0_act 32 = .ok (.getfield 144, 3) := dk_180 0 144 (dk_at dksX0_act_1 8 rfl rfl)
theorem dX0_act_35 : decode cX0_act 35 = .ok (.iload_n 1, 1) := dk_27 (dk_at dksX0_act_1 11 rfl rfl)
theorem dX0_act_36 : decode cX0_act 36 = .ok (.invokeinterface 85 2, 5) := by decide +kernel
theorem dX0_act_41 : decode cX0_act 41 = .ok (.checkcast 147, 3) := dk_192 0 147 (dk_at dksX0_act_1 17 rfl rfl)
theorem dX0_act_44 : decode cX0_act 44 = .ok (.iload_n 2, 1) := dk_28 (dk_at dksX0_act_1 20 rfl rfl)
theorem dX0_act_45 : decode cX0_act 45 = .ok (.invokevirtual 164, 3) := dk_182 0 164 (dk_at dksX0_act_1 21 rfl rfl)
theorem dX0_act_48 : decode cX0_act 48 = .ok (.ireturn, 1) := dk_172 (dk_at dksX0_act_2 0 rfl rfl)
abbrev cX0_rule : ByteArray := prog_1_method_14_code
def yX0_rule : MethodName := ⟨RX0, "rule", "(II)I"⟩
def dkwX0_rule_5 : List UInt8 := [180, 0, 10, 180, 0, 65, 27, 182, 0, 171, 172, 45, 182, 0, 175, 172, 16, 254, 172]
abbrev dktX0_rule_5 : List UInt8 := dkwX0_rule_5 ++ []
def dkwX0_rule_4 : List UInt8 := [172, 42, 180, 0, 10, 180, 0, 65, 27, 182, 0, 168, 153, 0, 7, 4, 167, 0, 4, 3, 172, 42]
abbrev dktX0_rule_4 : List UInt8 := dkwX0_rule_4 ++ dktX0_rule_5
def dkwX0_rule_3 : List UInt8 := [45, 180, 0, 102, 172, 45, 180, 0, 88, 172, 45, 180, 0, 92, 172, 45, 180, 0, 95, 172, 45, 180, 0, 109]
abbrev dktX0_rule_3 : List UInt8 := dkwX0_rule_3 ++ dktX0_rule_4
def dkwX0_rule_2 : List UInt8 := [170, 0, 0, 0, 0, 0, 109, 0, 0, 0, 0, 0, 0, 0, 7, 0, 0, 0, 47, 0, 0, 0, 52, 0, 0, 0, 57, 0, 0, 0, 62, 0, 0, 0, 67, 0, 0, 0, 72, 0, 0, 0, 92, 0, 0, 0, 104]
abbrev dktX0_rule_2 : List UInt8 := dkwX0_rule_2 ++ dktX0_rule_3
def dkwX0_rule_1 : List UInt8 := [180, 0, 69, 27, 185, 0, 85, 2, 0, 192, 0, 77, 78, 28]
abbrev dktX0_rule_1 : List UInt8 := dkwX0_rule_1 ++ dktX0_rule_2
def dkwX0_rule_0 : List UInt8 := [42, 180, 0, 10, 180, 0, 65, 27, 182, 0, 82, 154, 0, 5, 2, 172, 42, 180, 0, 10, 180, 0, 65]
abbrev dktX0_rule_0 : List UInt8 := dkwX0_rule_0 ++ dktX0_rule_1
theorem dksX0_rule_0 : cX0_rule.data.toList.drop 0 = dktX0_rule_0 := by decide +kernel
theorem dksX0_rule_1 : cX0_rule.data.toList.drop 23 = dktX0_rule_1 := dk_seg dksX0_rule_0 23 rfl rfl
theorem dksX0_rule_2 : cX0_rule.data.toList.drop 37 = dktX0_rule_2 := dk_seg dksX0_rule_1 14 rfl rfl
theorem dksX0_rule_3 : cX0_rule.data.toList.drop 84 = dktX0_rule_3 := dk_seg dksX0_rule_2 47 rfl rfl
theorem dksX0_rule_4 : cX0_rule.data.toList.drop 108 = dktX0_rule_4 := dk_seg dksX0_rule_3 24 rfl rfl
theorem dksX0_rule_5 : cX0_rule.data.toList.drop 130 = dktX0_rule_5 := dk_seg dksX0_rule_4 22 rfl rfl
theorem dX0_rule_0 : decode cX0_rule 0 = .ok (.aload_n 0, 1) := dk_42 (dk_at dksX0_rule_0 0 rfl rfl)
theorem dX0_rule_1 : decode cX0_rule 1 = .ok (.getfield 10, 3) := dk_180 0 10 (dk_at dksX0_rule_0 1 rfl rfl)
theorem dX0_rule_4 : decode cX0_rule 4 = .ok (.getfield 65, 3) := dk_180 0 65 (dk_at dksX0_rule_0 4 rfl rfl)
theorem dX0_rule_7 : decode cX0_rule 7 = .ok (.iload_n 1, 1) := dk_27 (dk_at dksX0_rule_0 7 rfl rfl)
theorem dX0_rule_8 : decode cX0_rule 8 = .ok (.invokevirtual 82, 3) := dk_182 0 82 (dk_at dksX0_rule_0 8 rfl rfl)
theorem dX0_rule_11 : decode cX0_rule 11 = .ok (.ifCond .ne 5, 3) := dk_154 0 5 (dk_at dksX0_rule_0 11 rfl rfl)
theorem dX0_rule_14 : decode cX0_rule 14 = .ok (.iconst (-1), 1) := dk_2 (dk_at dksX0_rule_0 14 rfl rfl)
theorem dX0_rule_15 : decode cX0_rule 15 = .ok (.ireturn, 1) := dk_172 (dk_at dksX0_rule_0 15 rfl rfl)
theorem dX0_rule_16 : decode cX0_rule 16 = .ok (.aload_n 0, 1) := dk_42 (dk_at dksX0_rule_0 16 rfl rfl)
theorem dX0_rule_17 : decode cX0_rule 17 = .ok (.getfield 10, 3) := dk_180 0 10 (dk_at dksX0_rule_0 17 rfl rfl)
theorem dX0_rule_20 : decode cX0_rule 20 = .ok (.getfield 65, 3) := dk_180 0 65 (dk_at dksX0_rule_0 20 rfl rfl)
theorem dX0_rule_23 : decode cX0_rule 23 = .ok (.getfield 69, 3) := dk_180 0 69 (dk_at dksX0_rule_1 0 rfl rfl)
theorem dX0_rule_26 : decode cX0_rule 26 = .ok (.iload_n 1, 1) := dk_27 (dk_at dksX0_rule_1 3 rfl rfl)
theorem dX0_rule_27 : decode cX0_rule 27 = .ok (.invokeinterface 85 2, 5) := by decide +kernel
theorem dX0_rule_32 : decode cX0_rule 32 = .ok (.checkcast 77, 3) := dk_192 0 77 (dk_at dksX0_rule_1 9 rfl rfl)
theorem dX0_rule_35 : decode cX0_rule 35 = .ok (.astore_n 3, 1) := dk_78 (dk_at dksX0_rule_1 12 rfl rfl)
theorem dX0_rule_36 : decode cX0_rule 36 = .ok (.iload_n 2, 1) := dk_28 (dk_at dksX0_rule_1 13 rfl rfl)
theorem dX0_rule_37 : decode cX0_rule 37 = .ok (.tableswitch 109 0 7 #[47, 52, 57, 62, 67, 72, 92, 104], 47) := by decide +kernel
theorem dX0_rule_84 : decode cX0_rule 84 = .ok (.aload_n 3, 1) := dk_45 (dk_at dksX0_rule_3 0 rfl rfl)
theorem dX0_rule_85 : decode cX0_rule 85 = .ok (.getfield 102, 3) := dk_180 0 102 (dk_at dksX0_rule_3 1 rfl rfl)
theorem dX0_rule_88 : decode cX0_rule 88 = .ok (.ireturn, 1) := dk_172 (dk_at dksX0_rule_3 4 rfl rfl)
theorem dX0_rule_89 : decode cX0_rule 89 = .ok (.aload_n 3, 1) := dk_45 (dk_at dksX0_rule_3 5 rfl rfl)
theorem dX0_rule_90 : decode cX0_rule 90 = .ok (.getfield 88, 3) := dk_180 0 88 (dk_at dksX0_rule_3 6 rfl rfl)
theorem dX0_rule_93 : decode cX0_rule 93 = .ok (.ireturn, 1) := dk_172 (dk_at dksX0_rule_3 9 rfl rfl)
theorem dX0_rule_94 : decode cX0_rule 94 = .ok (.aload_n 3, 1) := dk_45 (dk_at dksX0_rule_3 10 rfl rfl)
theorem dX0_rule_95 : decode cX0_rule 95 = .ok (.getfield 92, 3) := dk_180 0 92 (dk_at dksX0_rule_3 11 rfl rfl)
theorem dX0_rule_98 : decode cX0_rule 98 = .ok (.ireturn, 1) := dk_172 (dk_at dksX0_rule_3 14 rfl rfl)
theorem dX0_rule_99 : decode cX0_rule 99 = .ok (.aload_n 3, 1) := dk_45 (dk_at dksX0_rule_3 15 rfl rfl)
theorem dX0_rule_100 : decode cX0_rule 100 = .ok (.getfield 95, 3) := dk_180 0 95 (dk_at dksX0_rule_3 16 rfl rfl)
theorem dX0_rule_103 : decode cX0_rule 103 = .ok (.ireturn, 1) := dk_172 (dk_at dksX0_rule_3 19 rfl rfl)
theorem dX0_rule_104 : decode cX0_rule 104 = .ok (.aload_n 3, 1) := dk_45 (dk_at dksX0_rule_3 20 rfl rfl)
theorem dX0_rule_105 : decode cX0_rule 105 = .ok (.getfield 109, 3) := dk_180 0 109 (dk_at dksX0_rule_3 21 rfl rfl)
theorem dX0_rule_108 : decode cX0_rule 108 = .ok (.ireturn, 1) := dk_172 (dk_at dksX0_rule_4 0 rfl rfl)
theorem dX0_rule_109 : decode cX0_rule 109 = .ok (.aload_n 0, 1) := dk_42 (dk_at dksX0_rule_4 1 rfl rfl)
theorem dX0_rule_110 : decode cX0_rule 110 = .ok (.getfield 10, 3) := dk_180 0 10 (dk_at dksX0_rule_4 2 rfl rfl)
theorem dX0_rule_113 : decode cX0_rule 113 = .ok (.getfield 65, 3) := dk_180 0 65 (dk_at dksX0_rule_4 5 rfl rfl)
theorem dX0_rule_116 : decode cX0_rule 116 = .ok (.iload_n 1, 1) := dk_27 (dk_at dksX0_rule_4 8 rfl rfl)
theorem dX0_rule_117 : decode cX0_rule 117 = .ok (.invokevirtual 168, 3) := dk_182 0 168 (dk_at dksX0_rule_4 9 rfl rfl)
theorem dX0_rule_120 : decode cX0_rule 120 = .ok (.ifCond .eq 7, 3) := dk_153 0 7 (dk_at dksX0_rule_4 12 rfl rfl)
theorem dX0_rule_123 : decode cX0_rule 123 = .ok (.iconst 1, 1) := dk_4 (dk_at dksX0_rule_4 15 rfl rfl)
theorem dX0_rule_124 : decode cX0_rule 124 = .ok (.goto 4, 3) := dk_167 0 4 (dk_at dksX0_rule_4 16 rfl rfl)
theorem dX0_rule_127 : decode cX0_rule 127 = .ok (.iconst 0, 1) := dk_3 (dk_at dksX0_rule_4 19 rfl rfl)
theorem dX0_rule_128 : decode cX0_rule 128 = .ok (.ireturn, 1) := dk_172 (dk_at dksX0_rule_4 20 rfl rfl)
theorem dX0_rule_129 : decode cX0_rule 129 = .ok (.aload_n 0, 1) := dk_42 (dk_at dksX0_rule_4 21 rfl rfl)
theorem dX0_rule_130 : decode cX0_rule 130 = .ok (.getfield 10, 3) := dk_180 0 10 (dk_at dksX0_rule_5 0 rfl rfl)
theorem dX0_rule_133 : decode cX0_rule 133 = .ok (.getfield 65, 3) := dk_180 0 65 (dk_at dksX0_rule_5 3 rfl rfl)
theorem dX0_rule_136 : decode cX0_rule 136 = .ok (.iload_n 1, 1) := dk_27 (dk_at dksX0_rule_5 6 rfl rfl)
theorem dX0_rule_137 : decode cX0_rule 137 = .ok (.invokevirtual 171, 3) := dk_182 0 171 (dk_at dksX0_rule_5 7 rfl rfl)
theorem dX0_rule_140 : decode cX0_rule 140 = .ok (.ireturn, 1) := dk_172 (dk_at dksX0_rule_5 10 rfl rfl)
theorem dX0_rule_141 : decode cX0_rule 141 = .ok (.aload_n 3, 1) := dk_45 (dk_at dksX0_rule_5 11 rfl rfl)
theorem dX0_rule_142 : decode cX0_rule 142 = .ok (.invokevirtual 175, 3) := dk_182 0 175 (dk_at dksX0_rule_5 12 rfl rfl)
theorem dX0_rule_145 : decode cX0_rule 145 = .ok (.ireturn, 1) := dk_172 (dk_at dksX0_rule_5 15 rfl rfl)
theorem dX0_rule_146 : decode cX0_rule 146 = .ok (.bipush (-2), 2) := dk_16 254 (dk_at dksX0_rule_5 16 rfl rfl)
theorem dX0_rule_148 : decode cX0_rule 148 = .ok (.ireturn, 1) := dk_172 (dk_at dksX0_rule_5 18 rfl rfl)
abbrev cX0_member : ByteArray := prog_1_method_16_code
def yX0_member : MethodName := ⟨RX0, "member", "(II)I"⟩
def dkwX0_member_4 : List UInt8 := [180, 0, 187, 172, 16, 254, 172]
abbrev dktX0_member_4 : List UInt8 := dkwX0_member_4 ++ []
def dkwX0_member_3 : List UInt8 := [45, 180, 0, 178, 172, 45, 180, 0, 158, 172, 42, 45, 182, 0, 183, 172, 45, 180, 0, 155, 172, 45]
abbrev dktX0_member_3 : List UInt8 := dkwX0_member_3 ++ dktX0_member_4
def dkwX0_member_2 : List UInt8 := [170, 0, 0, 0, 59, 0, 0, 0, 0, 0, 0, 0, 4, 0, 0, 0, 33, 0, 0, 0, 38, 0, 0, 0, 43, 0, 0, 0, 49, 0, 0, 0, 54]
abbrev dktX0_member_2 : List UInt8 := dkwX0_member_2 ++ dktX0_member_3
def dkwX0_member_1 : List UInt8 := [185, 0, 85, 2, 0, 192, 0, 147, 78, 28]
abbrev dktX0_member_1 : List UInt8 := dkwX0_member_1 ++ dktX0_member_2
def dkwX0_member_0 : List UInt8 := [42, 180, 0, 10, 27, 182, 0, 152, 154, 0, 5, 2, 172, 42, 180, 0, 10, 180, 0, 144, 27]
abbrev dktX0_member_0 : List UInt8 := dkwX0_member_0 ++ dktX0_member_1
theorem dksX0_member_0 : cX0_member.data.toList.drop 0 = dktX0_member_0 := by decide +kernel
theorem dksX0_member_1 : cX0_member.data.toList.drop 21 = dktX0_member_1 := dk_seg dksX0_member_0 21 rfl rfl
theorem dksX0_member_2 : cX0_member.data.toList.drop 31 = dktX0_member_2 := dk_seg dksX0_member_1 10 rfl rfl
theorem dksX0_member_3 : cX0_member.data.toList.drop 64 = dktX0_member_3 := dk_seg dksX0_member_2 33 rfl rfl
theorem dksX0_member_4 : cX0_member.data.toList.drop 86 = dktX0_member_4 := dk_seg dksX0_member_3 22 rfl rfl
theorem dX0_member_0 : decode cX0_member 0 = .ok (.aload_n 0, 1) := dk_42 (dk_at dksX0_member_0 0 rfl rfl)
theorem dX0_member_1 : decode cX0_member 1 = .ok (.getfield 10, 3) := dk_180 0 10 (dk_at dksX0_member_0 1 rfl rfl)
theorem dX0_member_4 : decode cX0_member 4 = .ok (.iload_n 1, 1) := dk_27 (dk_at dksX0_member_0 4 rfl rfl)
theorem dX0_member_5 : decode cX0_member 5 = .ok (.invokevirtual 152, 3) := dk_182 0 152 (dk_at dksX0_member_0 5 rfl rfl)
theorem dX0_member_8 : decode cX0_member 8 = .ok (.ifCond .ne 5, 3) := dk_154 0 5 (dk_at dksX0_member_0 8 rfl rfl)
theorem dX0_member_11 : decode cX0_member 11 = .ok (.iconst (-1), 1) := dk_2 (dk_at dksX0_member_0 11 rfl rfl)
theorem dX0_member_12 : decode cX0_member 12 = .ok (.ireturn, 1) := dk_172 (dk_at dksX0_member_0 12 rfl rfl)
theorem dX0_member_13 : decode cX0_member 13 = .ok (.aload_n 0, 1) := dk_42 (dk_at dksX0_member_0 13 rfl rfl)
theorem dX0_member_14 : decode cX0_member 14 = .ok (.getfield 10, 3) := dk_180 0 10 (dk_at dksX0_member_0 14 rfl rfl)
theorem dX0_member_17 : decode cX0_member 17 = .ok (.getfield 144, 3) := dk_180 0 144 (dk_at dksX0_member_0 17 rfl rfl)
theorem dX0_member_20 : decode cX0_member 20 = .ok (.iload_n 1, 1) := dk_27 (dk_at dksX0_member_0 20 rfl rfl)
theorem dX0_member_21 : decode cX0_member 21 = .ok (.invokeinterface 85 2, 5) := by decide +kernel
theorem dX0_member_26 : decode cX0_member 26 = .ok (.checkcast 147, 3) := dk_192 0 147 (dk_at dksX0_member_1 5 rfl rfl)
theorem dX0_member_29 : decode cX0_member 29 = .ok (.astore_n 3, 1) := dk_78 (dk_at dksX0_member_1 8 rfl rfl)
theorem dX0_member_30 : decode cX0_member 30 = .ok (.iload_n 2, 1) := dk_28 (dk_at dksX0_member_1 9 rfl rfl)
theorem dX0_member_31 : decode cX0_member 31 = .ok (.tableswitch 59 0 4 #[33, 38, 43, 49, 54], 33) := by decide +kernel
theorem dX0_member_64 : decode cX0_member 64 = .ok (.aload_n 3, 1) := dk_45 (dk_at dksX0_member_3 0 rfl rfl)
theorem dX0_member_65 : decode cX0_member 65 = .ok (.getfield 178, 3) := dk_180 0 178 (dk_at dksX0_member_3 1 rfl rfl)
theorem dX0_member_68 : decode cX0_member 68 = .ok (.ireturn, 1) := dk_172 (dk_at dksX0_member_3 4 rfl rfl)
theorem dX0_member_69 : decode cX0_member 69 = .ok (.aload_n 3, 1) := dk_45 (dk_at dksX0_member_3 5 rfl rfl)
theorem dX0_member_70 : decode cX0_member 70 = .ok (.getfield 158, 3) := dk_180 0 158 (dk_at dksX0_member_3 6 rfl rfl)
theorem dX0_member_73 : decode cX0_member 73 = .ok (.ireturn, 1) := dk_172 (dk_at dksX0_member_3 9 rfl rfl)
theorem dX0_member_74 : decode cX0_member 74 = .ok (.aload_n 0, 1) := dk_42 (dk_at dksX0_member_3 10 rfl rfl)
theorem dX0_member_75 : decode cX0_member 75 = .ok (.aload_n 3, 1) := dk_45 (dk_at dksX0_member_3 11 rfl rfl)
theorem dX0_member_76 : decode cX0_member 76 = .ok (.invokevirtual 183, 3) := dk_182 0 183 (dk_at dksX0_member_3 12 rfl rfl)
theorem dX0_member_79 : decode cX0_member 79 = .ok (.ireturn, 1) := dk_172 (dk_at dksX0_member_3 15 rfl rfl)
theorem dX0_member_80 : decode cX0_member 80 = .ok (.aload_n 3, 1) := dk_45 (dk_at dksX0_member_3 16 rfl rfl)
theorem dX0_member_81 : decode cX0_member 81 = .ok (.getfield 155, 3) := dk_180 0 155 (dk_at dksX0_member_3 17 rfl rfl)
theorem dX0_member_84 : decode cX0_member 84 = .ok (.ireturn, 1) := dk_172 (dk_at dksX0_member_3 20 rfl rfl)
theorem dX0_member_85 : decode cX0_member 85 = .ok (.aload_n 3, 1) := dk_45 (dk_at dksX0_member_3 21 rfl rfl)
theorem dX0_member_86 : decode cX0_member 86 = .ok (.getfield 187, 3) := dk_180 0 187 (dk_at dksX0_member_4 0 rfl rfl)
theorem dX0_member_89 : decode cX0_member 89 = .ok (.ireturn, 1) := dk_172 (dk_at dksX0_member_4 3 rfl rfl)
theorem dX0_member_90 : decode cX0_member 90 = .ok (.bipush (-2), 2) := dk_16 254 (dk_at dksX0_member_4 4 rfl rfl)
theorem dX0_member_92 : decode cX0_member 92 = .ok (.ireturn, 1) := dk_172 (dk_at dksX0_member_4 6 rfl rfl)
abbrev cX0_allowedTo : ByteArray := prog_1_method_15_code
def yX0_allowedTo : MethodName := ⟨RX0, "allowedTo", "(LLayeredCharters$Member;)I"⟩
def dkwX0_allowedTo_2 : List UInt8 := [167, 255, 215, 28, 172]
abbrev dktX0_allowedTo_2 : List UInt8 := dkwX0_allowedTo_2 ++ []
def dkwX0_allowedTo_1 : List UInt8 := [180, 0, 178, 29, 182, 0, 179, 161, 0, 9, 4, 29, 120, 167, 0, 4, 3, 128, 61, 132, 3, 1]
abbrev dktX0_allowedTo_1 : List UInt8 := dkwX0_allowedTo_1 ++ dktX0_allowedTo_2
def dkwX0_allowedTo_0 : List UInt8 := [3, 61, 3, 62, 29, 16, 6, 162, 0, 41, 28, 43, 180, 0, 158, 42, 180, 0, 10, 180, 0, 65, 43]
abbrev dktX0_allowedTo_0 : List UInt8 := dkwX0_allowedTo_0 ++ dktX0_allowedTo_1
theorem dksX0_allowedTo_0 : cX0_allowedTo.data.toList.drop 0 = dktX0_allowedTo_0 := by decide +kernel
theorem dksX0_allowedTo_1 : cX0_allowedTo.data.toList.drop 23 = dktX0_allowedTo_1 := dk_seg dksX0_allowedTo_0 23 rfl rfl
theorem dksX0_allowedTo_2 : cX0_allowedTo.data.toList.drop 45 = dktX0_allowedTo_2 := dk_seg dksX0_allowedTo_1 22 rfl rfl
theorem dX0_allowedTo_0 : decode cX0_allowedTo 0 = .ok (.iconst 0, 1) := dk_3 (dk_at dksX0_allowedTo_0 0 rfl rfl)
theorem dX0_allowedTo_1 : decode cX0_allowedTo 1 = .ok (.istore_n 2, 1) := dk_61 (dk_at dksX0_allowedTo_0 1 rfl rfl)
theorem dX0_allowedTo_2 : decode cX0_allowedTo 2 = .ok (.iconst 0, 1) := dk_3 (dk_at dksX0_allowedTo_0 2 rfl rfl)
theorem dX0_allowedTo_3 : decode cX0_allowedTo 3 = .ok (.istore_n 3, 1) := dk_62 (dk_at dksX0_allowedTo_0 3 rfl rfl)
theorem dX0_allowedTo_4 : decode cX0_allowedTo 4 = .ok (.iload_n 3, 1) := dk_29 (dk_at dksX0_allowedTo_0 4 rfl rfl)
theorem dX0_allowedTo_5 : decode cX0_allowedTo 5 = .ok (.bipush 6, 2) := dk_16 6 (dk_at dksX0_allowedTo_0 5 rfl rfl)
theorem dX0_allowedTo_7 : decode cX0_allowedTo 7 = .ok (.if_icmp .ge 41, 3) := dk_162 0 41 (dk_at dksX0_allowedTo_0 7 rfl rfl)
theorem dX0_allowedTo_10 : decode cX0_allowedTo 10 = .ok (.iload_n 2, 1) := dk_28 (dk_at dksX0_allowedTo_0 10 rfl rfl)
theorem dX0_allowedTo_11 : decode cX0_allowedTo 11 = .ok (.aload_n 1, 1) := dk_43 (dk_at dksX0_allowedTo_0 11 rfl rfl)
theorem dX0_allowedTo_12 : decode cX0_allowedTo 12 = .ok (.getfield 158, 3) := dk_180 0 158 (dk_at dksX0_allowedTo_0 12 rfl rfl)
theorem dX0_allowedTo_15 : decode cX0_allowedTo 15 = .ok (.aload_n 0, 1) := dk_42 (dk_at dksX0_allowedTo_0 15 rfl rfl)
theorem dX0_allowedTo_16 : decode cX0_allowedTo 16 = .ok (.getfield 10, 3) := dk_180 0 10 (dk_at dksX0_allowedTo_0 16 rfl rfl)
theorem dX0_allowedTo_19 : decode cX0_allowedTo 19 = .ok (.getfield 65, 3) := dk_180 0 65 (dk_at dksX0_allowedTo_0 19 rfl rfl)
theorem dX0_allowedTo_22 : decode cX0_allowedTo 22 = .ok (.aload_n 1, 1) := dk_43 (dk_at dksX0_allowedTo_0 22 rfl rfl)
theorem dX0_allowedTo_23 : decode cX0_allowedTo 23 = .ok (.getfield 178, 3) := dk_180 0 178 (dk_at dksX0_allowedTo_1 0 rfl rfl)
theorem dX0_allowedTo_26 : decode cX0_allowedTo 26 = .ok (.iload_n 3, 1) := dk_29 (dk_at dksX0_allowedTo_1 3 rfl rfl)
theorem dX0_allowedTo_27 : decode cX0_allowedTo 27 = .ok (.invokevirtual 179, 3) := dk_182 0 179 (dk_at dksX0_allowedTo_1 4 rfl rfl)
theorem dX0_allowedTo_30 : decode cX0_allowedTo 30 = .ok (.if_icmp .lt 9, 3) := dk_161 0 9 (dk_at dksX0_allowedTo_1 7 rfl rfl)
theorem dX0_allowedTo_33 : decode cX0_allowedTo 33 = .ok (.iconst 1, 1) := dk_4 (dk_at dksX0_allowedTo_1 10 rfl rfl)
theorem dX0_allowedTo_34 : decode cX0_allowedTo 34 = .ok (.iload_n 3, 1) := dk_29 (dk_at dksX0_allowedTo_1 11 rfl rfl)
theorem dX0_allowedTo_35 : decode cX0_allowedTo 35 = .ok (.ishl, 1) := dk_120 (dk_at dksX0_allowedTo_1 12 rfl rfl)
theorem dX0_allowedTo_36 : decode cX0_allowedTo 36 = .ok (.goto 4, 3) := dk_167 0 4 (dk_at dksX0_allowedTo_1 13 rfl rfl)
theorem dX0_allowedTo_39 : decode cX0_allowedTo 39 = .ok (.iconst 0, 1) := dk_3 (dk_at dksX0_allowedTo_1 16 rfl rfl)
theorem dX0_allowedTo_40 : decode cX0_allowedTo 40 = .ok (.ior, 1) := dk_128 (dk_at dksX0_allowedTo_1 17 rfl rfl)
theorem dX0_allowedTo_41 : decode cX0_allowedTo 41 = .ok (.istore_n 2, 1) := dk_61 (dk_at dksX0_allowedTo_1 18 rfl rfl)
theorem dX0_allowedTo_42 : decode cX0_allowedTo 42 = .ok (.iinc 3 1, 3) := dk_132 3 1 (dk_at dksX0_allowedTo_1 19 rfl rfl)
theorem dX0_allowedTo_45 : decode cX0_allowedTo 45 = .ok (.goto (-41), 3) := dk_167 255 215 (dk_at dksX0_allowedTo_2 0 rfl rfl)
theorem dX0_allowedTo_48 : decode cX0_allowedTo 48 = .ok (.iload_n 2, 1) := dk_28 (dk_at dksX0_allowedTo_2 3 rfl rfl)
theorem dX0_allowedTo_49 : decode cX0_allowedTo 49 = .ok (.ireturn, 1) := dk_172 (dk_at dksX0_allowedTo_2 4 rfl rfl)
abbrev cX0_allowed : ByteArray := prog_1_method_17_code
def yX0_allowed : MethodName := ⟨RX0, "allowed", "(IIII)I"⟩
def dkwX0_allowed_3 : List UInt8 := [156, 0, 7, 4, 167, 0, 4, 3, 54, 6, 21, 6, 153, 0, 7, 4, 167, 0, 4, 3, 172]
abbrev dktX0_allowed_3 : List UInt8 := dkwX0_allowed_3 ++ []
def dkwX0_allowed_2 : List UInt8 := [154, 0, 14, 25, 5, 27, 28, 29, 182, 0, 190, 167, 0, 19, 25, 5, 27, 28, 29, 182, 0, 193]
abbrev dktX0_allowed_2 : List UInt8 := dkwX0_allowed_2 ++ dktX0_allowed_3
def dkwX0_allowed_1 : List UInt8 := [21, 4, 3, 4, 184, 0, 58, 154, 0, 6, 16, 254, 172, 42, 180, 0, 10, 180, 0, 65, 58, 5, 21, 4]
abbrev dktX0_allowed_1 : List UInt8 := dkwX0_allowed_1 ++ dktX0_allowed_2
def dkwX0_allowed_0 : List UInt8 := [27, 184, 0, 138, 153, 0, 10, 28, 184, 0, 161, 154, 0, 5, 2, 172, 29, 184, 0, 141, 153, 0, 13]
abbrev dktX0_allowed_0 : List UInt8 := dkwX0_allowed_0 ++ dktX0_allowed_1
theorem dksX0_allowed_0 : cX0_allowed.data.toList.drop 0 = dktX0_allowed_0 := by decide +kernel
theorem dksX0_allowed_1 : cX0_allowed.data.toList.drop 23 = dktX0_allowed_1 := dk_seg dksX0_allowed_0 23 rfl rfl
theorem dksX0_allowed_2 : cX0_allowed.data.toList.drop 47 = dktX0_allowed_2 := dk_seg dksX0_allowed_1 24 rfl rfl
theorem dksX0_allowed_3 : cX0_allowed.data.toList.drop 69 = dktX0_allowed_3 := dk_seg dksX0_allowed_2 22 rfl rfl
theorem dX0_allowed_0 : decode cX0_allowed 0 = .ok (.iload_n 1, 1) := dk_27 (dk_at dksX0_allowed_0 0 rfl rfl)
theorem dX0_allowed_1 : decode cX0_allowed 1 = .ok (.invokestatic 138, 3) := dk_184 0 138 (dk_at dksX0_allowed_0 1 rfl rfl)
theorem dX0_allowed_4 : decode cX0_allowed 4 = .ok (.ifCond .eq 10, 3) := dk_153 0 10 (dk_at dksX0_allowed_0 4 rfl rfl)
theorem dX0_allowed_7 : decode cX0_allowed 7 = .ok (.iload_n 2, 1) := dk_28 (dk_at dksX0_allowed_0 7 rfl rfl)
theorem dX0_allowed_8 : decode cX0_allowed 8 = .ok (.invokestatic 161, 3) := dk_184 0 161 (dk_at dksX0_allowed_0 8 rfl rfl)
theorem dX0_allowed_11 : decode cX0_allowed 11 = .ok (.ifCond .ne 5, 3) := dk_154 0 5 (dk_at dksX0_allowed_0 11 rfl rfl)
theorem dX0_allowed_14 : decode cX0_allowed 14 = .ok (.iconst (-1), 1) := dk_2 (dk_at dksX0_allowed_0 14 rfl rfl)
theorem dX0_allowed_15 : decode cX0_allowed 15 = .ok (.ireturn, 1) := dk_172 (dk_at dksX0_allowed_0 15 rfl rfl)
theorem dX0_allowed_16 : decode cX0_allowed 16 = .ok (.iload_n 3, 1) := dk_29 (dk_at dksX0_allowed_0 16 rfl rfl)
theorem dX0_allowed_17 : decode cX0_allowed 17 = .ok (.invokestatic 141, 3) := dk_184 0 141 (dk_at dksX0_allowed_0 17 rfl rfl)
theorem dX0_allowed_20 : decode cX0_allowed 20 = .ok (.ifCond .eq 13, 3) := dk_153 0 13 (dk_at dksX0_allowed_0 20 rfl rfl)
theorem dX0_allowed_23 : decode cX0_allowed 23 = .ok (.iload 4, 2) := dk_21 4 (dk_at dksX0_allowed_1 0 rfl rfl)
theorem dX0_allowed_25 : decode cX0_allowed 25 = .ok (.iconst 0, 1) := dk_3 (dk_at dksX0_allowed_1 2 rfl rfl)
theorem dX0_allowed_26 : decode cX0_allowed 26 = .ok (.iconst 1, 1) := dk_4 (dk_at dksX0_allowed_1 3 rfl rfl)
theorem dX0_allowed_27 : decode cX0_allowed 27 = .ok (.invokestatic 58, 3) := dk_184 0 58 (dk_at dksX0_allowed_1 4 rfl rfl)
theorem dX0_allowed_30 : decode cX0_allowed 30 = .ok (.ifCond .ne 6, 3) := dk_154 0 6 (dk_at dksX0_allowed_1 7 rfl rfl)
theorem dX0_allowed_33 : decode cX0_allowed 33 = .ok (.bipush (-2), 2) := dk_16 254 (dk_at dksX0_allowed_1 10 rfl rfl)
theorem dX0_allowed_35 : decode cX0_allowed 35 = .ok (.ireturn, 1) := dk_172 (dk_at dksX0_allowed_1 12 rfl rfl)
theorem dX0_allowed_36 : decode cX0_allowed 36 = .ok (.aload_n 0, 1) := dk_42 (dk_at dksX0_allowed_1 13 rfl rfl)
theorem dX0_allowed_37 : decode cX0_allowed 37 = .ok (.getfield 10, 3) := dk_180 0 10 (dk_at dksX0_allowed_1 14 rfl rfl)
theorem dX0_allowed_40 : decode cX0_allowed 40 = .ok (.getfield 65, 3) := dk_180 0 65 (dk_at dksX0_allowed_1 17 rfl rfl)
theorem dX0_allowed_43 : decode cX0_allowed 43 = .ok (.astore 5, 2) := dk_58 5 (dk_at dksX0_allowed_1 20 rfl rfl)
theorem dX0_allowed_45 : decode cX0_allowed 45 = .ok (.iload 4, 2) := dk_21 4 (dk_at dksX0_allowed_1 22 rfl rfl)
theorem dX0_allowed_47 : decode cX0_allowed 47 = .ok (.ifCond .ne 14, 3) := dk_154 0 14 (dk_at dksX0_allowed_2 0 rfl rfl)
theorem dX0_allowed_50 : decode cX0_allowed 50 = .ok (.aload 5, 2) := dk_25 5 (dk_at dksX0_allowed_2 3 rfl rfl)
theorem dX0_allowed_52 : decode cX0_allowed 52 = .ok (.iload_n 1, 1) := dk_27 (dk_at dksX0_allowed_2 5 rfl rfl)
theorem dX0_allowed_53 : decode cX0_allowed 53 = .ok (.iload_n 2, 1) := dk_28 (dk_at dksX0_allowed_2 6 rfl rfl)
theorem dX0_allowed_54 : decode cX0_allowed 54 = .ok (.iload_n 3, 1) := dk_29 (dk_at dksX0_allowed_2 7 rfl rfl)
theorem dX0_allowed_55 : decode cX0_allowed 55 = .ok (.invokevirtual 190, 3) := dk_182 0 190 (dk_at dksX0_allowed_2 8 rfl rfl)
theorem dX0_allowed_58 : decode cX0_allowed 58 = .ok (.goto 19, 3) := dk_167 0 19 (dk_at dksX0_allowed_2 11 rfl rfl)
theorem dX0_allowed_61 : decode cX0_allowed 61 = .ok (.aload 5, 2) := dk_25 5 (dk_at dksX0_allowed_2 14 rfl rfl)
theorem dX0_allowed_63 : decode cX0_allowed 63 = .ok (.iload_n 1, 1) := dk_27 (dk_at dksX0_allowed_2 16 rfl rfl)
theorem dX0_allowed_64 : decode cX0_allowed 64 = .ok (.iload_n 2, 1) := dk_28 (dk_at dksX0_allowed_2 17 rfl rfl)
theorem dX0_allowed_65 : decode cX0_allowed 65 = .ok (.iload_n 3, 1) := dk_29 (dk_at dksX0_allowed_2 18 rfl rfl)
theorem dX0_allowed_66 : decode cX0_allowed 66 = .ok (.invokevirtual 193, 3) := dk_182 0 193 (dk_at dksX0_allowed_2 19 rfl rfl)
theorem dX0_allowed_69 : decode cX0_allowed 69 = .ok (.ifCond .ge 7, 3) := dk_156 0 7 (dk_at dksX0_allowed_3 0 rfl rfl)
theorem dX0_allowed_72 : decode cX0_allowed 72 = .ok (.iconst 1, 1) := dk_4 (dk_at dksX0_allowed_3 3 rfl rfl)
theorem dX0_allowed_73 : decode cX0_allowed 73 = .ok (.goto 4, 3) := dk_167 0 4 (dk_at dksX0_allowed_3 4 rfl rfl)
theorem dX0_allowed_76 : decode cX0_allowed 76 = .ok (.iconst 0, 1) := dk_3 (dk_at dksX0_allowed_3 7 rfl rfl)
theorem dX0_allowed_77 : decode cX0_allowed 77 = .ok (.istore 6, 2) := dk_54 6 (dk_at dksX0_allowed_3 8 rfl rfl)
theorem dX0_allowed_79 : decode cX0_allowed 79 = .ok (.iload 6, 2) := dk_21 6 (dk_at dksX0_allowed_3 10 rfl rfl)
theorem dX0_allowed_81 : decode cX0_allowed 81 = .ok (.ifCond .eq 7, 3) := dk_153 0 7 (dk_at dksX0_allowed_3 12 rfl rfl)
theorem dX0_allowed_84 : decode cX0_allowed 84 = .ok (.iconst 1, 1) := dk_4 (dk_at dksX0_allowed_3 15 rfl rfl)
theorem dX0_allowed_85 : decode cX0_allowed 85 = .ok (.goto 4, 3) := dk_167 0 4 (dk_at dksX0_allowed_3 16 rfl rfl)
theorem dX0_allowed_88 : decode cX0_allowed 88 = .ok (.iconst 0, 1) := dk_3 (dk_at dksX0_allowed_3 19 rfl rfl)
theorem dX0_allowed_89 : decode cX0_allowed 89 = .ok (.ireturn, 1) := dk_172 (dk_at dksX0_allowed_3 20 rfl rfl)
abbrev cX0_why : ByteArray := prog_1_method_18_code
def yX0_why : MethodName := ⟨RX0, "why", "(III)I"⟩
def dkwX0_why_1 : List UInt8 := [180, 0, 10, 180, 0, 65, 27, 28, 29, 182, 0, 193, 167, 0, 5, 16, 254, 172]
abbrev dktX0_why_1 : List UInt8 := dkwX0_why_1 ++ []
def dkwX0_why_0 : List UInt8 := [27, 184, 0, 138, 153, 0, 10, 28, 184, 0, 161, 154, 0, 5, 2, 172, 29, 184, 0, 141, 153, 0, 19, 42]
abbrev dktX0_why_0 : List UInt8 := dkwX0_why_0 ++ dktX0_why_1
theorem dksX0_why_0 : cX0_why.data.toList.drop 0 = dktX0_why_0 := by decide +kernel
theorem dksX0_why_1 : cX0_why.data.toList.drop 24 = dktX0_why_1 := dk_seg dksX0_why_0 24 rfl rfl
theorem dX0_why_0 : decode cX0_why 0 = .ok (.iload_n 1, 1) := dk_27 (dk_at dksX0_why_0 0 rfl rfl)
theorem dX0_why_1 : decode cX0_why 1 = .ok (.invokestatic 138, 3) := dk_184 0 138 (dk_at dksX0_why_0 1 rfl rfl)
theorem dX0_why_4 : decode cX0_why 4 = .ok (.ifCond .eq 10, 3) := dk_153 0 10 (dk_at dksX0_why_0 4 rfl rfl)
theorem dX0_why_7 : decode cX0_why 7 = .ok (.iload_n 2, 1) := dk_28 (dk_at dksX0_why_0 7 rfl rfl)
theorem dX0_why_8 : decode cX0_why 8 = .ok (.invokestatic 161, 3) := dk_184 0 161 (dk_at dksX0_why_0 8 rfl rfl)
theorem dX0_why_11 : decode cX0_why 11 = .ok (.ifCond .ne 5, 3) := dk_154 0 5 (dk_at dksX0_why_0 11 rfl rfl)
theorem dX0_why_14 : decode cX0_why 14 = .ok (.iconst (-1), 1) := dk_2 (dk_at dksX0_why_0 14 rfl rfl)
theorem dX0_why_15 : decode cX0_why 15 = .ok (.ireturn, 1) := dk_172 (dk_at dksX0_why_0 15 rfl rfl)
theorem dX0_why_16 : decode cX0_why 16 = .ok (.iload_n 3, 1) := dk_29 (dk_at dksX0_why_0 16 rfl rfl)
theorem dX0_why_17 : decode cX0_why 17 = .ok (.invokestatic 141, 3) := dk_184 0 141 (dk_at dksX0_why_0 17 rfl rfl)
theorem dX0_why_20 : decode cX0_why 20 = .ok (.ifCond .eq 19, 3) := dk_153 0 19 (dk_at dksX0_why_0 20 rfl rfl)
theorem dX0_why_23 : decode cX0_why 23 = .ok (.aload_n 0, 1) := dk_42 (dk_at dksX0_why_0 23 rfl rfl)
theorem dX0_why_24 : decode cX0_why 24 = .ok (.getfield 10, 3) := dk_180 0 10 (dk_at dksX0_why_1 0 rfl rfl)
theorem dX0_why_27 : decode cX0_why 27 = .ok (.getfield 65, 3) := dk_180 0 65 (dk_at dksX0_why_1 3 rfl rfl)
theorem dX0_why_30 : decode cX0_why 30 = .ok (.iload_n 1, 1) := dk_27 (dk_at dksX0_why_1 6 rfl rfl)
theorem dX0_why_31 : decode cX0_why 31 = .ok (.iload_n 2, 1) := dk_28 (dk_at dksX0_why_1 7 rfl rfl)
theorem dX0_why_32 : decode cX0_why 32 = .ok (.iload_n 3, 1) := dk_29 (dk_at dksX0_why_1 8 rfl rfl)
theorem dX0_why_33 : decode cX0_why 33 = .ok (.invokevirtual 193, 3) := dk_182 0 193 (dk_at dksX0_why_1 9 rfl rfl)
theorem dX0_why_36 : decode cX0_why 36 = .ok (.goto 5, 3) := dk_167 0 5 (dk_at dksX0_why_1 12 rfl rfl)
theorem dX0_why_39 : decode cX0_why 39 = .ok (.bipush (-2), 2) := dk_16 254 (dk_at dksX0_why_1 15 rfl rfl)
theorem dX0_why_41 : decode cX0_why 41 = .ok (.ireturn, 1) := dk_172 (dk_at dksX0_why_1 17 rfl rfl)
abbrev cX0_count : ByteArray := prog_1_method_20_code
def yX0_count : MethodName := ⟨RX0, "count", "(I)I"⟩
def dkwX0_count_7 : List UInt8 := [180, 0, 19, 185, 0, 44, 1, 0, 172, 16, 254, 172]
abbrev dktX0_count_7 : List UInt8 := dkwX0_count_7 ++ []
def dkwX0_count_6 : List UInt8 := [180, 0, 10, 180, 0, 218, 172, 42, 180, 0, 10, 180, 0, 219, 172, 42, 180, 0, 30, 182, 0, 222, 172, 42]
abbrev dktX0_count_6 : List UInt8 := dkwX0_count_6 ++ dktX0_count_7
def dkwX0_count_5 : List UInt8 := [182, 0, 212, 172, 44, 182, 0, 215, 172, 42, 180, 0, 10, 180, 0, 144, 185, 0, 44, 1, 0, 172, 42]
abbrev dktX0_count_5 : List UInt8 := dkwX0_count_5 ++ dktX0_count_6
def dkwX0_count_4 : List UInt8 := [44, 180, 0, 69, 185, 0, 44, 1, 0, 172, 44, 44, 186, 0, 209, 0, 0, 182, 0, 201, 172, 42]
abbrev dktX0_count_4 : List UInt8 := dkwX0_count_4 ++ dktX0_count_5
def dkwX0_count_3 : List UInt8 := [170, 0, 0, 0, 0, 160, 0, 0, 0, 0, 0, 0, 0, 16, 0, 0, 0, 82, 0, 0, 0, 160, 0, 0, 0, 160, 0, 0, 0, 160, 0, 0, 0, 92, 0, 0, 0, 103, 0, 0, 0, 108, 0, 0, 0, 113, 0, 0, 0, 126, 0, 0, 0, 160, 0, 0, 0, 160, 0, 0, 0, 160, 0, 0, 0, 160, 0, 0, 0, 160, 0, 0, 0, 134, 0, 0, 0, 142, 0, 0, 0, 150]
abbrev dktX0_count_3 : List UInt8 := dkwX0_count_3 ++ dktX0_count_4
def dkwX0_count_2 : List UInt8 := [180, 0, 205, 27, 16, 9, 100, 46, 172, 27]
abbrev dktX0_count_2 : List UInt8 := dkwX0_count_2 ++ dktX0_count_3
def dkwX0_count_1 : List UInt8 := [186, 0, 197, 0, 0, 182, 0, 201, 172, 27, 16, 9, 16, 13, 184, 0, 58, 153, 0, 16, 42, 180, 0, 10]
abbrev dktX0_count_1 : List UInt8 := dkwX0_count_1 ++ dktX0_count_2
def dkwX0_count_0 : List UInt8 := [42, 180, 0, 10, 180, 0, 65, 77, 27, 4, 6, 184, 0, 58, 153, 0, 15, 44, 44, 27]
abbrev dktX0_count_0 : List UInt8 := dkwX0_count_0 ++ dktX0_count_1
theorem dksX0_count_0 : cX0_count.data.toList.drop 0 = dktX0_count_0 := by decide +kernel
theorem dksX0_count_1 : cX0_count.data.toList.drop 20 = dktX0_count_1 := dk_seg dksX0_count_0 20 rfl rfl
theorem dksX0_count_2 : cX0_count.data.toList.drop 44 = dktX0_count_2 := dk_seg dksX0_count_1 24 rfl rfl
theorem dksX0_count_3 : cX0_count.data.toList.drop 54 = dktX0_count_3 := dk_seg dksX0_count_2 10 rfl rfl
theorem dksX0_count_4 : cX0_count.data.toList.drop 136 = dktX0_count_4 := dk_seg dksX0_count_3 82 rfl rfl
theorem dksX0_count_5 : cX0_count.data.toList.drop 158 = dktX0_count_5 := dk_seg dksX0_count_4 22 rfl rfl
theorem dksX0_count_6 : cX0_count.data.toList.drop 181 = dktX0_count_6 := dk_seg dksX0_count_5 23 rfl rfl
theorem dksX0_count_7 : cX0_count.data.toList.drop 205 = dktX0_count_7 := dk_seg dksX0_count_6 24 rfl rfl
theorem dX0_count_0 : decode cX0_count 0 = .ok (.aload_n 0, 1) := dk_42 (dk_at dksX0_count_0 0 rfl rfl)
theorem dX0_count_1 : decode cX0_count 1 = .ok (.getfield 10, 3) := dk_180 0 10 (dk_at dksX0_count_0 1 rfl rfl)
theorem dX0_count_4 : decode cX0_count 4 = .ok (.getfield 65, 3) := dk_180 0 65 (dk_at dksX0_count_0 4 rfl rfl)
theorem dX0_count_7 : decode cX0_count 7 = .ok (.astore_n 2, 1) := dk_77 (dk_at dksX0_count_0 7 rfl rfl)
theorem dX0_count_8 : decode cX0_count 8 = .ok (.iload_n 1, 1) := dk_27 (dk_at dksX0_count_0 8 rfl rfl)
theorem dX0_count_9 : decode cX0_count 9 = .ok (.iconst 1, 1) := dk_4 (dk_at dksX0_count_0 9 rfl rfl)
theorem dX0_count_10 : decode cX0_count 10 = .ok (.iconst 3, 1) := dk_6 (dk_at dksX0_count_0 10 rfl rfl)
theorem dX0_count_11 : decode cX0_count 11 = .ok (.invokestatic 58, 3) := dk_184 0 58 (dk_at dksX0_count_0 11 rfl rfl)
theorem dX0_count_14 : decode cX0_count 14 = .ok (.ifCond .eq 15, 3) := dk_153 0 15 (dk_at dksX0_count_0 14 rfl rfl)
theorem dX0_count_17 : decode cX0_count 17 = .ok (.aload_n 2, 1) := dk_44 (dk_at dksX0_count_0 17 rfl rfl)
theorem dX0_count_18 : decode cX0_count 18 = .ok (.aload_n 2, 1) := dk_44 (dk_at dksX0_count_0 18 rfl rfl)
theorem dX0_count_19 : decode cX0_count 19 = .ok (.iload_n 1, 1) := dk_27 (dk_at dksX0_count_0 19 rfl rfl)
theorem dX0_count_20 : decode cX0_count 20 = .ok (.invokedynamic 197, 5) := by decide +kernel
theorem dX0_count_25 : decode cX0_count 25 = .ok (.invokevirtual 201, 3) := dk_182 0 201 (dk_at dksX0_count_1 5 rfl rfl)
theorem dX0_count_28 : decode cX0_count 28 = .ok (.ireturn, 1) := dk_172 (dk_at dksX0_count_1 8 rfl rfl)
theorem dX0_count_29 : decode cX0_count 29 = .ok (.iload_n 1, 1) := dk_27 (dk_at dksX0_count_1 9 rfl rfl)
theorem dX0_count_30 : decode cX0_count 30 = .ok (.bipush 9, 2) := dk_16 9 (dk_at dksX0_count_1 10 rfl rfl)
theorem dX0_count_32 : decode cX0_count 32 = .ok (.bipush 13, 2) := dk_16 13 (dk_at dksX0_count_1 12 rfl rfl)
theorem dX0_count_34 : decode cX0_count 34 = .ok (.invokestatic 58, 3) := dk_184 0 58 (dk_at dksX0_count_1 14 rfl rfl)
theorem dX0_count_37 : decode cX0_count 37 = .ok (.ifCond .eq 16, 3) := dk_153 0 16 (dk_at dksX0_count_1 17 rfl rfl)
theorem dX0_count_40 : decode cX0_count 40 = .ok (.aload_n 0, 1) := dk_42 (dk_at dksX0_count_1 20 rfl rfl)
theorem dX0_count_41 : decode cX0_count 41 = .ok (.getfield 10, 3) := dk_180 0 10 (dk_at dksX0_count_1 21 rfl rfl)
theorem dX0_count_44 : decode cX0_count 44 = .ok (.getfield 205, 3) := dk_180 0 205 (dk_at dksX0_count_2 0 rfl rfl)
theorem dX0_count_47 : decode cX0_count 47 = .ok (.iload_n 1, 1) := dk_27 (dk_at dksX0_count_2 3 rfl rfl)
theorem dX0_count_48 : decode cX0_count 48 = .ok (.bipush 9, 2) := dk_16 9 (dk_at dksX0_count_2 4 rfl rfl)
theorem dX0_count_50 : decode cX0_count 50 = .ok (.isub, 1) := dk_100 (dk_at dksX0_count_2 6 rfl rfl)
theorem dX0_count_51 : decode cX0_count 51 = .ok (.iaload, 1) := dk_46 (dk_at dksX0_count_2 7 rfl rfl)
theorem dX0_count_52 : decode cX0_count 52 = .ok (.ireturn, 1) := dk_172 (dk_at dksX0_count_2 8 rfl rfl)
theorem dX0_count_53 : decode cX0_count 53 = .ok (.iload_n 1, 1) := dk_27 (dk_at dksX0_count_2 9 rfl rfl)
theorem dX0_count_54 : decode cX0_count 54 = .ok (.tableswitch 160 0 16 #[82, 160, 160, 160, 92, 103, 108, 113, 126, 160, 160, 160, 160, 160, 134, 142, 150], 82) := by decide +kernel
theorem dX0_count_136 : decode cX0_count 136 = .ok (.aload_n 2, 1) := dk_44 (dk_at dksX0_count_4 0 rfl rfl)
theorem dX0_count_137 : decode cX0_count 137 = .ok (.getfield 69, 3) := dk_180 0 69 (dk_at dksX0_count_4 1 rfl rfl)
theorem dX0_count_140 : decode cX0_count 140 = .ok (.invokeinterface 44 1, 5) := by decide +kernel
theorem dX0_count_145 : decode cX0_count 145 = .ok (.ireturn, 1) := dk_172 (dk_at dksX0_count_4 9 rfl rfl)
theorem dX0_count_146 : decode cX0_count 146 = .ok (.aload_n 2, 1) := dk_44 (dk_at dksX0_count_4 10 rfl rfl)
theorem dX0_count_147 : decode cX0_count 147 = .ok (.aload_n 2, 1) := dk_44 (dk_at dksX0_count_4 11 rfl rfl)
theorem dX0_count_148 : decode cX0_count 148 = .ok (.invokedynamic 209, 5) := by decide +kernel
theorem dX0_count_153 : decode cX0_count 153 = .ok (.invokevirtual 201, 3) := dk_182 0 201 (dk_at dksX0_count_4 17 rfl rfl)
theorem dX0_count_156 : decode cX0_count 156 = .ok (.ireturn, 1) := dk_172 (dk_at dksX0_count_4 20 rfl rfl)
theorem dX0_count_157 : decode cX0_count 157 = .ok (.aload_n 0, 1) := dk_42 (dk_at dksX0_count_4 21 rfl rfl)
theorem dX0_count_158 : decode cX0_count 158 = .ok (.invokevirtual 212, 3) := dk_182 0 212 (dk_at dksX0_count_5 0 rfl rfl)
theorem dX0_count_161 : decode cX0_count 161 = .ok (.ireturn, 1) := dk_172 (dk_at dksX0_count_5 3 rfl rfl)
theorem dX0_count_162 : decode cX0_count 162 = .ok (.aload_n 2, 1) := dk_44 (dk_at dksX0_count_5 4 rfl rfl)
theorem dX0_count_163 : decode cX0_count 163 = .ok (.invokevirtual 215, 3) := dk_182 0 215 (dk_at dksX0_count_5 5 rfl rfl)
theorem dX0_count_166 : decode cX0_count 166 = .ok (.ireturn, 1) := dk_172 (dk_at dksX0_count_5 8 rfl rfl)
theorem dX0_count_167 : decode cX0_count 167 = .ok (.aload_n 0, 1) := dk_42 (dk_at dksX0_count_5 9 rfl rfl)
theorem dX0_count_168 : decode cX0_count 168 = .ok (.getfield 10, 3) := dk_180 0 10 (dk_at dksX0_count_5 10 rfl rfl)
theorem dX0_count_171 : decode cX0_count 171 = .ok (.getfield 144, 3) := dk_180 0 144 (dk_at dksX0_count_5 13 rfl rfl)
theorem dX0_count_174 : decode cX0_count 174 = .ok (.invokeinterface 44 1, 5) := by decide +kernel
theorem dX0_count_179 : decode cX0_count 179 = .ok (.ireturn, 1) := dk_172 (dk_at dksX0_count_5 21 rfl rfl)
theorem dX0_count_180 : decode cX0_count 180 = .ok (.aload_n 0, 1) := dk_42 (dk_at dksX0_count_5 22 rfl rfl)
theorem dX0_count_181 : decode cX0_count 181 = .ok (.getfield 10, 3) := dk_180 0 10 (dk_at dksX0_count_6 0 rfl rfl)
theorem dX0_count_184 : decode cX0_count 184 = .ok (.getfield 218, 3) := dk_180 0 218 (dk_at dksX0_count_6 3 rfl rfl)
theorem dX0_count_187 : decode cX0_count 187 = .ok (.ireturn, 1) := dk_172 (dk_at dksX0_count_6 6 rfl rfl)
theorem dX0_count_188 : decode cX0_count 188 = .ok (.aload_n 0, 1) := dk_42 (dk_at dksX0_count_6 7 rfl rfl)
theorem dX0_count_189 : decode cX0_count 189 = .ok (.getfield 10, 3) := dk_180 0 10 (dk_at dksX0_count_6 8 rfl rfl)
theorem dX0_count_192 : decode cX0_count 192 = .ok (.getfield 219, 3) := dk_180 0 219 (dk_at dksX0_count_6 11 rfl rfl)
theorem dX0_count_195 : decode cX0_count 195 = .ok (.ireturn, 1) := dk_172 (dk_at dksX0_count_6 14 rfl rfl)
theorem dX0_count_196 : decode cX0_count 196 = .ok (.aload_n 0, 1) := dk_42 (dk_at dksX0_count_6 15 rfl rfl)
theorem dX0_count_197 : decode cX0_count 197 = .ok (.getfield 30, 3) := dk_180 0 30 (dk_at dksX0_count_6 16 rfl rfl)
theorem dX0_count_200 : decode cX0_count 200 = .ok (.invokevirtual 222, 3) := dk_182 0 222 (dk_at dksX0_count_6 19 rfl rfl)
theorem dX0_count_203 : decode cX0_count 203 = .ok (.ireturn, 1) := dk_172 (dk_at dksX0_count_6 22 rfl rfl)
theorem dX0_count_204 : decode cX0_count 204 = .ok (.aload_n 0, 1) := dk_42 (dk_at dksX0_count_6 23 rfl rfl)
theorem dX0_count_205 : decode cX0_count 205 = .ok (.getfield 19, 3) := dk_180 0 19 (dk_at dksX0_count_7 0 rfl rfl)
theorem dX0_count_208 : decode cX0_count 208 = .ok (.invokeinterface 44 1, 5) := by decide +kernel
theorem dX0_count_213 : decode cX0_count 213 = .ok (.ireturn, 1) := dk_172 (dk_at dksX0_count_7 8 rfl rfl)
theorem dX0_count_214 : decode cX0_count 214 = .ok (.bipush (-2), 2) := dk_16 254 (dk_at dksX0_count_7 9 rfl rfl)
theorem dX0_count_216 : decode cX0_count 216 = .ok (.ireturn, 1) := dk_172 (dk_at dksX0_count_7 11 rfl rfl)
abbrev cX0_lambda_count_0 : ByteArray := prog_1_method_38_code
def yX0_lambda_count_0 : MethodName := ⟨RX0, "lambda$count$0", "(LLayeredCharters$Charter;II)Z"⟩
def dkwX0_lambda_count_0_1 : List UInt8 := [167, 0, 4, 3, 172]
abbrev dktX0_lambda_count_0_1 : List UInt8 := dkwX0_lambda_count_0_1 ++ []
def dkwX0_lambda_count_0_0 : List UInt8 := [42, 180, 0, 69, 28, 185, 0, 85, 2, 0, 192, 0, 77, 180, 0, 88, 27, 4, 100, 160, 0, 7, 4]
abbrev dktX0_lambda_count_0_0 : List UInt8 := dkwX0_lambda_count_0_0 ++ dktX0_lambda_count_0_1
theorem dksX0_lambda_count_0_0 : cX0_lambda_count_0.data.toList.drop 0 = dktX0_lambda_count_0_0 := by decide +kernel
theorem dksX0_lambda_count_0_1 : cX0_lambda_count_0.data.toList.drop 23 = dktX0_lambda_count_0_1 := dk_seg dksX0_lambda_count_0_0 23 rfl rfl
theorem dX0_lambda_count_0_0 : decode cX0_lambda_count_0 0 = .ok (.aload_n 0, 1) := dk_42 (dk_at dksX0_lambda_count_0_0 0 rfl rfl)
theorem dX0_lambda_count_0_1 : decode cX0_lambda_count_0 1 = .ok (.getfield 69, 3) := dk_180 0 69 (dk_at dksX0_lambda_count_0_0 1 rfl rfl)
theorem dX0_lambda_count_0_4 : decode cX0_lambda_count_0 4 = .ok (.iload_n 2, 1) := dk_28 (dk_at dksX0_lambda_count_0_0 4 rfl rfl)
theorem dX0_lambda_count_0_5 : decode cX0_lambda_count_0 5 = .ok (.invokeinterface 85 2, 5) := by decide +kernel
theorem dX0_lambda_count_0_10 : decode cX0_lambda_count_0 10 = .ok (.checkcast 77, 3) := dk_192 0 77 (dk_at dksX0_lambda_count_0_0 10 rfl rfl)
theorem dX0_lambda_count_0_13 : decode cX0_lambda_count_0 13 = .ok (.getfield 88, 3) := dk_180 0 88 (dk_at dksX0_lambda_count_0_0 13 rfl rfl)
theorem dX0_lambda_count_0_16 : decode cX0_lambda_count_0 16 = .ok (.iload_n 1, 1) := dk_27 (dk_at dksX0_lambda_count_0_0 16 rfl rfl)
theorem dX0_lambda_count_0_17 : decode cX0_lambda_count_0 17 = .ok (.iconst 1, 1) := dk_4 (dk_at dksX0_lambda_count_0_0 17 rfl rfl)
theorem dX0_lambda_count_0_18 : decode cX0_lambda_count_0 18 = .ok (.isub, 1) := dk_100 (dk_at dksX0_lambda_count_0_0 18 rfl rfl)
theorem dX0_lambda_count_0_19 : decode cX0_lambda_count_0 19 = .ok (.if_icmp .ne 7, 3) := dk_160 0 7 (dk_at dksX0_lambda_count_0_0 19 rfl rfl)
theorem dX0_lambda_count_0_22 : decode cX0_lambda_count_0 22 = .ok (.iconst 1, 1) := dk_4 (dk_at dksX0_lambda_count_0_0 22 rfl rfl)
theorem dX0_lambda_count_0_23 : decode cX0_lambda_count_0 23 = .ok (.goto 4, 3) := dk_167 0 4 (dk_at dksX0_lambda_count_0_1 0 rfl rfl)
theorem dX0_lambda_count_0_26 : decode cX0_lambda_count_0 26 = .ok (.iconst 0, 1) := dk_3 (dk_at dksX0_lambda_count_0_1 3 rfl rfl)
theorem dX0_lambda_count_0_27 : decode cX0_lambda_count_0 27 = .ok (.ireturn, 1) := dk_172 (dk_at dksX0_lambda_count_0_1 4 rfl rfl)
abbrev cX0_lambda_count_1 : ByteArray := prog_1_method_37_code
def yX0_lambda_count_1 : MethodName := ⟨RX0, "lambda$count$1", "(LLayeredCharters$Charter;I)Z"⟩
def dkwX0_lambda_count_1_0 : List UInt8 := [42, 27, 182, 0, 168, 172]
abbrev dktX0_lambda_count_1_0 : List UInt8 := dkwX0_lambda_count_1_0 ++ []
theorem dksX0_lambda_count_1_0 : cX0_lambda_count_1.data.toList.drop 0 = dktX0_lambda_count_1_0 := by decide +kernel
theorem dX0_lambda_count_1_0 : decode cX0_lambda_count_1 0 = .ok (.aload_n 0, 1) := dk_42 (dk_at dksX0_lambda_count_1_0 0 rfl rfl)
theorem dX0_lambda_count_1_1 : decode cX0_lambda_count_1 1 = .ok (.iload_n 1, 1) := dk_27 (dk_at dksX0_lambda_count_1_0 1 rfl rfl)
theorem dX0_lambda_count_1_2 : decode cX0_lambda_count_1 2 = .ok (.invokevirtual 168, 3) := dk_182 0 168 (dk_at dksX0_lambda_count_1_0 2 rfl rfl)
theorem dX0_lambda_count_1_5 : decode cX0_lambda_count_1 5 = .ok (.ireturn, 1) := dk_172 (dk_at dksX0_lambda_count_1_0 5 rfl rfl)
abbrev cX0_allOdds : ByteArray := prog_1_method_19_code
def yX0_allOdds : MethodName := ⟨RX0, "allOdds", "()I"⟩
def dkwX0_allOdds_1 : List UInt8 := [42, 180, 0, 10, 180, 0, 65, 28, 182, 0, 171, 96, 60, 132, 2, 1, 167, 255, 220, 27, 5, 108, 172]
abbrev dktX0_allOdds_1 : List UInt8 := dkwX0_allOdds_1 ++ []
def dkwX0_allOdds_0 : List UInt8 := [3, 60, 3, 61, 28, 42, 180, 0, 10, 180, 0, 65, 180, 0, 69, 185, 0, 44, 1, 0, 162, 0, 23, 27]
abbrev dktX0_allOdds_0 : List UInt8 := dkwX0_allOdds_0 ++ dktX0_allOdds_1
theorem dksX0_allOdds_0 : cX0_allOdds.data.toList.drop 0 = dktX0_allOdds_0 := by decide +kernel
theorem dksX0_allOdds_1 : cX0_allOdds.data.toList.drop 24 = dktX0_allOdds_1 := dk_seg dksX0_allOdds_0 24 rfl rfl
theorem dX0_allOdds_0 : decode cX0_allOdds 0 = .ok (.iconst 0, 1) := dk_3 (dk_at dksX0_allOdds_0 0 rfl rfl)
theorem dX0_allOdds_1 : decode cX0_allOdds 1 = .ok (.istore_n 1, 1) := dk_60 (dk_at dksX0_allOdds_0 1 rfl rfl)
theorem dX0_allOdds_2 : decode cX0_allOdds 2 = .ok (.iconst 0, 1) := dk_3 (dk_at dksX0_allOdds_0 2 rfl rfl)
theorem dX0_allOdds_3 : decode cX0_allOdds 3 = .ok (.istore_n 2, 1) := dk_61 (dk_at dksX0_allOdds_0 3 rfl rfl)
theorem dX0_allOdds_4 : decode cX0_allOdds 4 = .ok (.iload_n 2, 1) := dk_28 (dk_at dksX0_allOdds_0 4 rfl rfl)
theorem dX0_allOdds_5 : decode cX0_allOdds 5 = .ok (.aload_n 0, 1) := dk_42 (dk_at dksX0_allOdds_0 5 rfl rfl)
theorem dX0_allOdds_6 : decode cX0_allOdds 6 = .ok (.getfield 10, 3) := dk_180 0 10 (dk_at dksX0_allOdds_0 6 rfl rfl)
theorem dX0_allOdds_9 : decode cX0_allOdds 9 = .ok (.getfield 65, 3) := dk_180 0 65 (dk_at dksX0_allOdds_0 9 rfl rfl)
theorem dX0_allOdds_12 : decode cX0_allOdds 12 = .ok (.getfield 69, 3) := dk_180 0 69 (dk_at dksX0_allOdds_0 12 rfl rfl)
theorem dX0_allOdds_15 : decode cX0_allOdds 15 = .ok (.invokeinterface 44 1, 5) := by decide +kernel
theorem dX0_allOdds_20 : decode cX0_allOdds 20 = .ok (.if_icmp .ge 23, 3) := dk_162 0 23 (dk_at dksX0_allOdds_0 20 rfl rfl)
theorem dX0_allOdds_23 : decode cX0_allOdds 23 = .ok (.iload_n 1, 1) := dk_27 (dk_at dksX0_allOdds_0 23 rfl rfl)
theorem dX0_allOdds_24 : decode cX0_allOdds 24 = .ok (.aload_n 0, 1) := dk_42 (dk_at dksX0_allOdds_1 0 rfl rfl)
theorem dX0_allOdds_25 : decode cX0_allOdds 25 = .ok (.getfield 10, 3) := dk_180 0 10 (dk_at dksX0_allOdds_1 1 rfl rfl)
theorem dX0_allOdds_28 : decode cX0_allOdds 28 = .ok (.getfield 65, 3) := dk_180 0 65 (dk_at dksX0_allOdds_1 4 rfl rfl)
theorem dX0_allOdds_31 : decode cX0_allOdds 31 = .ok (.iload_n 2, 1) := dk_28 (dk_at dksX0_allOdds_1 7 rfl rfl)
theorem dX0_allOdds_32 : decode cX0_allOdds 32 = .ok (.invokevirtual 171, 3) := dk_182 0 171 (dk_at dksX0_allOdds_1 8 rfl rfl)
theorem dX0_allOdds_35 : decode cX0_allOdds 35 = .ok (.iadd, 1) := dk_96 (dk_at dksX0_allOdds_1 11 rfl rfl)
theorem dX0_allOdds_36 : decode cX0_allOdds 36 = .ok (.istore_n 1, 1) := dk_60 (dk_at dksX0_allOdds_1 12 rfl rfl)
theorem dX0_allOdds_37 : decode cX0_allOdds 37 = .ok (.iinc 2 1, 3) := dk_132 2 1 (dk_at dksX0_allOdds_1 13 rfl rfl)
theorem dX0_allOdds_40 : decode cX0_allOdds 40 = .ok (.goto (-36), 3) := dk_167 255 220 (dk_at dksX0_allOdds_1 16 rfl rfl)
theorem dX0_allOdds_43 : decode cX0_allOdds 43 = .ok (.iload_n 1, 1) := dk_27 (dk_at dksX0_allOdds_1 19 rfl rfl)
theorem dX0_allOdds_44 : decode cX0_allOdds 44 = .ok (.iconst 2, 1) := dk_5 (dk_at dksX0_allOdds_1 20 rfl rfl)
theorem dX0_allOdds_45 : decode cX0_allOdds 45 = .ok (.idiv, 1) := dk_108 (dk_at dksX0_allOdds_1 21 rfl rfl)
theorem dX0_allOdds_46 : decode cX0_allOdds 46 = .ok (.ireturn, 1) := dk_172 (dk_at dksX0_allOdds_1 22 rfl rfl)
abbrev cX0_leastRank : ByteArray := prog_1_method_21_code
def yX0_leastRank : MethodName := ⟨RX0, "leastRank", "(II)I"⟩
def dkwX0_leastRank_1 : List UInt8 := [28, 182, 0, 179, 62, 29, 16, 10, 162, 0, 7, 29, 167, 0, 5, 16, 250, 172]
abbrev dktX0_leastRank_1 : List UInt8 := dkwX0_leastRank_1 ++ []
def dkwX0_leastRank_0 : List UInt8 := [27, 184, 0, 138, 153, 0, 10, 28, 184, 0, 161, 154, 0, 5, 2, 172, 42, 180, 0, 10, 180, 0, 65, 27]
abbrev dktX0_leastRank_0 : List UInt8 := dkwX0_leastRank_0 ++ dktX0_leastRank_1
theorem dksX0_leastRank_0 : cX0_leastRank.data.toList.drop 0 = dktX0_leastRank_0 := by decide +kernel
theorem dksX0_leastRank_1 : cX0_leastRank.data.toList.drop 24 = dktX0_leastRank_1 := dk_seg dksX0_leastRank_0 24 rfl rfl
theorem dX0_leastRank_0 : decode cX0_leastRank 0 = .ok (.iload_n 1, 1) := dk_27 (dk_at dksX0_leastRank_0 0 rfl rfl)
theorem dX0_leastRank_1 : decode cX0_leastRank 1 = .ok (.invokestatic 138, 3) := dk_184 0 138 (dk_at dksX0_leastRank_0 1 rfl rfl)
theorem dX0_leastRank_4 : decode cX0_leastRank 4 = .ok (.ifCond .eq 10, 3) := dk_153 0 10 (dk_at dksX0_leastRank_0 4 rfl rfl)
theorem dX0_leastRank_7 : decode cX0_leastRank 7 = .ok (.iload_n 2, 1) := dk_28 (dk_at dksX0_leastRank_0 7 rfl rfl)
theorem dX0_leastRank_8 : decode cX0_leastRank 8 = .ok (.invokestatic 161, 3) := dk_184 0 161 (dk_at dksX0_leastRank_0 8 rfl rfl)
theorem dX0_leastRank_11 : decode cX0_leastRank 11 = .ok (.ifCond .ne 5, 3) := dk_154 0 5 (dk_at dksX0_leastRank_0 11 rfl rfl)
theorem dX0_leastRank_14 : decode cX0_leastRank 14 = .ok (.iconst (-1), 1) := dk_2 (dk_at dksX0_leastRank_0 14 rfl rfl)
theorem dX0_leastRank_15 : decode cX0_leastRank 15 = .ok (.ireturn, 1) := dk_172 (dk_at dksX0_leastRank_0 15 rfl rfl)
theorem dX0_leastRank_16 : decode cX0_leastRank 16 = .ok (.aload_n 0, 1) := dk_42 (dk_at dksX0_leastRank_0 16 rfl rfl)
theorem dX0_leastRank_17 : decode cX0_leastRank 17 = .ok (.getfield 10, 3) := dk_180 0 10 (dk_at dksX0_leastRank_0 17 rfl rfl)
theorem dX0_leastRank_20 : decode cX0_leastRank 20 = .ok (.getfield 65, 3) := dk_180 0 65 (dk_at dksX0_leastRank_0 20 rfl rfl)
theorem dX0_leastRank_23 : decode cX0_leastRank 23 = .ok (.iload_n 1, 1) := dk_27 (dk_at dksX0_leastRank_0 23 rfl rfl)
theorem dX0_leastRank_24 : decode cX0_leastRank 24 = .ok (.iload_n 2, 1) := dk_28 (dk_at dksX0_leastRank_1 0 rfl rfl)
theorem dX0_leastRank_25 : decode cX0_leastRank 25 = .ok (.invokevirtual 179, 3) := dk_182 0 179 (dk_at dksX0_leastRank_1 1 rfl rfl)
theorem dX0_leastRank_28 : decode cX0_leastRank 28 = .ok (.istore_n 3, 1) := dk_62 (dk_at dksX0_leastRank_1 4 rfl rfl)
theorem dX0_leastRank_29 : decode cX0_leastRank 29 = .ok (.iload_n 3, 1) := dk_29 (dk_at dksX0_leastRank_1 5 rfl rfl)
theorem dX0_leastRank_30 : decode cX0_leastRank 30 = .ok (.bipush 10, 2) := dk_16 10 (dk_at dksX0_leastRank_1 6 rfl rfl)
theorem dX0_leastRank_32 : decode cX0_leastRank 32 = .ok (.if_icmp .ge 7, 3) := dk_162 0 7 (dk_at dksX0_leastRank_1 8 rfl rfl)
theorem dX0_leastRank_35 : decode cX0_leastRank 35 = .ok (.iload_n 3, 1) := dk_29 (dk_at dksX0_leastRank_1 11 rfl rfl)
theorem dX0_leastRank_36 : decode cX0_leastRank 36 = .ok (.goto 5, 3) := dk_167 0 5 (dk_at dksX0_leastRank_1 12 rfl rfl)
theorem dX0_leastRank_39 : decode cX0_leastRank 39 = .ok (.bipush (-6), 2) := dk_16 250 (dk_at dksX0_leastRank_1 15 rfl rfl)
theorem dX0_leastRank_41 : decode cX0_leastRank 41 = .ok (.ireturn, 1) := dk_172 (dk_at dksX0_leastRank_1 17 rfl rfl)
abbrev cX0_ifStruck : ByteArray := prog_1_method_23_code
def yX0_ifStruck : MethodName := ⟨RX0, "ifStruck", "(I)I"⟩
def dkwX0_ifStruck_1 : List UInt8 := [167, 0, 4, 2, 172]
abbrev dktX0_ifStruck_1 : List UInt8 := dkwX0_ifStruck_1 ++ []
def dkwX0_ifStruck_0 : List UInt8 := [42, 180, 0, 10, 180, 0, 65, 27, 182, 0, 82, 153, 0, 15, 17, 3, 232, 42, 27, 182, 0, 229, 96]
abbrev dktX0_ifStruck_0 : List UInt8 := dkwX0_ifStruck_0 ++ dktX0_ifStruck_1
theorem dksX0_ifStruck_0 : cX0_ifStruck.data.toList.drop 0 = dktX0_ifStruck_0 := by decide +kernel
theorem dksX0_ifStruck_1 : cX0_ifStruck.data.toList.drop 23 = dktX0_ifStruck_1 := dk_seg dksX0_ifStruck_0 23 rfl rfl
theorem dX0_ifStruck_0 : decode cX0_ifStruck 0 = .ok (.aload_n 0, 1) := dk_42 (dk_at dksX0_ifStruck_0 0 rfl rfl)
theorem dX0_ifStruck_1 : decode cX0_ifStruck 1 = .ok (.getfield 10, 3) := dk_180 0 10 (dk_at dksX0_ifStruck_0 1 rfl rfl)
theorem dX0_ifStruck_4 : decode cX0_ifStruck 4 = .ok (.getfield 65, 3) := dk_180 0 65 (dk_at dksX0_ifStruck_0 4 rfl rfl)
theorem dX0_ifStruck_7 : decode cX0_ifStruck 7 = .ok (.iload_n 1, 1) := dk_27 (dk_at dksX0_ifStruck_0 7 rfl rfl)
theorem dX0_ifStruck_8 : decode cX0_ifStruck 8 = .ok (.invokevirtual 82, 3) := dk_182 0 82 (dk_at dksX0_ifStruck_0 8 rfl rfl)
theorem dX0_ifStruck_11 : decode cX0_ifStruck 11 = .ok (.ifCond .eq 15, 3) := dk_153 0 15 (dk_at dksX0_ifStruck_0 11 rfl rfl)
theorem dX0_ifStruck_14 : decode cX0_ifStruck 14 = .ok (.sipush 1000, 3) := dk_17 3 232 (dk_at dksX0_ifStruck_0 14 rfl rfl)
theorem dX0_ifStruck_17 : decode cX0_ifStruck 17 = .ok (.aload_n 0, 1) := dk_42 (dk_at dksX0_ifStruck_0 17 rfl rfl)
theorem dX0_ifStruck_18 : decode cX0_ifStruck 18 = .ok (.iload_n 1, 1) := dk_27 (dk_at dksX0_ifStruck_0 18 rfl rfl)
theorem dX0_ifStruck_19 : decode cX0_ifStruck 19 = .ok (.invokevirtual 229, 3) := dk_182 0 229 (dk_at dksX0_ifStruck_0 19 rfl rfl)
theorem dX0_ifStruck_22 : decode cX0_ifStruck 22 = .ok (.iadd, 1) := dk_96 (dk_at dksX0_ifStruck_0 22 rfl rfl)
theorem dX0_ifStruck_23 : decode cX0_ifStruck 23 = .ok (.goto 4, 3) := dk_167 0 4 (dk_at dksX0_ifStruck_1 0 rfl rfl)
theorem dX0_ifStruck_26 : decode cX0_ifStruck 26 = .ok (.iconst (-1), 1) := dk_2 (dk_at dksX0_ifStruck_1 3 rfl rfl)
theorem dX0_ifStruck_27 : decode cX0_ifStruck 27 = .ok (.ireturn, 1) := dk_172 (dk_at dksX0_ifStruck_1 4 rfl rfl)
abbrev cX0_more : ByteArray := prog_1_method_22_code
def yX0_more : MethodName := ⟨RX0, "more", "(I)I"⟩
def dkwX0_more_1 : List UInt8 := [100, 172]
abbrev dktX0_more_1 : List UInt8 := dkwX0_more_1 ++ []
def dkwX0_more_0 : List UInt8 := [42, 180, 0, 10, 180, 0, 65, 27, 182, 0, 225, 182, 0, 215, 42, 180, 0, 10, 180, 0, 65, 182, 0, 215]
abbrev dktX0_more_0 : List UInt8 := dkwX0_more_0 ++ dktX0_more_1
theorem dksX0_more_0 : cX0_more.data.toList.drop 0 = dktX0_more_0 := by decide +kernel
theorem dksX0_more_1 : cX0_more.data.toList.drop 24 = dktX0_more_1 := dk_seg dksX0_more_0 24 rfl rfl
theorem dX0_more_0 : decode cX0_more 0 = .ok (.aload_n 0, 1) := dk_42 (dk_at dksX0_more_0 0 rfl rfl)
theorem dX0_more_1 : decode cX0_more 1 = .ok (.getfield 10, 3) := dk_180 0 10 (dk_at dksX0_more_0 1 rfl rfl)
theorem dX0_more_4 : decode cX0_more 4 = .ok (.getfield 65, 3) := dk_180 0 65 (dk_at dksX0_more_0 4 rfl rfl)
theorem dX0_more_7 : decode cX0_more 7 = .ok (.iload_n 1, 1) := dk_27 (dk_at dksX0_more_0 7 rfl rfl)
theorem dX0_more_8 : decode cX0_more 8 = .ok (.invokevirtual 225, 3) := dk_182 0 225 (dk_at dksX0_more_0 8 rfl rfl)
theorem dX0_more_11 : decode cX0_more 11 = .ok (.invokevirtual 215, 3) := dk_182 0 215 (dk_at dksX0_more_0 11 rfl rfl)
theorem dX0_more_14 : decode cX0_more 14 = .ok (.aload_n 0, 1) := dk_42 (dk_at dksX0_more_0 14 rfl rfl)
theorem dX0_more_15 : decode cX0_more 15 = .ok (.getfield 10, 3) := dk_180 0 10 (dk_at dksX0_more_0 15 rfl rfl)
theorem dX0_more_18 : decode cX0_more 18 = .ok (.getfield 65, 3) := dk_180 0 65 (dk_at dksX0_more_0 18 rfl rfl)
theorem dX0_more_21 : decode cX0_more 21 = .ok (.invokevirtual 215, 3) := dk_182 0 215 (dk_at dksX0_more_0 21 rfl rfl)
theorem dX0_more_24 : decode cX0_more 24 = .ok (.isub, 1) := dk_100 (dk_at dksX0_more_1 0 rfl rfl)
theorem dX0_more_25 : decode cX0_more 25 = .ok (.ireturn, 1) := dk_172 (dk_at dksX0_more_1 1 rfl rfl)
abbrev cX0_worstBan : ByteArray := prog_1_method_24_code
def yX0_worstBan : MethodName := ⟨RX0, "worstBan", "()I"⟩
def dkwX0_worstBan_4 : List UInt8 := [28, 61, 132, 3, 1, 167, 255, 166, 27, 172]
abbrev dktX0_worstBan_4 : List UInt8 := dkwX0_worstBan_4 ++ []
def dkwX0_worstBan_3 : List UInt8 := [21, 4, 153, 0, 7, 29, 167, 0, 4, 27, 60, 21, 4, 153, 0, 11, 42, 29, 182, 0, 229, 167, 0, 4]
abbrev dktX0_worstBan_3 : List UInt8 := dkwX0_worstBan_3 ++ dktX0_worstBan_4
def dkwX0_worstBan_2 : List UInt8 := [180, 0, 88, 4, 160, 0, 16, 42, 29, 182, 0, 229, 28, 164, 0, 7, 4, 167, 0, 4, 3, 54, 4]
abbrev dktX0_worstBan_2 : List UInt8 := dkwX0_worstBan_2 ++ dktX0_worstBan_3
def dkwX0_worstBan_1 : List UInt8 := [162, 0, 77, 42, 180, 0, 10, 180, 0, 65, 180, 0, 69, 29, 185, 0, 85, 2, 0, 192, 0, 77]
abbrev dktX0_worstBan_1 : List UInt8 := dkwX0_worstBan_1 ++ dktX0_worstBan_2
def dkwX0_worstBan_0 : List UInt8 := [16, 250, 60, 2, 61, 3, 62, 29, 42, 180, 0, 10, 180, 0, 65, 180, 0, 69, 185, 0, 44, 1, 0]
abbrev dktX0_worstBan_0 : List UInt8 := dkwX0_worstBan_0 ++ dktX0_worstBan_1
theorem dksX0_worstBan_0 : cX0_worstBan.data.toList.drop 0 = dktX0_worstBan_0 := by decide +kernel
theorem dksX0_worstBan_1 : cX0_worstBan.data.toList.drop 23 = dktX0_worstBan_1 := dk_seg dksX0_worstBan_0 23 rfl rfl
theorem dksX0_worstBan_2 : cX0_worstBan.data.toList.drop 45 = dktX0_worstBan_2 := dk_seg dksX0_worstBan_1 22 rfl rfl
theorem dksX0_worstBan_3 : cX0_worstBan.data.toList.drop 68 = dktX0_worstBan_3 := dk_seg dksX0_worstBan_2 23 rfl rfl
theorem dksX0_worstBan_4 : cX0_worstBan.data.toList.drop 92 = dktX0_worstBan_4 := dk_seg dksX0_worstBan_3 24 rfl rfl
theorem dX0_worstBan_0 : decode cX0_worstBan 0 = .ok (.bipush (-6), 2) := dk_16 250 (dk_at dksX0_worstBan_0 0 rfl rfl)
theorem dX0_worstBan_2 : decode cX0_worstBan 2 = .ok (.istore_n 1, 1) := dk_60 (dk_at dksX0_worstBan_0 2 rfl rfl)
theorem dX0_worstBan_3 : decode cX0_worstBan 3 = .ok (.iconst (-1), 1) := dk_2 (dk_at dksX0_worstBan_0 3 rfl rfl)
theorem dX0_worstBan_4 : decode cX0_worstBan 4 = .ok (.istore_n 2, 1) := dk_61 (dk_at dksX0_worstBan_0 4 rfl rfl)
theorem dX0_worstBan_5 : decode cX0_worstBan 5 = .ok (.iconst 0, 1) := dk_3 (dk_at dksX0_worstBan_0 5 rfl rfl)
theorem dX0_worstBan_6 : decode cX0_worstBan 6 = .ok (.istore_n 3, 1) := dk_62 (dk_at dksX0_worstBan_0 6 rfl rfl)
theorem dX0_worstBan_7 : decode cX0_worstBan 7 = .ok (.iload_n 3, 1) := dk_29 (dk_at dksX0_worstBan_0 7 rfl rfl)
theorem dX0_worstBan_8 : decode cX0_worstBan 8 = .ok (.aload_n 0, 1) := dk_42 (dk_at dksX0_worstBan_0 8 rfl rfl)
theorem dX0_worstBan_9 : decode cX0_worstBan 9 = .ok (.getfield 10, 3) := dk_180 0 10 (dk_at dksX0_worstBan_0 9 rfl rfl)
theorem dX0_worstBan_12 : decode cX0_worstBan 12 = .ok (.getfield 65, 3) := dk_180 0 65 (dk_at dksX0_worstBan_0 12 rfl rfl)
theorem dX0_worstBan_15 : decode cX0_worstBan 15 = .ok (.getfield 69, 3) := dk_180 0 69 (dk_at dksX0_worstBan_0 15 rfl rfl)
theorem dX0_worstBan_18 : decode cX0_worstBan 18 = .ok (.invokeinterface 44 1, 5) := by decide +kernel
theorem dX0_worstBan_23 : decode cX0_worstBan 23 = .ok (.if_icmp .ge 77, 3) := dk_162 0 77 (dk_at dksX0_worstBan_1 0 rfl rfl)
theorem dX0_worstBan_26 : decode cX0_worstBan 26 = .ok (.aload_n 0, 1) := dk_42 (dk_at dksX0_worstBan_1 3 rfl rfl)
theorem dX0_worstBan_27 : decode cX0_worstBan 27 = .ok (.getfield 10, 3) := dk_180 0 10 (dk_at dksX0_worstBan_1 4 rfl rfl)
theorem dX0_worstBan_30 : decode cX0_worstBan 30 = .ok (.getfield 65, 3) := dk_180 0 65 (dk_at dksX0_worstBan_1 7 rfl rfl)
theorem dX0_worstBan_33 : decode cX0_worstBan 33 = .ok (.getfield 69, 3) := dk_180 0 69 (dk_at dksX0_worstBan_1 10 rfl rfl)
theorem dX0_worstBan_36 : decode cX0_worstBan 36 = .ok (.iload_n 3, 1) := dk_29 (dk_at dksX0_worstBan_1 13 rfl rfl)
theorem dX0_worstBan_37 : decode cX0_worstBan 37 = .ok (.invokeinterface 85 2, 5) := by decide +kernel
theorem dX0_worstBan_42 : decode cX0_worstBan 42 = .ok (.checkcast 77, 3) := dk_192 0 77 (dk_at dksX0_worstBan_1 19 rfl rfl)
theorem dX0_worstBan_45 : decode cX0_worstBan 45 = .ok (.getfield 88, 3) := dk_180 0 88 (dk_at dksX0_worstBan_2 0 rfl rfl)
theorem dX0_worstBan_48 : decode cX0_worstBan 48 = .ok (.iconst 1, 1) := dk_4 (dk_at dksX0_worstBan_2 3 rfl rfl)
theorem dX0_worstBan_49 : decode cX0_worstBan 49 = .ok (.if_icmp .ne 16, 3) := dk_160 0 16 (dk_at dksX0_worstBan_2 4 rfl rfl)
theorem dX0_worstBan_52 : decode cX0_worstBan 52 = .ok (.aload_n 0, 1) := dk_42 (dk_at dksX0_worstBan_2 7 rfl rfl)
theorem dX0_worstBan_53 : decode cX0_worstBan 53 = .ok (.iload_n 3, 1) := dk_29 (dk_at dksX0_worstBan_2 8 rfl rfl)
theorem dX0_worstBan_54 : decode cX0_worstBan 54 = .ok (.invokevirtual 229, 3) := dk_182 0 229 (dk_at dksX0_worstBan_2 9 rfl rfl)
theorem dX0_worstBan_57 : decode cX0_worstBan 57 = .ok (.iload_n 2, 1) := dk_28 (dk_at dksX0_worstBan_2 12 rfl rfl)
theorem dX0_worstBan_58 : decode cX0_worstBan 58 = .ok (.if_icmp .le 7, 3) := dk_164 0 7 (dk_at dksX0_worstBan_2 13 rfl rfl)
theorem dX0_worstBan_61 : decode cX0_worstBan 61 = .ok (.iconst 1, 1) := dk_4 (dk_at dksX0_worstBan_2 16 rfl rfl)
theorem dX0_worstBan_62 : decode cX0_worstBan 62 = .ok (.goto 4, 3) := dk_167 0 4 (dk_at dksX0_worstBan_2 17 rfl rfl)
theorem dX0_worstBan_65 : decode cX0_worstBan 65 = .ok (.iconst 0, 1) := dk_3 (dk_at dksX0_worstBan_2 20 rfl rfl)
theorem dX0_worstBan_66 : decode cX0_worstBan 66 = .ok (.istore 4, 2) := dk_54 4 (dk_at dksX0_worstBan_2 21 rfl rfl)
theorem dX0_worstBan_68 : decode cX0_worstBan 68 = .ok (.iload 4, 2) := dk_21 4 (dk_at dksX0_worstBan_3 0 rfl rfl)
theorem dX0_worstBan_70 : decode cX0_worstBan 70 = .ok (.ifCond .eq 7, 3) := dk_153 0 7 (dk_at dksX0_worstBan_3 2 rfl rfl)
theorem dX0_worstBan_73 : decode cX0_worstBan 73 = .ok (.iload_n 3, 1) := dk_29 (dk_at dksX0_worstBan_3 5 rfl rfl)
theorem dX0_worstBan_74 : decode cX0_worstBan 74 = .ok (.goto 4, 3) := dk_167 0 4 (dk_at dksX0_worstBan_3 6 rfl rfl)
theorem dX0_worstBan_77 : decode cX0_worstBan 77 = .ok (.iload_n 1, 1) := dk_27 (dk_at dksX0_worstBan_3 9 rfl rfl)
theorem dX0_worstBan_78 : decode cX0_worstBan 78 = .ok (.istore_n 1, 1) := dk_60 (dk_at dksX0_worstBan_3 10 rfl rfl)
theorem dX0_worstBan_79 : decode cX0_worstBan 79 = .ok (.iload 4, 2) := dk_21 4 (dk_at dksX0_worstBan_3 11 rfl rfl)
theorem dX0_worstBan_81 : decode cX0_worstBan 81 = .ok (.ifCond .eq 11, 3) := dk_153 0 11 (dk_at dksX0_worstBan_3 13 rfl rfl)
theorem dX0_worstBan_84 : decode cX0_worstBan 84 = .ok (.aload_n 0, 1) := dk_42 (dk_at dksX0_worstBan_3 16 rfl rfl)
theorem dX0_worstBan_85 : decode cX0_worstBan 85 = .ok (.iload_n 3, 1) := dk_29 (dk_at dksX0_worstBan_3 17 rfl rfl)
theorem dX0_worstBan_86 : decode cX0_worstBan 86 = .ok (.invokevirtual 229, 3) := dk_182 0 229 (dk_at dksX0_worstBan_3 18 rfl rfl)
theorem dX0_worstBan_89 : decode cX0_worstBan 89 = .ok (.goto 4, 3) := dk_167 0 4 (dk_at dksX0_worstBan_3 21 rfl rfl)
theorem dX0_worstBan_92 : decode cX0_worstBan 92 = .ok (.iload_n 2, 1) := dk_28 (dk_at dksX0_worstBan_4 0 rfl rfl)
theorem dX0_worstBan_93 : decode cX0_worstBan 93 = .ok (.istore_n 2, 1) := dk_61 (dk_at dksX0_worstBan_4 1 rfl rfl)
theorem dX0_worstBan_94 : decode cX0_worstBan 94 = .ok (.iinc 3 1, 3) := dk_132 3 1 (dk_at dksX0_worstBan_4 2 rfl rfl)
theorem dX0_worstBan_97 : decode cX0_worstBan 97 = .ok (.goto (-90), 3) := dk_167 255 166 (dk_at dksX0_worstBan_4 5 rfl rfl)
theorem dX0_worstBan_100 : decode cX0_worstBan 100 = .ok (.iload_n 1, 1) := dk_27 (dk_at dksX0_worstBan_4 8 rfl rfl)
theorem dX0_worstBan_101 : decode cX0_worstBan 101 = .ok (.ireturn, 1) := dk_172 (dk_at dksX0_worstBan_4 9 rfl rfl)
abbrev cX0_bestWaiver : ByteArray := prog_1_method_25_code
def yX0_bestWaiver : MethodName := ⟨RX0, "bestWaiver", "(I)I"⟩
def dkwX0_bestWaiver_4 : List UInt8 := [172]
abbrev dktX0_bestWaiver_4 : List UInt8 := dkwX0_bestWaiver_4 ++ []
def dkwX0_bestWaiver_3 : List UInt8 := [161, 0, 8, 21, 4, 167, 0, 4, 28, 61, 21, 6, 29, 184, 0, 235, 62, 132, 4, 1, 167, 255, 183, 28]
abbrev dktX0_bestWaiver_3 : List UInt8 := dkwX0_bestWaiver_3 ++ dktX0_bestWaiver_4
def dkwX0_bestWaiver_2 : List UInt8 := [8, 16, 6, 27, 183, 0, 79, 185, 0, 38, 2, 0, 87, 25, 5, 182, 0, 215, 54, 6, 21, 6, 29]
abbrev dktX0_bestWaiver_2 : List UInt8 := dkwX0_bestWaiver_2 ++ dktX0_bestWaiver_3
def dkwX0_bestWaiver_1 : List UInt8 := [42, 180, 0, 10, 180, 0, 65, 182, 0, 232, 58, 5, 25, 5, 180, 0, 69, 187, 0, 77, 89, 21, 4, 5]
abbrev dktX0_bestWaiver_1 : List UInt8 := dkwX0_bestWaiver_1 ++ dktX0_bestWaiver_2
def dkwX0_bestWaiver_0 : List UInt8 := [27, 184, 0, 62, 154, 0, 6, 16, 254, 172, 16, 250, 61, 2, 62, 3, 54, 4, 21, 4, 8, 162, 0, 73]
abbrev dktX0_bestWaiver_0 : List UInt8 := dkwX0_bestWaiver_0 ++ dktX0_bestWaiver_1
theorem dksX0_bestWaiver_0 : cX0_bestWaiver.data.toList.drop 0 = dktX0_bestWaiver_0 := by decide +kernel
theorem dksX0_bestWaiver_1 : cX0_bestWaiver.data.toList.drop 24 = dktX0_bestWaiver_1 := dk_seg dksX0_bestWaiver_0 24 rfl rfl
theorem dksX0_bestWaiver_2 : cX0_bestWaiver.data.toList.drop 48 = dktX0_bestWaiver_2 := dk_seg dksX0_bestWaiver_1 24 rfl rfl
theorem dksX0_bestWaiver_3 : cX0_bestWaiver.data.toList.drop 71 = dktX0_bestWaiver_3 := dk_seg dksX0_bestWaiver_2 23 rfl rfl
theorem dksX0_bestWaiver_4 : cX0_bestWaiver.data.toList.drop 95 = dktX0_bestWaiver_4 := dk_seg dksX0_bestWaiver_3 24 rfl rfl
theorem dX0_bestWaiver_0 : decode cX0_bestWaiver 0 = .ok (.iload_n 1, 1) := dk_27 (dk_at dksX0_bestWaiver_0 0 rfl rfl)
theorem dX0_bestWaiver_1 : decode cX0_bestWaiver 1 = .ok (.invokestatic 62, 3) := dk_184 0 62 (dk_at dksX0_bestWaiver_0 1 rfl rfl)
theorem dX0_bestWaiver_4 : decode cX0_bestWaiver 4 = .ok (.ifCond .ne 6, 3) := dk_154 0 6 (dk_at dksX0_bestWaiver_0 4 rfl rfl)
theorem dX0_bestWaiver_7 : decode cX0_bestWaiver 7 = .ok (.bipush (-2), 2) := dk_16 254 (dk_at dksX0_bestWaiver_0 7 rfl rfl)
theorem dX0_bestWaiver_9 : decode cX0_bestWaiver 9 = .ok (.ireturn, 1) := dk_172 (dk_at dksX0_bestWaiver_0 9 rfl rfl)
theorem dX0_bestWaiver_10 : decode cX0_bestWaiver 10 = .ok (.bipush (-6), 2) := dk_16 250 (dk_at dksX0_bestWaiver_0 10 rfl rfl)
theorem dX0_bestWaiver_12 : decode cX0_bestWaiver 12 = .ok (.istore_n 2, 1) := dk_61 (dk_at dksX0_bestWaiver_0 12 rfl rfl)
theorem dX0_bestWaiver_13 : decode cX0_bestWaiver 13 = .ok (.iconst (-1), 1) := dk_2 (dk_at dksX0_bestWaiver_0 13 rfl rfl)
theorem dX0_bestWaiver_14 : decode cX0_bestWaiver 14 = .ok (.istore_n 3, 1) := dk_62 (dk_at dksX0_bestWaiver_0 14 rfl rfl)
theorem dX0_bestWaiver_15 : decode cX0_bestWaiver 15 = .ok (.iconst 0, 1) := dk_3 (dk_at dksX0_bestWaiver_0 15 rfl rfl)
theorem dX0_bestWaiver_16 : decode cX0_bestWaiver 16 = .ok (.istore 4, 2) := dk_54 4 (dk_at dksX0_bestWaiver_0 16 rfl rfl)
theorem dX0_bestWaiver_18 : decode cX0_bestWaiver 18 = .ok (.iload 4, 2) := dk_21 4 (dk_at dksX0_bestWaiver_0 18 rfl rfl)
theorem dX0_bestWaiver_20 : decode cX0_bestWaiver 20 = .ok (.iconst 5, 1) := dk_8 (dk_at dksX0_bestWaiver_0 20 rfl rfl)
theorem dX0_bestWaiver_21 : decode cX0_bestWaiver 21 = .ok (.if_icmp .ge 73, 3) := dk_162 0 73 (dk_at dksX0_bestWaiver_0 21 rfl rfl)
theorem dX0_bestWaiver_24 : decode cX0_bestWaiver 24 = .ok (.aload_n 0, 1) := dk_42 (dk_at dksX0_bestWaiver_1 0 rfl rfl)
theorem dX0_bestWaiver_25 : decode cX0_bestWaiver 25 = .ok (.getfield 10, 3) := dk_180 0 10 (dk_at dksX0_bestWaiver_1 1 rfl rfl)
theorem dX0_bestWaiver_28 : decode cX0_bestWaiver 28 = .ok (.getfield 65, 3) := dk_180 0 65 (dk_at dksX0_bestWaiver_1 4 rfl rfl)
theorem dX0_bestWaiver_31 : decode cX0_bestWaiver 31 = .ok (.invokevirtual 232, 3) := dk_182 0 232 (dk_at dksX0_bestWaiver_1 7 rfl rfl)
theorem dX0_bestWaiver_34 : decode cX0_bestWaiver 34 = .ok (.astore 5, 2) := dk_58 5 (dk_at dksX0_bestWaiver_1 10 rfl rfl)
theorem dX0_bestWaiver_36 : decode cX0_bestWaiver 36 = .ok (.aload 5, 2) := dk_25 5 (dk_at dksX0_bestWaiver_1 12 rfl rfl)
theorem dX0_bestWaiver_38 : decode cX0_bestWaiver 38 = .ok (.getfield 69, 3) := dk_180 0 69 (dk_at dksX0_bestWaiver_1 14 rfl rfl)
theorem dX0_bestWaiver_41 : decode cX0_bestWaiver 41 = .ok (.new 77, 3) := dk_187 0 77 (dk_at dksX0_bestWaiver_1 17 rfl rfl)
theorem dX0_bestWaiver_44 : decode cX0_bestWaiver 44 = .ok (.dup, 1) := dk_89 (dk_at dksX0_bestWaiver_1 20 rfl rfl)
theorem dX0_bestWaiver_45 : decode cX0_bestWaiver 45 = .ok (.iload 4, 2) := dk_21 4 (dk_at dksX0_bestWaiver_1 21 rfl rfl)
theorem dX0_bestWaiver_47 : decode cX0_bestWaiver 47 = .ok (.iconst 2, 1) := dk_5 (dk_at dksX0_bestWaiver_1 23 rfl rfl)
theorem dX0_bestWaiver_48 : decode cX0_bestWaiver 48 = .ok (.iconst 5, 1) := dk_8 (dk_at dksX0_bestWaiver_2 0 rfl rfl)
theorem dX0_bestWaiver_49 : decode cX0_bestWaiver 49 = .ok (.bipush 6, 2) := dk_16 6 (dk_at dksX0_bestWaiver_2 1 rfl rfl)
theorem dX0_bestWaiver_51 : decode cX0_bestWaiver 51 = .ok (.iload_n 1, 1) := dk_27 (dk_at dksX0_bestWaiver_2 3 rfl rfl)
theorem dX0_bestWaiver_52 : decode cX0_bestWaiver 52 = .ok (.invokespecial 79, 3) := dk_183 0 79 (dk_at dksX0_bestWaiver_2 4 rfl rfl)
theorem dX0_bestWaiver_55 : decode cX0_bestWaiver 55 = .ok (.invokeinterface 38 2, 5) := by decide +kernel
theorem dX0_bestWaiver_60 : decode cX0_bestWaiver 60 = .ok (.pop, 1) := dk_87 (dk_at dksX0_bestWaiver_2 12 rfl rfl)
theorem dX0_bestWaiver_61 : decode cX0_bestWaiver 61 = .ok (.aload 5, 2) := dk_25 5 (dk_at dksX0_bestWaiver_2 13 rfl rfl)
theorem dX0_bestWaiver_63 : decode cX0_bestWaiver 63 = .ok (.invokevirtual 215, 3) := dk_182 0 215 (dk_at dksX0_bestWaiver_2 15 rfl rfl)
theorem dX0_bestWaiver_66 : decode cX0_bestWaiver 66 = .ok (.istore 6, 2) := dk_54 6 (dk_at dksX0_bestWaiver_2 18 rfl rfl)
theorem dX0_bestWaiver_68 : decode cX0_bestWaiver 68 = .ok (.iload 6, 2) := dk_21 6 (dk_at dksX0_bestWaiver_2 20 rfl rfl)
theorem dX0_bestWaiver_70 : decode cX0_bestWaiver 70 = .ok (.iload_n 3, 1) := dk_29 (dk_at dksX0_bestWaiver_2 22 rfl rfl)
theorem dX0_bestWaiver_71 : decode cX0_bestWaiver 71 = .ok (.if_icmp .lt 8, 3) := dk_161 0 8 (dk_at dksX0_bestWaiver_3 0 rfl rfl)
theorem dX0_bestWaiver_74 : decode cX0_bestWaiver 74 = .ok (.iload 4, 2) := dk_21 4 (dk_at dksX0_bestWaiver_3 3 rfl rfl)
theorem dX0_bestWaiver_76 : decode cX0_bestWaiver 76 = .ok (.goto 4, 3) := dk_167 0 4 (dk_at dksX0_bestWaiver_3 5 rfl rfl)
theorem dX0_bestWaiver_79 : decode cX0_bestWaiver 79 = .ok (.iload_n 2, 1) := dk_28 (dk_at dksX0_bestWaiver_3 8 rfl rfl)
theorem dX0_bestWaiver_80 : decode cX0_bestWaiver 80 = .ok (.istore_n 2, 1) := dk_61 (dk_at dksX0_bestWaiver_3 9 rfl rfl)
theorem dX0_bestWaiver_81 : decode cX0_bestWaiver 81 = .ok (.iload 6, 2) := dk_21 6 (dk_at dksX0_bestWaiver_3 10 rfl rfl)
theorem dX0_bestWaiver_83 : decode cX0_bestWaiver 83 = .ok (.iload_n 3, 1) := dk_29 (dk_at dksX0_bestWaiver_3 12 rfl rfl)
theorem dX0_bestWaiver_84 : decode cX0_bestWaiver 84 = .ok (.invokestatic 235, 3) := dk_184 0 235 (dk_at dksX0_bestWaiver_3 13 rfl rfl)
theorem dX0_bestWaiver_87 : decode cX0_bestWaiver 87 = .ok (.istore_n 3, 1) := dk_62 (dk_at dksX0_bestWaiver_3 16 rfl rfl)
theorem dX0_bestWaiver_88 : decode cX0_bestWaiver 88 = .ok (.iinc 4 1, 3) := dk_132 4 1 (dk_at dksX0_bestWaiver_3 17 rfl rfl)
theorem dX0_bestWaiver_91 : decode cX0_bestWaiver 91 = .ok (.goto (-73), 3) := dk_167 255 183 (dk_at dksX0_bestWaiver_3 20 rfl rfl)
theorem dX0_bestWaiver_94 : decode cX0_bestWaiver 94 = .ok (.iload_n 2, 1) := dk_28 (dk_at dksX0_bestWaiver_3 23 rfl rfl)
theorem dX0_bestWaiver_95 : decode cX0_bestWaiver 95 = .ok (.ireturn, 1) := dk_172 (dk_at dksX0_bestWaiver_4 0 rfl rfl)
abbrev cX0_put : ByteArray := prog_1_method_31_code
def yX0_put : MethodName := ⟨RX0, "put", "(J)I"⟩
def dkwX0_put_4 : List UInt8 := [164, 0, 6, 16, 252, 172, 42, 180, 0, 30, 45, 182, 1, 31, 87, 42, 180, 0, 30, 182, 0, 222, 172]
abbrev dktX0_put_4 : List UInt8 := dkwX0_put_4 ++ []
def dkwX0_put_3 : List UInt8 := [45, 182, 1, 38, 153, 0, 6, 16, 254, 172, 42, 180, 0, 30, 182, 0, 222, 45, 182, 1, 41, 96, 16, 60]
abbrev dktX0_put_3 : List UInt8 := dkwX0_put_3 ++ dktX0_put_4
def dkwX0_put_2 : List UInt8 := [21, 6, 146, 182, 1, 27, 45, 182, 1, 31, 182, 1, 34, 78, 22, 4, 16, 8, 125, 55, 4, 167, 255, 195]
abbrev dktX0_put_2 : List UInt8 := dkwX0_put_2 ++ dktX0_put_3
def dkwX0_put_1 : List UInt8 := [21, 6, 16, 33, 161, 0, 10, 21, 6, 16, 126, 164, 0, 6, 16, 254, 172, 187, 0, 27, 89, 183, 0, 29]
abbrev dktX0_put_1 : List UInt8 := dkwX0_put_1 ++ dktX0_put_2
def dkwX0_put_0 : List UInt8 := [19, 1, 23, 78, 31, 55, 4, 22, 4, 9, 148, 153, 0, 60, 22, 4, 20, 1, 25, 127, 136, 54, 6]
abbrev dktX0_put_0 : List UInt8 := dkwX0_put_0 ++ dktX0_put_1
theorem dksX0_put_0 : cX0_put.data.toList.drop 0 = dktX0_put_0 := by decide +kernel
theorem dksX0_put_1 : cX0_put.data.toList.drop 23 = dktX0_put_1 := dk_seg dksX0_put_0 23 rfl rfl
theorem dksX0_put_2 : cX0_put.data.toList.drop 47 = dktX0_put_2 := dk_seg dksX0_put_1 24 rfl rfl
theorem dksX0_put_3 : cX0_put.data.toList.drop 71 = dktX0_put_3 := dk_seg dksX0_put_2 24 rfl rfl
theorem dksX0_put_4 : cX0_put.data.toList.drop 95 = dktX0_put_4 := dk_seg dksX0_put_3 24 rfl rfl
theorem dX0_put_0 : decode cX0_put 0 = .ok (.ldc_w 279, 3) := dk_19 1 23 (dk_at dksX0_put_0 0 rfl rfl)
theorem dX0_put_3 : decode cX0_put 3 = .ok (.astore_n 3, 1) := dk_78 (dk_at dksX0_put_0 3 rfl rfl)
theorem dX0_put_4 : decode cX0_put 4 = .ok (.lload_n 1, 1) := dk_31 (dk_at dksX0_put_0 4 rfl rfl)
theorem dX0_put_5 : decode cX0_put 5 = .ok (.lstore 4, 2) := dk_55 4 (dk_at dksX0_put_0 5 rfl rfl)
theorem dX0_put_7 : decode cX0_put 7 = .ok (.lload 4, 2) := dk_22 4 (dk_at dksX0_put_0 7 rfl rfl)
theorem dX0_put_9 : decode cX0_put 9 = .ok (.lconst 0, 1) := dk_9 (dk_at dksX0_put_0 9 rfl rfl)
theorem dX0_put_10 : decode cX0_put 10 = .ok (.lcmp, 1) := dk_148 (dk_at dksX0_put_0 10 rfl rfl)
theorem dX0_put_11 : decode cX0_put 11 = .ok (.ifCond .eq 60, 3) := dk_153 0 60 (dk_at dksX0_put_0 11 rfl rfl)
theorem dX0_put_14 : decode cX0_put 14 = .ok (.lload 4, 2) := dk_22 4 (dk_at dksX0_put_0 14 rfl rfl)
theorem dX0_put_16 : decode cX0_put 16 = .ok (.ldc2_w 281, 3) := dk_20 1 25 (dk_at dksX0_put_0 16 rfl rfl)
theorem dX0_put_19 : decode cX0_put 19 = .ok (.land, 1) := dk_127 (dk_at dksX0_put_0 19 rfl rfl)
theorem dX0_put_20 : decode cX0_put 20 = .ok (.l2i, 1) := dk_136 (dk_at dksX0_put_0 20 rfl rfl)
theorem dX0_put_21 : decode cX0_put 21 = .ok (.istore 6, 2) := dk_54 6 (dk_at dksX0_put_0 21 rfl rfl)
theorem dX0_put_23 : decode cX0_put 23 = .ok (.iload 6, 2) := dk_21 6 (dk_at dksX0_put_1 0 rfl rfl)
theorem dX0_put_25 : decode cX0_put 25 = .ok (.bipush 33, 2) := dk_16 33 (dk_at dksX0_put_1 2 rfl rfl)
theorem dX0_put_27 : decode cX0_put 27 = .ok (.if_icmp .lt 10, 3) := dk_161 0 10 (dk_at dksX0_put_1 4 rfl rfl)
theorem dX0_put_30 : decode cX0_put 30 = .ok (.iload 6, 2) := dk_21 6 (dk_at dksX0_put_1 7 rfl rfl)
theorem dX0_put_32 : decode cX0_put 32 = .ok (.bipush 126, 2) := dk_16 126 (dk_at dksX0_put_1 9 rfl rfl)
theorem dX0_put_34 : decode cX0_put 34 = .ok (.if_icmp .le 6, 3) := dk_164 0 6 (dk_at dksX0_put_1 11 rfl rfl)
theorem dX0_put_37 : decode cX0_put 37 = .ok (.bipush (-2), 2) := dk_16 254 (dk_at dksX0_put_1 14 rfl rfl)
theorem dX0_put_39 : decode cX0_put 39 = .ok (.ireturn, 1) := dk_172 (dk_at dksX0_put_1 16 rfl rfl)
theorem dX0_put_40 : decode cX0_put 40 = .ok (.new 27, 3) := dk_187 0 27 (dk_at dksX0_put_1 17 rfl rfl)
theorem dX0_put_43 : decode cX0_put 43 = .ok (.dup, 1) := dk_89 (dk_at dksX0_put_1 20 rfl rfl)
theorem dX0_put_44 : decode cX0_put 44 = .ok (.invokespecial 29, 3) := dk_183 0 29 (dk_at dksX0_put_1 21 rfl rfl)
theorem dX0_put_47 : decode cX0_put 47 = .ok (.iload 6, 2) := dk_21 6 (dk_at dksX0_put_2 0 rfl rfl)
theorem dX0_put_49 : decode cX0_put 49 = .ok (.i2c, 1) := dk_146 (dk_at dksX0_put_2 2 rfl rfl)
theorem dX0_put_50 : decode cX0_put 50 = .ok (.invokevirtual 283, 3) := dk_182 1 27 (dk_at dksX0_put_2 3 rfl rfl)
theorem dX0_put_53 : decode cX0_put 53 = .ok (.aload_n 3, 1) := dk_45 (dk_at dksX0_put_2 6 rfl rfl)
theorem dX0_put_54 : decode cX0_put 54 = .ok (.invokevirtual 287, 3) := dk_182 1 31 (dk_at dksX0_put_2 7 rfl rfl)
theorem dX0_put_57 : decode cX0_put 57 = .ok (.invokevirtual 290, 3) := dk_182 1 34 (dk_at dksX0_put_2 10 rfl rfl)
theorem dX0_put_60 : decode cX0_put 60 = .ok (.astore_n 3, 1) := dk_78 (dk_at dksX0_put_2 13 rfl rfl)
theorem dX0_put_61 : decode cX0_put 61 = .ok (.lload 4, 2) := dk_22 4 (dk_at dksX0_put_2 14 rfl rfl)
theorem dX0_put_63 : decode cX0_put 63 = .ok (.bipush 8, 2) := dk_16 8 (dk_at dksX0_put_2 16 rfl rfl)
theorem dX0_put_65 : decode cX0_put 65 = .ok (.lushr, 1) := dk_125 (dk_at dksX0_put_2 18 rfl rfl)
theorem dX0_put_66 : decode cX0_put 66 = .ok (.lstore 4, 2) := dk_55 4 (dk_at dksX0_put_2 19 rfl rfl)
theorem dX0_put_68 : decode cX0_put 68 = .ok (.goto (-61), 3) := dk_167 255 195 (dk_at dksX0_put_2 21 rfl rfl)
theorem dX0_put_71 : decode cX0_put 71 = .ok (.aload_n 3, 1) := dk_45 (dk_at dksX0_put_3 0 rfl rfl)
theorem dX0_put_72 : decode cX0_put 72 = .ok (.invokevirtual 294, 3) := dk_182 1 38 (dk_at dksX0_put_3 1 rfl rfl)
theorem dX0_put_75 : decode cX0_put 75 = .ok (.ifCond .eq 6, 3) := dk_153 0 6 (dk_at dksX0_put_3 4 rfl rfl)
theorem dX0_put_78 : decode cX0_put 78 = .ok (.bipush (-2), 2) := dk_16 254 (dk_at dksX0_put_3 7 rfl rfl)
theorem dX0_put_80 : decode cX0_put 80 = .ok (.ireturn, 1) := dk_172 (dk_at dksX0_put_3 9 rfl rfl)
theorem dX0_put_81 : decode cX0_put 81 = .ok (.aload_n 0, 1) := dk_42 (dk_at dksX0_put_3 10 rfl rfl)
theorem dX0_put_82 : decode cX0_put 82 = .ok (.getfield 30, 3) := dk_180 0 30 (dk_at dksX0_put_3 11 rfl rfl)
theorem dX0_put_85 : decode cX0_put 85 = .ok (.invokevirtual 222, 3) := dk_182 0 222 (dk_at dksX0_put_3 14 rfl rfl)
theorem dX0_put_88 : decode cX0_put 88 = .ok (.aload_n 3, 1) := dk_45 (dk_at dksX0_put_3 17 rfl rfl)
theorem dX0_put_89 : decode cX0_put 89 = .ok (.invokevirtual 297, 3) := dk_182 1 41 (dk_at dksX0_put_3 18 rfl rfl)
theorem dX0_put_92 : decode cX0_put 92 = .ok (.iadd, 1) := dk_96 (dk_at dksX0_put_3 21 rfl rfl)
theorem dX0_put_93 : decode cX0_put 93 = .ok (.bipush 60, 2) := dk_16 60 (dk_at dksX0_put_3 22 rfl rfl)
theorem dX0_put_95 : decode cX0_put 95 = .ok (.if_icmp .le 6, 3) := dk_164 0 6 (dk_at dksX0_put_4 0 rfl rfl)
theorem dX0_put_98 : decode cX0_put 98 = .ok (.bipush (-4), 2) := dk_16 252 (dk_at dksX0_put_4 3 rfl rfl)
theorem dX0_put_100 : decode cX0_put 100 = .ok (.ireturn, 1) := dk_172 (dk_at dksX0_put_4 5 rfl rfl)
theorem dX0_put_101 : decode cX0_put 101 = .ok (.aload_n 0, 1) := dk_42 (dk_at dksX0_put_4 6 rfl rfl)
theorem dX0_put_102 : decode cX0_put 102 = .ok (.getfield 30, 3) := dk_180 0 30 (dk_at dksX0_put_4 7 rfl rfl)
theorem dX0_put_105 : decode cX0_put 105 = .ok (.aload_n 3, 1) := dk_45 (dk_at dksX0_put_4 10 rfl rfl)
theorem dX0_put_106 : decode cX0_put 106 = .ok (.invokevirtual 287, 3) := dk_182 1 31 (dk_at dksX0_put_4 11 rfl rfl)
theorem dX0_put_109 : decode cX0_put 109 = .ok (.pop, 1) := dk_87 (dk_at dksX0_put_4 14 rfl rfl)
theorem dX0_put_110 : decode cX0_put 110 = .ok (.aload_n 0, 1) := dk_42 (dk_at dksX0_put_4 15 rfl rfl)
theorem dX0_put_111 : decode cX0_put 111 = .ok (.getfield 30, 3) := dk_180 0 30 (dk_at dksX0_put_4 16 rfl rfl)
theorem dX0_put_114 : decode cX0_put 114 = .ok (.invokevirtual 222, 3) := dk_182 0 222 (dk_at dksX0_put_4 19 rfl rfl)
theorem dX0_put_117 : decode cX0_put 117 = .ok (.ireturn, 1) := dk_172 (dk_at dksX0_put_4 22 rfl rfl)
abbrev cX0_wipe : ByteArray := prog_1_method_32_code
def yX0_wipe : MethodName := ⟨RX0, "wipe", "()I"⟩
def dkwX0_wipe_0 : List UInt8 := [42, 180, 0, 30, 182, 0, 222, 60, 42, 180, 0, 30, 3, 182, 0, 131, 27, 172]
abbrev dktX0_wipe_0 : List UInt8 := dkwX0_wipe_0 ++ []
theorem dksX0_wipe_0 : cX0_wipe.data.toList.drop 0 = dktX0_wipe_0 := by decide +kernel
theorem dX0_wipe_0 : decode cX0_wipe 0 = .ok (.aload_n 0, 1) := dk_42 (dk_at dksX0_wipe_0 0 rfl rfl)
theorem dX0_wipe_1 : decode cX0_wipe 1 = .ok (.getfield 30, 3) := dk_180 0 30 (dk_at dksX0_wipe_0 1 rfl rfl)
theorem dX0_wipe_4 : decode cX0_wipe 4 = .ok (.invokevirtual 222, 3) := dk_182 0 222 (dk_at dksX0_wipe_0 4 rfl rfl)
theorem dX0_wipe_7 : decode cX0_wipe 7 = .ok (.istore_n 1, 1) := dk_60 (dk_at dksX0_wipe_0 7 rfl rfl)
theorem dX0_wipe_8 : decode cX0_wipe 8 = .ok (.aload_n 0, 1) := dk_42 (dk_at dksX0_wipe_0 8 rfl rfl)
theorem dX0_wipe_9 : decode cX0_wipe 9 = .ok (.getfield 30, 3) := dk_180 0 30 (dk_at dksX0_wipe_0 9 rfl rfl)
theorem dX0_wipe_12 : decode cX0_wipe 12 = .ok (.iconst 0, 1) := dk_3 (dk_at dksX0_wipe_0 12 rfl rfl)
theorem dX0_wipe_13 : decode cX0_wipe 13 = .ok (.invokevirtual 131, 3) := dk_182 0 131 (dk_at dksX0_wipe_0 13 rfl rfl)
theorem dX0_wipe_16 : decode cX0_wipe 16 = .ok (.iload_n 1, 1) := dk_27 (dk_at dksX0_wipe_0 16 rfl rfl)
theorem dX0_wipe_17 : decode cX0_wipe 17 = .ok (.ireturn, 1) := dk_172 (dk_at dksX0_wipe_0 17 rfl rfl)
abbrev cX0_fault : ByteArray := prog_1_method_33_code
def yX0_fault : MethodName := ⟨RX0, "fault", "()I"⟩
def dkwX0_fault_0 : List UInt8 := [42, 182, 0, 112, 87, 42, 180, 0, 247, 153, 0, 10, 42, 180, 0, 240, 167, 0, 5, 16, 250, 172]
abbrev dktX0_fault_0 : List UInt8 := dkwX0_fault_0 ++ []
theorem dksX0_fault_0 : cX0_fault.data.toList.drop 0 = dktX0_fault_0 := by decide +kernel
theorem dX0_fault_0 : decode cX0_fault 0 = .ok (.aload_n 0, 1) := dk_42 (dk_at dksX0_fault_0 0 rfl rfl)
theorem dX0_fault_1 : decode cX0_fault 1 = .ok (.invokevirtual 112, 3) := dk_182 0 112 (dk_at dksX0_fault_0 1 rfl rfl)
theorem dX0_fault_4 : decode cX0_fault 4 = .ok (.pop, 1) := dk_87 (dk_at dksX0_fault_0 4 rfl rfl)
theorem dX0_fault_5 : decode cX0_fault 5 = .ok (.aload_n 0, 1) := dk_42 (dk_at dksX0_fault_0 5 rfl rfl)
theorem dX0_fault_6 : decode cX0_fault 6 = .ok (.getfield 247, 3) := dk_180 0 247 (dk_at dksX0_fault_0 6 rfl rfl)
theorem dX0_fault_9 : decode cX0_fault 9 = .ok (.ifCond .eq 10, 3) := dk_153 0 10 (dk_at dksX0_fault_0 9 rfl rfl)
theorem dX0_fault_12 : decode cX0_fault 12 = .ok (.aload_n 0, 1) := dk_42 (dk_at dksX0_fault_0 12 rfl rfl)
theorem dX0_fault_13 : decode cX0_fault 13 = .ok (.getfield 240, 3) := dk_180 0 240 (dk_at dksX0_fault_0 13 rfl rfl)
theorem dX0_fault_16 : decode cX0_fault 16 = .ok (.goto 5, 3) := dk_167 0 5 (dk_at dksX0_fault_0 16 rfl rfl)
theorem dX0_fault_19 : decode cX0_fault 19 = .ok (.bipush (-6), 2) := dk_16 250 (dk_at dksX0_fault_0 19 rfl rfl)
theorem dX0_fault_21 : decode cX0_fault 21 = .ok (.ireturn, 1) := dk_172 (dk_at dksX0_fault_0 21 rfl rfl)
abbrev cX0_undo : ByteArray := prog_1_method_34_code
def yX0_undo : MethodName := ⟨RX0, "undo", "()I"⟩
def dkwX0_undo_2 : List UInt8 := [185, 0, 44, 1, 0, 172]
abbrev dktX0_undo_2 : List UInt8 := dkwX0_undo_2 ++ []
def dkwX0_undo_1 : List UInt8 := [185, 0, 44, 1, 0, 4, 100, 185, 0, 48, 2, 0, 192, 0, 7, 181, 0, 10, 42, 180, 0, 19]
abbrev dktX0_undo_1 : List UInt8 := dkwX0_undo_1 ++ dktX0_undo_2
def dkwX0_undo_0 : List UInt8 := [42, 180, 0, 19, 185, 1, 42, 1, 0, 153, 0, 6, 16, 251, 172, 42, 42, 180, 0, 19, 42, 180, 0, 19]
abbrev dktX0_undo_0 : List UInt8 := dkwX0_undo_0 ++ dktX0_undo_1
theorem dksX0_undo_0 : cX0_undo.data.toList.drop 0 = dktX0_undo_0 := by decide +kernel
theorem dksX0_undo_1 : cX0_undo.data.toList.drop 24 = dktX0_undo_1 := dk_seg dksX0_undo_0 24 rfl rfl
theorem dksX0_undo_2 : cX0_undo.data.toList.drop 46 = dktX0_undo_2 := dk_seg dksX0_undo_1 22 rfl rfl
theorem dX0_undo_0 : decode cX0_undo 0 = .ok (.aload_n 0, 1) := dk_42 (dk_at dksX0_undo_0 0 rfl rfl)
theorem dX0_undo_1 : decode cX0_undo 1 = .ok (.getfield 19, 3) := dk_180 0 19 (dk_at dksX0_undo_0 1 rfl rfl)
theorem dX0_undo_4 : decode cX0_undo 4 = .ok (.invokeinterface 298 1, 5) := by decide +kernel
theorem dX0_undo_9 : decode cX0_undo 9 = .ok (.ifCond .eq 6, 3) := dk_153 0 6 (dk_at dksX0_undo_0 9 rfl rfl)
theorem dX0_undo_12 : decode cX0_undo 12 = .ok (.bipush (-5), 2) := dk_16 251 (dk_at dksX0_undo_0 12 rfl rfl)
theorem dX0_undo_14 : decode cX0_undo 14 = .ok (.ireturn, 1) := dk_172 (dk_at dksX0_undo_0 14 rfl rfl)
theorem dX0_undo_15 : decode cX0_undo 15 = .ok (.aload_n 0, 1) := dk_42 (dk_at dksX0_undo_0 15 rfl rfl)
theorem dX0_undo_16 : decode cX0_undo 16 = .ok (.aload_n 0, 1) := dk_42 (dk_at dksX0_undo_0 16 rfl rfl)
theorem dX0_undo_17 : decode cX0_undo 17 = .ok (.getfield 19, 3) := dk_180 0 19 (dk_at dksX0_undo_0 17 rfl rfl)
theorem dX0_undo_20 : decode cX0_undo 20 = .ok (.aload_n 0, 1) := dk_42 (dk_at dksX0_undo_0 20 rfl rfl)
theorem dX0_undo_21 : decode cX0_undo 21 = .ok (.getfield 19, 3) := dk_180 0 19 (dk_at dksX0_undo_0 21 rfl rfl)
theorem dX0_undo_24 : decode cX0_undo 24 = .ok (.invokeinterface 44 1, 5) := by decide +kernel
theorem dX0_undo_29 : decode cX0_undo 29 = .ok (.iconst 1, 1) := dk_4 (dk_at dksX0_undo_1 5 rfl rfl)
theorem dX0_undo_30 : decode cX0_undo 30 = .ok (.isub, 1) := dk_100 (dk_at dksX0_undo_1 6 rfl rfl)
theorem dX0_undo_31 : decode cX0_undo 31 = .ok (.invokeinterface 48 2, 5) := by decide +kernel
theorem dX0_undo_36 : decode cX0_undo 36 = .ok (.checkcast 7, 3) := dk_192 0 7 (dk_at dksX0_undo_1 12 rfl rfl)
theorem dX0_undo_39 : decode cX0_undo 39 = .ok (.putfield 10, 3) := dk_181 0 10 (dk_at dksX0_undo_1 15 rfl rfl)
theorem dX0_undo_42 : decode cX0_undo 42 = .ok (.aload_n 0, 1) := dk_42 (dk_at dksX0_undo_1 18 rfl rfl)
theorem dX0_undo_43 : decode cX0_undo 43 = .ok (.getfield 19, 3) := dk_180 0 19 (dk_at dksX0_undo_1 19 rfl rfl)
theorem dX0_undo_46 : decode cX0_undo 46 = .ok (.invokeinterface 44 1, 5) := by decide +kernel
theorem dX0_undo_51 : decode cX0_undo 51 = .ok (.ireturn, 1) := dk_172 (dk_at dksX0_undo_2 5 rfl rfl)
abbrev cX0_save : ByteArray := prog_1_method_35_code
def yX0_save : MethodName := ⟨RX0, "save", "(I)I"⟩
def dkwX0_save_1 : List UInt8 := [83, 42, 180, 0, 10, 180, 0, 65, 180, 0, 69, 185, 0, 44, 1, 0, 172]
abbrev dktX0_save_1 : List UInt8 := dkwX0_save_1 ++ []
def dkwX0_save_0 : List UInt8 := [27, 3, 4, 184, 0, 58, 154, 0, 6, 16, 254, 172, 42, 180, 0, 23, 27, 42, 180, 0, 10, 182, 0, 34]
abbrev dktX0_save_0 : List UInt8 := dkwX0_save_0 ++ dktX0_save_1
theorem dksX0_save_0 : cX0_save.data.toList.drop 0 = dktX0_save_0 := by decide +kernel
theorem dksX0_save_1 : cX0_save.data.toList.drop 24 = dktX0_save_1 := dk_seg dksX0_save_0 24 rfl rfl
theorem dX0_save_0 : decode cX0_save 0 = .ok (.iload_n 1, 1) := dk_27 (dk_at dksX0_save_0 0 rfl rfl)
theorem dX0_save_1 : decode cX0_save 1 = .ok (.iconst 0, 1) := dk_3 (dk_at dksX0_save_0 1 rfl rfl)
theorem dX0_save_2 : decode cX0_save 2 = .ok (.iconst 1, 1) := dk_4 (dk_at dksX0_save_0 2 rfl rfl)
theorem dX0_save_3 : decode cX0_save 3 = .ok (.invokestatic 58, 3) := dk_184 0 58 (dk_at dksX0_save_0 3 rfl rfl)
theorem dX0_save_6 : decode cX0_save 6 = .ok (.ifCond .ne 6, 3) := dk_154 0 6 (dk_at dksX0_save_0 6 rfl rfl)
theorem dX0_save_9 : decode cX0_save 9 = .ok (.bipush (-2), 2) := dk_16 254 (dk_at dksX0_save_0 9 rfl rfl)
theorem dX0_save_11 : decode cX0_save 11 = .ok (.ireturn, 1) := dk_172 (dk_at dksX0_save_0 11 rfl rfl)
theorem dX0_save_12 : decode cX0_save 12 = .ok (.aload_n 0, 1) := dk_42 (dk_at dksX0_save_0 12 rfl rfl)
theorem dX0_save_13 : decode cX0_save 13 = .ok (.getfield 23, 3) := dk_180 0 23 (dk_at dksX0_save_0 13 rfl rfl)
theorem dX0_save_16 : decode cX0_save 16 = .ok (.iload_n 1, 1) := dk_27 (dk_at dksX0_save_0 16 rfl rfl)
theorem dX0_save_17 : decode cX0_save 17 = .ok (.aload_n 0, 1) := dk_42 (dk_at dksX0_save_0 17 rfl rfl)
theorem dX0_save_18 : decode cX0_save 18 = .ok (.getfield 10, 3) := dk_180 0 10 (dk_at dksX0_save_0 18 rfl rfl)
theorem dX0_save_21 : decode cX0_save 21 = .ok (.invokevirtual 34, 3) := dk_182 0 34 (dk_at dksX0_save_0 21 rfl rfl)
theorem dX0_save_24 : decode cX0_save 24 = .ok (.aastore, 1) := dk_83 (dk_at dksX0_save_1 0 rfl rfl)
theorem dX0_save_25 : decode cX0_save 25 = .ok (.aload_n 0, 1) := dk_42 (dk_at dksX0_save_1 1 rfl rfl)
theorem dX0_save_26 : decode cX0_save 26 = .ok (.getfield 10, 3) := dk_180 0 10 (dk_at dksX0_save_1 2 rfl rfl)
theorem dX0_save_29 : decode cX0_save 29 = .ok (.getfield 65, 3) := dk_180 0 65 (dk_at dksX0_save_1 5 rfl rfl)
theorem dX0_save_32 : decode cX0_save 32 = .ok (.getfield 69, 3) := dk_180 0 69 (dk_at dksX0_save_1 8 rfl rfl)
theorem dX0_save_35 : decode cX0_save 35 = .ok (.invokeinterface 44 1, 5) := by decide +kernel
theorem dX0_save_40 : decode cX0_save 40 = .ok (.ireturn, 1) := dk_172 (dk_at dksX0_save_1 16 rfl rfl)
abbrev cX0_restore : ByteArray := prog_1_method_36_code
def yX0_restore : MethodName := ⟨RX0, "restore", "(I)I"⟩
def dkwX0_restore_2 : List UInt8 := [180, 0, 69, 185, 0, 44, 1, 0, 172]
abbrev dktX0_restore_2 : List UInt8 := dkwX0_restore_2 ++ []
def dkwX0_restore_1 : List UInt8 := [42, 182, 0, 74, 42, 42, 180, 0, 23, 27, 50, 182, 0, 34, 181, 0, 10, 42, 180, 0, 10, 180, 0, 65]
abbrev dktX0_restore_1 : List UInt8 := dkwX0_restore_1 ++ dktX0_restore_2
def dkwX0_restore_0 : List UInt8 := [27, 3, 4, 184, 0, 58, 154, 0, 6, 16, 254, 172, 42, 180, 0, 23, 27, 50, 199, 0, 6, 16, 251, 172]
abbrev dktX0_restore_0 : List UInt8 := dkwX0_restore_0 ++ dktX0_restore_1
theorem dksX0_restore_0 : cX0_restore.data.toList.drop 0 = dktX0_restore_0 := by decide +kernel
theorem dksX0_restore_1 : cX0_restore.data.toList.drop 24 = dktX0_restore_1 := dk_seg dksX0_restore_0 24 rfl rfl
theorem dksX0_restore_2 : cX0_restore.data.toList.drop 48 = dktX0_restore_2 := dk_seg dksX0_restore_1 24 rfl rfl
theorem dX0_restore_0 : decode cX0_restore 0 = .ok (.iload_n 1, 1) := dk_27 (dk_at dksX0_restore_0 0 rfl rfl)
theorem dX0_restore_1 : decode cX0_restore 1 = .ok (.iconst 0, 1) := dk_3 (dk_at dksX0_restore_0 1 rfl rfl)
theorem dX0_restore_2 : decode cX0_restore 2 = .ok (.iconst 1, 1) := dk_4 (dk_at dksX0_restore_0 2 rfl rfl)
theorem dX0_restore_3 : decode cX0_restore 3 = .ok (.invokestatic 58, 3) := dk_184 0 58 (dk_at dksX0_restore_0 3 rfl rfl)
theorem dX0_restore_6 : decode cX0_restore 6 = .ok (.ifCond .ne 6, 3) := dk_154 0 6 (dk_at dksX0_restore_0 6 rfl rfl)
theorem dX0_restore_9 : decode cX0_restore 9 = .ok (.bipush (-2), 2) := dk_16 254 (dk_at dksX0_restore_0 9 rfl rfl)
theorem dX0_restore_11 : decode cX0_restore 11 = .ok (.ireturn, 1) := dk_172 (dk_at dksX0_restore_0 11 rfl rfl)
theorem dX0_restore_12 : decode cX0_restore 12 = .ok (.aload_n 0, 1) := dk_42 (dk_at dksX0_restore_0 12 rfl rfl)
theorem dX0_restore_13 : decode cX0_restore 13 = .ok (.getfield 23, 3) := dk_180 0 23 (dk_at dksX0_restore_0 13 rfl rfl)
theorem dX0_restore_16 : decode cX0_restore 16 = .ok (.iload_n 1, 1) := dk_27 (dk_at dksX0_restore_0 16 rfl rfl)
theorem dX0_restore_17 : decode cX0_restore 17 = .ok (.aaload, 1) := dk_50 (dk_at dksX0_restore_0 17 rfl rfl)
theorem dX0_restore_18 : decode cX0_restore 18 = .ok (.ifnonnull 6, 3) := dk_199 0 6 (dk_at dksX0_restore_0 18 rfl rfl)
theorem dX0_restore_21 : decode cX0_restore 21 = .ok (.bipush (-5), 2) := dk_16 251 (dk_at dksX0_restore_0 21 rfl rfl)
theorem dX0_restore_23 : decode cX0_restore 23 = .ok (.ireturn, 1) := dk_172 (dk_at dksX0_restore_0 23 rfl rfl)
theorem dX0_restore_24 : decode cX0_restore 24 = .ok (.aload_n 0, 1) := dk_42 (dk_at dksX0_restore_1 0 rfl rfl)
theorem dX0_restore_25 : decode cX0_restore 25 = .ok (.invokevirtual 74, 3) := dk_182 0 74 (dk_at dksX0_restore_1 1 rfl rfl)
theorem dX0_restore_28 : decode cX0_restore 28 = .ok (.aload_n 0, 1) := dk_42 (dk_at dksX0_restore_1 4 rfl rfl)
theorem dX0_restore_29 : decode cX0_restore 29 = .ok (.aload_n 0, 1) := dk_42 (dk_at dksX0_restore_1 5 rfl rfl)
theorem dX0_restore_30 : decode cX0_restore 30 = .ok (.getfield 23, 3) := dk_180 0 23 (dk_at dksX0_restore_1 6 rfl rfl)
theorem dX0_restore_33 : decode cX0_restore 33 = .ok (.iload_n 1, 1) := dk_27 (dk_at dksX0_restore_1 9 rfl rfl)
theorem dX0_restore_34 : decode cX0_restore 34 = .ok (.aaload, 1) := dk_50 (dk_at dksX0_restore_1 10 rfl rfl)
theorem dX0_restore_35 : decode cX0_restore 35 = .ok (.invokevirtual 34, 3) := dk_182 0 34 (dk_at dksX0_restore_1 11 rfl rfl)
theorem dX0_restore_38 : decode cX0_restore 38 = .ok (.putfield 10, 3) := dk_181 0 10 (dk_at dksX0_restore_1 14 rfl rfl)
theorem dX0_restore_41 : decode cX0_restore 41 = .ok (.aload_n 0, 1) := dk_42 (dk_at dksX0_restore_1 17 rfl rfl)
theorem dX0_restore_42 : decode cX0_restore 42 = .ok (.getfield 10, 3) := dk_180 0 10 (dk_at dksX0_restore_1 18 rfl rfl)
theorem dX0_restore_45 : decode cX0_restore 45 = .ok (.getfield 65, 3) := dk_180 0 65 (dk_at dksX0_restore_1 21 rfl rfl)
theorem dX0_restore_48 : decode cX0_restore 48 = .ok (.getfield 69, 3) := dk_180 0 69 (dk_at dksX0_restore_2 0 rfl rfl)
theorem dX0_restore_51 : decode cX0_restore 51 = .ok (.invokeinterface 44 1, 5) := by decide +kernel
theorem dX0_restore_56 : decode cX0_restore 56 = .ok (.ireturn, 1) := dk_172 (dk_at dksX0_restore_2 8 rfl rfl)
theorem q42 : (Jvm.Cond.initialized "LayeredCharters") ∈ lw_all := lw_g (lw_at lw_m1 1 rfl) rfl
theorem q66 : (Jvm.Cond.instantiable "LayeredCharters" (6 : Nat)) ∈ lw_all := lw_g (lw_at lw_m1 25 rfl) rfl
theorem q68 : (Jvm.Cond.instanceMethod ({ cls := "LayeredCharters", name := "<init>", desc := "()V" } : Jvm.MethodName)) ∈ lw_all := lw_g (lw_at lw_m1 27 rfl) rfl
theorem q69 : (Jvm.Cond.code ({ cls := "LayeredCharters", name := "<init>", desc := "()V" } : Jvm.MethodName) prog_1_method_1_code (1 : Nat) (Option.none : Option Jvm.ClassFile.FieldType)) ∈ lw_all := lw_g (lw_at lw_m1 28 rfl) rfl
theorem q70 : (Jvm.Cond.methodLink "LayeredCharters" (1 : Nat) ({ cls := "java/lang/Object", name := "<init>", desc := "()V" } : Jvm.MethodName)) ∈ lw_all := lw_g (lw_at lw_m1 29 rfl) rfl
theorem q73 : (Jvm.Cond.classLink "LayeredCharters" (7 : Nat) "LayeredCharters$Guild") ∈ lw_all := lw_g (lw_at lw_m1 32 rfl) rfl
theorem q75 : (Jvm.Cond.methodLinkNest "LayeredCharters" (9 : Nat) ({ cls := "LayeredCharters$Guild", name := "<init>", desc := "()V" } : Jvm.MethodName) "LayeredCharters") ∈ lw_tbl := lw_at lw_m1 34 rfl
theorem q112 : (Jvm.Cond.fieldLink "LayeredCharters" (69 : Nat) "LayeredCharters$Charter" "rules" "Ljava/util/List;") ∈ lw_all := lw_g (lw_at lw_m1 71 rfl) rfl
theorem q120 : (Jvm.Cond.fieldLink "LayeredCharters" (65 : Nat) "LayeredCharters$Guild" "charter" "LLayeredCharters$Charter;") ∈ lw_all := lw_g (lw_at lw_m1 79 rfl) rfl
theorem q122 : (Jvm.Cond.fieldLink "LayeredCharters" (144 : Nat) "LayeredCharters$Guild" "members" "Ljava/util/List;") ∈ lw_all := lw_g (lw_at lw_m1 81 rfl) rfl
theorem q124 : (Jvm.Cond.fieldLink "LayeredCharters" (218 : Nat) "LayeredCharters$Guild" "done" "I") ∈ lw_all := lw_g (lw_at lw_m1 83 rfl) rfl
theorem q126 : (Jvm.Cond.fieldLink "LayeredCharters" (205 : Nat) "LayeredCharters$Guild" "byLayers" "[I") ∈ lw_all := lw_g (lw_at lw_m1 85 rfl) rfl
theorem q128 : (Jvm.Cond.fieldLink "LayeredCharters" (219 : Nat) "LayeredCharters$Guild" "notPermitted" "I") ∈ lw_all := lw_g (lw_at lw_m1 87 rfl) rfl
theorem q141 : (Jvm.Cond.classLink "LayeredCharters" (16 : Nat) "java/util/ArrayList") ∈ lw_all := lw_g (lw_at lw_m1 100 rfl) rfl
theorem q142 : (Jvm.Cond.methodLink "LayeredCharters" (18 : Nat) ({ cls := "java/util/ArrayList", name := "<init>", desc := "()V" } : Jvm.MethodName)) ∈ lw_all := lw_g (lw_at lw_m1 101 rfl) rfl
theorem q144 : (Jvm.Cond.classLink "LayeredCharters" (27 : Nat) "java/lang/StringBuilder") ∈ lw_all := lw_g (lw_at lw_m1 103 rfl) rfl
theorem q146 : (Jvm.Cond.methodLink "LayeredCharters" (29 : Nat) ({ cls := "java/lang/StringBuilder", name := "<init>", desc := "()V" } : Jvm.MethodName)) ∈ lw_all := lw_g (lw_at lw_m1 105 rfl) rfl
theorem q177 : (Jvm.Cond.fieldLink "LayeredCharters" (10 : Nat) "LayeredCharters" "guild" "LLayeredCharters$Guild;") ∈ lw_all := lw_g (lw_at lw_m1 136 rfl) rfl
theorem q178 : (Jvm.Cond.fieldLink "LayeredCharters" (19 : Nat) "LayeredCharters" "history" "Ljava/util/List;") ∈ lw_all := lw_g (lw_at lw_m1 137 rfl) rfl
theorem q179 : (Jvm.Cond.fieldLink "LayeredCharters" (23 : Nat) "LayeredCharters" "slots" "[LLayeredCharters$Guild;") ∈ lw_all := lw_g (lw_at lw_m1 138 rfl) rfl
theorem q180 : (Jvm.Cond.fieldLink "LayeredCharters" (30 : Nat) "LayeredCharters" "pad" "Ljava/lang/StringBuilder;") ∈ lw_all := lw_g (lw_at lw_m1 139 rfl) rfl
theorem q181 : (Jvm.Cond.fieldLink "LayeredCharters" (240 : Nat) "LayeredCharters" "place" "I") ∈ lw_all := lw_g (lw_at lw_m1 140 rfl) rfl
theorem q182 : (Jvm.Cond.fieldLink "LayeredCharters" (247 : Nat) "LayeredCharters" "isWrong" "Z") ∈ lw_all := lw_g (lw_at lw_m1 141 rfl) rfl
theorem q183 : (Jvm.Cond.lays "LayeredCharters" "LayeredCharters" "guild" "LLayeredCharters$Guild;") ∈ lw_all := lw_g (lw_at lw_m1 142 rfl) rfl
theorem q184 : (Jvm.Cond.soleField "LayeredCharters" "guild") ∈ lw_all := lw_g (lw_at lw_m1 143 rfl) rfl
theorem q185 : (Jvm.Cond.laysFinal "LayeredCharters" "LayeredCharters" "history" "Ljava/util/List;") ∈ lw_all := lw_g (lw_at lw_m1 144 rfl) rfl
theorem q186 : (Jvm.Cond.soleField "LayeredCharters" "history") ∈ lw_all := lw_g (lw_at lw_m1 145 rfl) rfl
theorem q187 : (Jvm.Cond.laysFinal "LayeredCharters" "LayeredCharters" "slots" "[LLayeredCharters$Guild;") ∈ lw_all := lw_g (lw_at lw_m1 146 rfl) rfl
theorem q188 : (Jvm.Cond.soleField "LayeredCharters" "slots") ∈ lw_all := lw_g (lw_at lw_m1 147 rfl) rfl
theorem q189 : (Jvm.Cond.laysFinal "LayeredCharters" "LayeredCharters" "pad" "Ljava/lang/StringBuilder;") ∈ lw_all := lw_g (lw_at lw_m1 148 rfl) rfl
theorem q190 : (Jvm.Cond.soleField "LayeredCharters" "pad") ∈ lw_all := lw_g (lw_at lw_m1 149 rfl) rfl
theorem q191 : (Jvm.Cond.lays "LayeredCharters" "LayeredCharters" "place" "I") ∈ lw_all := lw_g (lw_at lw_m1 150 rfl) rfl
theorem q192 : (Jvm.Cond.soleField "LayeredCharters" "place") ∈ lw_all := lw_g (lw_at lw_m1 151 rfl) rfl
theorem q193 : (Jvm.Cond.lays "LayeredCharters" "LayeredCharters" "isWrong" "Z") ∈ lw_all := lw_g (lw_at lw_m1 152 rfl) rfl
theorem q194 : (Jvm.Cond.soleField "LayeredCharters" "isWrong") ∈ lw_all := lw_g (lw_at lw_m1 153 rfl) rfl
theorem q195 : (Jvm.Cond.superclass "LayeredCharters" "java/lang/Object") ∈ lw_all := lw_g (lw_at lw_m1 154 rfl) rfl
theorem q197 : (Jvm.Cond.instanceMethod ({ cls := "LayeredCharters", name := "add", desc := "(IIIII)I" } : Jvm.MethodName)) ∈ lw_all := lw_g (lw_at lw_m1 156 rfl) rfl
theorem q198 : (Jvm.Cond.selects "LayeredCharters" ({ cls := "LayeredCharters", name := "add", desc := "(IIIII)I" } : Jvm.MethodName) ({ cls := "LayeredCharters", name := "add", desc := "(IIIII)I" } : Jvm.MethodName)) ∈ lw_all := lw_g (lw_at lw_m1 157 rfl) rfl
theorem q199 : (Jvm.Cond.code ({ cls := "LayeredCharters", name := "add", desc := "(IIIII)I" } : Jvm.MethodName) prog_1_method_3_code (6 : Nat) (Option.some Jvm.ClassFile.FieldType.int)) ∈ lw_all := lw_g (lw_at lw_m1 158 rfl) rfl
theorem q200 : (Jvm.Cond.methodLink "LayeredCharters" (52 : Nat) ({ cls := "LayeredCharters$Ranges", name := "isLayer", desc := "(I)Z" } : Jvm.MethodName)) ∈ lw_all := lw_g (lw_at lw_m1 159 rfl) rfl
theorem q206 : (Jvm.Cond.methodLink "LayeredCharters" (58 : Nat) ({ cls := "LayeredCharters$Ranges", name := "holds", desc := "(III)Z" } : Jvm.MethodName)) ∈ lw_all := lw_g (lw_at lw_m1 165 rfl) rfl
theorem q207 : (Jvm.Cond.methodLink "LayeredCharters" (62 : Nat) ({ cls := "LayeredCharters$Ranges", name := "isSeal", desc := "(I)Z" } : Jvm.MethodName)) ∈ lw_all := lw_g (lw_at lw_m1 166 rfl) rfl
theorem q210 : (Jvm.Cond.interfaceEntry "LayeredCharters" (44 : Nat)) ∈ lw_tbl := lw_at lw_m1 169 rfl
theorem q211 : (Jvm.Cond.methodLink "LayeredCharters" (44 : Nat) ({ cls := "java/util/List", name := "size", desc := "()I" } : Jvm.MethodName)) ∈ lw_all := lw_g (lw_at lw_m1 170 rfl) rfl
theorem q220 : (Jvm.Cond.methodLink "LayeredCharters" (74 : Nat) ({ cls := "LayeredCharters", name := "record", desc := "()V" } : Jvm.MethodName)) ∈ lw_all := lw_g (lw_at lw_m1 179 rfl) rfl
theorem q221 : (Jvm.Cond.privateMethod ({ cls := "LayeredCharters", name := "record", desc := "()V" } : Jvm.MethodName)) ∈ lw_tbl := lw_at lw_m1 180 rfl
theorem q222 : (Jvm.Cond.instanceMethod ({ cls := "LayeredCharters", name := "record", desc := "()V" } : Jvm.MethodName)) ∈ lw_all := lw_g (lw_at lw_m1 181 rfl) rfl
theorem q223 : (Jvm.Cond.code ({ cls := "LayeredCharters", name := "record", desc := "()V" } : Jvm.MethodName) prog_1_method_2_code (1 : Nat) (Option.none : Option Jvm.ClassFile.FieldType)) ∈ lw_all := lw_g (lw_at lw_m1 182 rfl) rfl
theorem q224 : (Jvm.Cond.methodLink "LayeredCharters" (34 : Nat) ({ cls := "LayeredCharters$Guild", name := "copy", desc := "()LLayeredCharters$Guild;" } : Jvm.MethodName)) ∈ lw_all := lw_g (lw_at lw_m1 183 rfl) rfl
theorem q261 : (Jvm.Cond.selects "LayeredCharters" ({ cls := "java/lang/Object", name := "getClass", desc := "()Ljava/lang/Class;" } : Jvm.MethodName) ({ cls := "java/lang/Object", name := "getClass", desc := "()Ljava/lang/Class;" } : Jvm.MethodName)) ∈ lw_all := lw_g (lw_at lw_m1 220 rfl) rfl
theorem q335 : (Jvm.Cond.fieldLink "LayeredCharters" (178 : Nat) "LayeredCharters$Member" "craft" "I") ∈ lw_all := lw_g (lw_at lw_m2 54 rfl) rfl
theorem q338 : (Jvm.Cond.fieldLink "LayeredCharters" (158 : Nat) "LayeredCharters$Member" "rank" "I") ∈ lw_all := lw_g (lw_at lw_m2 57 rfl) rfl
theorem q341 : (Jvm.Cond.fieldLink "LayeredCharters" (155 : Nat) "LayeredCharters$Member" "done" "I") ∈ lw_all := lw_g (lw_at lw_m2 60 rfl) rfl
theorem q344 : (Jvm.Cond.fieldLink "LayeredCharters" (187 : Nat) "LayeredCharters$Member" "refused" "I") ∈ lw_all := lw_g (lw_at lw_m2 63 rfl) rfl
theorem q371 : (Jvm.Cond.interfaceEntry "LayeredCharters" (38 : Nat)) ∈ lw_tbl := lw_at lw_m2 90 rfl
theorem q372 : (Jvm.Cond.methodLink "LayeredCharters" (38 : Nat) ({ cls := "java/util/List", name := "add", desc := "(Ljava/lang/Object;)Z" } : Jvm.MethodName)) ∈ lw_all := lw_g (lw_at lw_m2 91 rfl) rfl
theorem q373 : (Jvm.Cond.interfaceEntry "LayeredCharters" (48 : Nat)) ∈ lw_tbl := lw_at lw_m2 92 rfl
theorem q374 : (Jvm.Cond.methodLink "LayeredCharters" (48 : Nat) ({ cls := "java/util/List", name := "remove", desc := "(I)Ljava/lang/Object;" } : Jvm.MethodName)) ∈ lw_all := lw_g (lw_at lw_m2 93 rfl) rfl
theorem q386 : (Jvm.Cond.classLink "LayeredCharters" (77 : Nat) "LayeredCharters$Rule") ∈ lw_all := lw_g (lw_at lw_m2 105 rfl) rfl
theorem q388 : (Jvm.Cond.methodLink "LayeredCharters" (79 : Nat) ({ cls := "LayeredCharters$Rule", name := "<init>", desc := "(IIIII)V" } : Jvm.MethodName)) ∈ lw_all := lw_g (lw_at lw_m2 107 rfl) rfl
theorem q394 : (Jvm.Cond.fieldLink "LayeredCharters" (102 : Nat) "LayeredCharters$Rule" "layer" "I") ∈ lw_all := lw_g (lw_at lw_m2 113 rfl) rfl
theorem q398 : (Jvm.Cond.fieldLink "LayeredCharters" (88 : Nat) "LayeredCharters$Rule" "kind" "I") ∈ lw_all := lw_g (lw_at lw_m2 117 rfl) rfl
theorem q400 : (Jvm.Cond.fieldLink "LayeredCharters" (92 : Nat) "LayeredCharters$Rule" "craft" "I") ∈ lw_all := lw_g (lw_at lw_m2 119 rfl) rfl
theorem q402 : (Jvm.Cond.fieldLink "LayeredCharters" (95 : Nat) "LayeredCharters$Rule" "deed" "I") ∈ lw_all := lw_g (lw_at lw_m2 121 rfl) rfl
theorem q404 : (Jvm.Cond.fieldLink "LayeredCharters" (109 : Nat) "LayeredCharters$Rule" "seal" "I") ∈ lw_all := lw_g (lw_at lw_m2 123 rfl) rfl
theorem q418 : (Jvm.Cond.instanceMethod ({ cls := "LayeredCharters", name := "strike", desc := "(I)I" } : Jvm.MethodName)) ∈ lw_all := lw_g (lw_at lw_m2 137 rfl) rfl
theorem q419 : (Jvm.Cond.selects "LayeredCharters" ({ cls := "LayeredCharters", name := "strike", desc := "(I)I" } : Jvm.MethodName) ({ cls := "LayeredCharters", name := "strike", desc := "(I)I" } : Jvm.MethodName)) ∈ lw_all := lw_g (lw_at lw_m2 138 rfl) rfl
theorem q420 : (Jvm.Cond.code ({ cls := "LayeredCharters", name := "strike", desc := "(I)I" } : Jvm.MethodName) prog_1_method_4_code (2 : Nat) (Option.some Jvm.ClassFile.FieldType.int)) ∈ lw_all := lw_g (lw_at lw_m2 139 rfl) rfl
theorem q421 : (Jvm.Cond.methodLink "LayeredCharters" (82 : Nat) ({ cls := "LayeredCharters$Charter", name := "hasRule", desc := "(I)Z" } : Jvm.MethodName)) ∈ lw_all := lw_g (lw_at lw_m2 140 rfl) rfl
theorem q429 : (Jvm.Cond.instanceMethod ({ cls := "LayeredCharters", name := "seal", desc := "(II)I" } : Jvm.MethodName)) ∈ lw_all := lw_g (lw_at lw_m2 148 rfl) rfl
theorem q430 : (Jvm.Cond.selects "LayeredCharters" ({ cls := "LayeredCharters", name := "seal", desc := "(II)I" } : Jvm.MethodName) ({ cls := "LayeredCharters", name := "seal", desc := "(II)I" } : Jvm.MethodName)) ∈ lw_all := lw_g (lw_at lw_m2 149 rfl) rfl
theorem q431 : (Jvm.Cond.code ({ cls := "LayeredCharters", name := "seal", desc := "(II)I" } : Jvm.MethodName) prog_1_method_6_code (4 : Nat) (Option.some Jvm.ClassFile.FieldType.int)) ∈ lw_all := lw_g (lw_at lw_m2 150 rfl) rfl
theorem q432 : (Jvm.Cond.interfaceEntry "LayeredCharters" (85 : Nat)) ∈ lw_tbl := lw_at lw_m2 151 rfl
theorem q433 : (Jvm.Cond.methodLink "LayeredCharters" (85 : Nat) ({ cls := "java/util/List", name := "get", desc := "(I)Ljava/lang/Object;" } : Jvm.MethodName)) ∈ lw_all := lw_g (lw_at lw_m2 152 rfl) rfl
theorem q434 : (Jvm.Cond.methodLink "LayeredCharters" (105 : Nat) ({ cls := "LayeredCharters", name := "change", desc := "(III)V" } : Jvm.MethodName)) ∈ lw_all := lw_g (lw_at lw_m2 153 rfl) rfl
theorem q435 : (Jvm.Cond.privateMethod ({ cls := "LayeredCharters", name := "change", desc := "(III)V" } : Jvm.MethodName)) ∈ lw_tbl := lw_at lw_m2 154 rfl
theorem q436 : (Jvm.Cond.instanceMethod ({ cls := "LayeredCharters", name := "change", desc := "(III)V" } : Jvm.MethodName)) ∈ lw_all := lw_g (lw_at lw_m2 155 rfl) rfl
theorem q437 : (Jvm.Cond.code ({ cls := "LayeredCharters", name := "change", desc := "(III)V" } : Jvm.MethodName) prog_1_method_5_code (5 : Nat) (Option.none : Option Jvm.ClassFile.FieldType)) ∈ lw_all := lw_g (lw_at lw_m2 156 rfl) rfl
theorem q438 : (Jvm.Cond.interfaceEntry "LayeredCharters" (98 : Nat)) ∈ lw_tbl := lw_at lw_m2 157 rfl
theorem q439 : (Jvm.Cond.methodLink "LayeredCharters" (98 : Nat) ({ cls := "java/util/List", name := "set", desc := "(ILjava/lang/Object;)Ljava/lang/Object;" } : Jvm.MethodName)) ∈ lw_all := lw_g (lw_at lw_m2 158 rfl) rfl
theorem q448 : (Jvm.Cond.instanceMethod ({ cls := "LayeredCharters", name := "move", desc := "(II)I" } : Jvm.MethodName)) ∈ lw_all := lw_g (lw_at lw_m2 167 rfl) rfl
theorem q449 : (Jvm.Cond.selects "LayeredCharters" ({ cls := "LayeredCharters", name := "move", desc := "(II)I" } : Jvm.MethodName) ({ cls := "LayeredCharters", name := "move", desc := "(II)I" } : Jvm.MethodName)) ∈ lw_all := lw_g (lw_at lw_m2 168 rfl) rfl
theorem q450 : (Jvm.Cond.code ({ cls := "LayeredCharters", name := "move", desc := "(II)I" } : Jvm.MethodName) prog_1_method_7_code (4 : Nat) (Option.some Jvm.ClassFile.FieldType.int)) ∈ lw_all := lw_g (lw_at lw_m2 169 rfl) rfl
theorem q452 : (Jvm.Cond.instanceMethod ({ cls := "LayeredCharters", name := "read", desc := "()I" } : Jvm.MethodName)) ∈ lw_all := lw_g (lw_at lw_m2 171 rfl) rfl
theorem q453 : (Jvm.Cond.selects "LayeredCharters" ({ cls := "LayeredCharters", name := "read", desc := "()I" } : Jvm.MethodName) ({ cls := "LayeredCharters", name := "read", desc := "()I" } : Jvm.MethodName)) ∈ lw_all := lw_g (lw_at lw_m2 172 rfl) rfl
theorem q454 : (Jvm.Cond.code ({ cls := "LayeredCharters", name := "read", desc := "()I" } : Jvm.MethodName) prog_1_method_8_code (2 : Nat) (Option.some Jvm.ClassFile.FieldType.int)) ∈ lw_all := lw_g (lw_at lw_m2 173 rfl) rfl
theorem q455 : (Jvm.Cond.methodLink "LayeredCharters" (112 : Nat) ({ cls := "LayeredCharters", name := "readRules", desc := "()Ljava/util/Optional;" } : Jvm.MethodName)) ∈ lw_all := lw_g (lw_at lw_m2 174 rfl) rfl
theorem q456 : (Jvm.Cond.privateMethod ({ cls := "LayeredCharters", name := "readRules", desc := "()Ljava/util/Optional;" } : Jvm.MethodName)) ∈ lw_tbl := lw_at lw_m2 175 rfl
theorem q457 : (Jvm.Cond.instanceMethod ({ cls := "LayeredCharters", name := "readRules", desc := "()Ljava/util/Optional;" } : Jvm.MethodName)) ∈ lw_all := lw_g (lw_at lw_m2 176 rfl) rfl
theorem q458 : (Jvm.Cond.code ({ cls := "LayeredCharters", name := "readRules", desc := "()Ljava/util/Optional;" } : Jvm.MethodName) prog_1_method_30_code (2 : Nat) (Option.some (Jvm.ClassFile.FieldType.object "java/util/Optional"))) ∈ lw_all := lw_g (lw_at lw_m2 177 rfl) rfl
theorem q459 : (Jvm.Cond.methodLink "LayeredCharters" (269 : Nat) ({ cls := "LayeredCharters", name := "readRule", desc := "()LLayeredCharters$Rule;" } : Jvm.MethodName)) ∈ lw_all := lw_g (lw_at lw_m2 178 rfl) rfl
theorem q460 : (Jvm.Cond.privateMethod ({ cls := "LayeredCharters", name := "readRule", desc := "()LLayeredCharters$Rule;" } : Jvm.MethodName)) ∈ lw_tbl := lw_at lw_m2 179 rfl
theorem q461 : (Jvm.Cond.instanceMethod ({ cls := "LayeredCharters", name := "readRule", desc := "()LLayeredCharters$Rule;" } : Jvm.MethodName)) ∈ lw_all := lw_g (lw_at lw_m2 180 rfl) rfl
theorem q462 : (Jvm.Cond.code ({ cls := "LayeredCharters", name := "readRule", desc := "()LLayeredCharters$Rule;" } : Jvm.MethodName) prog_1_method_29_code (6 : Nat) (Option.some (Jvm.ClassFile.FieldType.object "LayeredCharters$Rule"))) ∈ lw_all := lw_g (lw_at lw_m2 181 rfl) rfl
theorem q463 : (Jvm.Cond.methodLink "LayeredCharters" (251 : Nat) ({ cls := "LayeredCharters", name := "sign", desc := "()C" } : Jvm.MethodName)) ∈ lw_all := lw_g (lw_at lw_m2 182 rfl) rfl
theorem q464 : (Jvm.Cond.privateMethod ({ cls := "LayeredCharters", name := "sign", desc := "()C" } : Jvm.MethodName)) ∈ lw_tbl := lw_at lw_m2 183 rfl
theorem q465 : (Jvm.Cond.instanceMethod ({ cls := "LayeredCharters", name := "sign", desc := "()C" } : Jvm.MethodName)) ∈ lw_all := lw_g (lw_at lw_m2 184 rfl) rfl
theorem q466 : (Jvm.Cond.code ({ cls := "LayeredCharters", name := "sign", desc := "()C" } : Jvm.MethodName) prog_1_method_26_code (1 : Nat) (Option.some Jvm.ClassFile.FieldType.char)) ∈ lw_all := lw_g (lw_at lw_m2 185 rfl) rfl
theorem q467 : (Jvm.Cond.methodLink "LayeredCharters" (222 : Nat) ({ cls := "java/lang/StringBuilder", name := "length", desc := "()I" } : Jvm.MethodName)) ∈ lw_all := lw_g (lw_at lw_m2 186 rfl) rfl
theorem q474 : (Jvm.Cond.methodLink "LayeredCharters" (243 : Nat) ({ cls := "java/lang/StringBuilder", name := "charAt", desc := "(I)C" } : Jvm.MethodName)) ∈ lw_all := lw_g (lw_at lw_m2 193 rfl) rfl
theorem q500 : (Jvm.Cond.methodLink "LayeredCharters" (255 : Nat) ({ cls := "LayeredCharters", name := "accept", desc := "(Z)V" } : Jvm.MethodName)) ∈ lw_all := lw_g (lw_at lw_m2 219 rfl) rfl
theorem q501 : (Jvm.Cond.privateMethod ({ cls := "LayeredCharters", name := "accept", desc := "(Z)V" } : Jvm.MethodName)) ∈ lw_tbl := lw_at lw_m2 220 rfl
theorem q502 : (Jvm.Cond.instanceMethod ({ cls := "LayeredCharters", name := "accept", desc := "(Z)V" } : Jvm.MethodName)) ∈ lw_all := lw_g (lw_at lw_m2 221 rfl) rfl
theorem q503 : (Jvm.Cond.code ({ cls := "LayeredCharters", name := "accept", desc := "(Z)V" } : Jvm.MethodName) prog_1_method_27_code (2 : Nat) (Option.none : Option Jvm.ClassFile.FieldType)) ∈ lw_all := lw_g (lw_at lw_m2 222 rfl) rfl
theorem q504 : (Jvm.Cond.stringRef "LayeredCharters" (259 : Nat) "pbw") ∈ lw_tbl := lw_at lw_m2 223 rfl
theorem q505 : (Jvm.Cond.methodLink "LayeredCharters" (261 : Nat) ({ cls := "java/lang/String", name := "indexOf", desc := "(I)I" } : Jvm.MethodName)) ∈ lw_all := lw_g (lw_at lw_m2 224 rfl) rfl
theorem q573 : (Jvm.Cond.methodLink "LayeredCharters" (266 : Nat) ({ cls := "LayeredCharters", name := "digitOrStar", desc := "(I)I" } : Jvm.MethodName)) ∈ lw_all := lw_g (lw_at lw_m3 52 rfl) rfl
theorem q574 : (Jvm.Cond.privateMethod ({ cls := "LayeredCharters", name := "digitOrStar", desc := "(I)I" } : Jvm.MethodName)) ∈ lw_tbl := lw_at lw_m3 53 rfl
theorem q575 : (Jvm.Cond.instanceMethod ({ cls := "LayeredCharters", name := "digitOrStar", desc := "(I)I" } : Jvm.MethodName)) ∈ lw_all := lw_g (lw_at lw_m3 54 rfl) rfl
theorem q576 : (Jvm.Cond.code ({ cls := "LayeredCharters", name := "digitOrStar", desc := "(I)I" } : Jvm.MethodName) prog_1_method_28_code (3 : Nat) (Option.some Jvm.ClassFile.FieldType.int)) ∈ lw_all := lw_g (lw_at lw_m3 55 rfl) rfl
theorem q577 : (Jvm.Cond.methodLink "LayeredCharters" (273 : Nat) ({ cls := "java/util/Optional", name := "empty", desc := "()Ljava/util/Optional;" } : Jvm.MethodName)) ∈ lw_all := lw_g (lw_at lw_m3 56 rfl) rfl
theorem q582 : (Jvm.Cond.methodLink "LayeredCharters" (276 : Nat) ({ cls := "java/util/Optional", name := "of", desc := "(Ljava/lang/Object;)Ljava/util/Optional;" } : Jvm.MethodName)) ∈ lw_all := lw_g (lw_at lw_m3 61 rfl) rfl
theorem q598 : (Jvm.Cond.methodLink "LayeredCharters" (116 : Nat) ({ cls := "java/util/Optional", name := "isPresent", desc := "()Z" } : Jvm.MethodName)) ∈ lw_all := lw_g (lw_at lw_m3 77 rfl) rfl
theorem q602 : (Jvm.Cond.methodLink "LayeredCharters" (122 : Nat) ({ cls := "java/util/Optional", name := "get", desc := "()Ljava/lang/Object;" } : Jvm.MethodName)) ∈ lw_all := lw_g (lw_at lw_m3 81 rfl) rfl
theorem q606 : (Jvm.Cond.classLink "LayeredCharters" (39 : Nat) "java/util/List") ∈ lw_all := lw_g (lw_at lw_m3 85 rfl) rfl
theorem q607 : (Jvm.Cond.classLink "LayeredCharters" (125 : Nat) "java/util/Collection") ∈ lw_all := lw_g (lw_at lw_m3 86 rfl) rfl
theorem q608 : (Jvm.Cond.interfaceEntry "LayeredCharters" (127 : Nat)) ∈ lw_tbl := lw_at lw_m3 87 rfl
theorem q609 : (Jvm.Cond.methodLink "LayeredCharters" (127 : Nat) ({ cls := "java/util/List", name := "addAll", desc := "(Ljava/util/Collection;)Z" } : Jvm.MethodName)) ∈ lw_all := lw_g (lw_at lw_m3 88 rfl) rfl
theorem q610 : (Jvm.Cond.methodLink "LayeredCharters" (131 : Nat) ({ cls := "java/lang/StringBuilder", name := "setLength", desc := "(I)V" } : Jvm.MethodName)) ∈ lw_all := lw_g (lw_at lw_m3 89 rfl) rfl
theorem q656 : (Jvm.Cond.instanceMethod ({ cls := "LayeredCharters", name := "tidy", desc := "()I" } : Jvm.MethodName)) ∈ lw_all := lw_g (lw_at lw_m3 135 rfl) rfl
theorem q657 : (Jvm.Cond.selects "LayeredCharters" ({ cls := "LayeredCharters", name := "tidy", desc := "()I" } : Jvm.MethodName) ({ cls := "LayeredCharters", name := "tidy", desc := "()I" } : Jvm.MethodName)) ∈ lw_all := lw_g (lw_at lw_m3 136 rfl) rfl
theorem q658 : (Jvm.Cond.code ({ cls := "LayeredCharters", name := "tidy", desc := "()I" } : Jvm.MethodName) prog_1_method_9_code (3 : Nat) (Option.some Jvm.ClassFile.FieldType.int)) ∈ lw_all := lw_g (lw_at lw_m3 137 rfl) rfl
theorem q659 : (Jvm.Cond.methodLink "LayeredCharters" (135 : Nat) ({ cls := "LayeredCharters$Charter", name := "firstIdle", desc := "()I" } : Jvm.MethodName)) ∈ lw_all := lw_g (lw_at lw_m3 138 rfl) rfl
theorem q699 : (Jvm.Cond.instanceMethod ({ cls := "LayeredCharters", name := "join", desc := "(II)I" } : Jvm.MethodName)) ∈ lw_all := lw_g (lw_at lw_m3 178 rfl) rfl
theorem q700 : (Jvm.Cond.selects "LayeredCharters" ({ cls := "LayeredCharters", name := "join", desc := "(II)I" } : Jvm.MethodName) ({ cls := "LayeredCharters", name := "join", desc := "(II)I" } : Jvm.MethodName)) ∈ lw_all := lw_g (lw_at lw_m3 179 rfl) rfl
theorem q701 : (Jvm.Cond.code ({ cls := "LayeredCharters", name := "join", desc := "(II)I" } : Jvm.MethodName) prog_1_method_10_code (3 : Nat) (Option.some Jvm.ClassFile.FieldType.int)) ∈ lw_all := lw_g (lw_at lw_m3 180 rfl) rfl
theorem q702 : (Jvm.Cond.methodLink "LayeredCharters" (138 : Nat) ({ cls := "LayeredCharters$Ranges", name := "isCraft", desc := "(I)Z" } : Jvm.MethodName)) ∈ lw_all := lw_g (lw_at lw_m3 181 rfl) rfl
theorem q705 : (Jvm.Cond.methodLink "LayeredCharters" (141 : Nat) ({ cls := "LayeredCharters$Ranges", name := "isRank", desc := "(I)Z" } : Jvm.MethodName)) ∈ lw_all := lw_g (lw_at lw_m3 184 rfl) rfl
theorem q708 : (Jvm.Cond.classLink "LayeredCharters" (147 : Nat) "LayeredCharters$Member") ∈ lw_all := lw_g (lw_at lw_m3 187 rfl) rfl
theorem q709 : (Jvm.Cond.methodLink "LayeredCharters" (149 : Nat) ({ cls := "LayeredCharters$Member", name := "<init>", desc := "(II)V" } : Jvm.MethodName)) ∈ lw_all := lw_g (lw_at lw_m3 188 rfl) rfl
theorem q711 : (Jvm.Cond.instanceMethod ({ cls := "LayeredCharters", name := "leave", desc := "(I)I" } : Jvm.MethodName)) ∈ lw_all := lw_g (lw_at lw_m3 190 rfl) rfl
theorem q712 : (Jvm.Cond.selects "LayeredCharters" ({ cls := "LayeredCharters", name := "leave", desc := "(I)I" } : Jvm.MethodName) ({ cls := "LayeredCharters", name := "leave", desc := "(I)I" } : Jvm.MethodName)) ∈ lw_all := lw_g (lw_at lw_m3 191 rfl) rfl
theorem q713 : (Jvm.Cond.code ({ cls := "LayeredCharters", name := "leave", desc := "(I)I" } : Jvm.MethodName) prog_1_method_11_code (2 : Nat) (Option.some Jvm.ClassFile.FieldType.int)) ∈ lw_all := lw_g (lw_at lw_m3 192 rfl) rfl
theorem q714 : (Jvm.Cond.methodLink "LayeredCharters" (152 : Nat) ({ cls := "LayeredCharters$Guild", name := "hasMember", desc := "(I)Z" } : Jvm.MethodName)) ∈ lw_all := lw_g (lw_at lw_m3 193 rfl) rfl
theorem q720 : (Jvm.Cond.instanceMethod ({ cls := "LayeredCharters", name := "rank", desc := "(II)I" } : Jvm.MethodName)) ∈ lw_all := lw_g (lw_at lw_m3 199 rfl) rfl
theorem q721 : (Jvm.Cond.selects "LayeredCharters" ({ cls := "LayeredCharters", name := "rank", desc := "(II)I" } : Jvm.MethodName) ({ cls := "LayeredCharters", name := "rank", desc := "(II)I" } : Jvm.MethodName)) ∈ lw_all := lw_g (lw_at lw_m3 200 rfl) rfl
theorem q722 : (Jvm.Cond.code ({ cls := "LayeredCharters", name := "rank", desc := "(II)I" } : Jvm.MethodName) prog_1_method_12_code (4 : Nat) (Option.some Jvm.ClassFile.FieldType.int)) ∈ lw_all := lw_g (lw_at lw_m3 201 rfl) rfl
theorem q724 : (Jvm.Cond.instanceMethod ({ cls := "LayeredCharters", name := "act", desc := "(II)I" } : Jvm.MethodName)) ∈ lw_all := lw_g (lw_at lw_m3 203 rfl) rfl
theorem q725 : (Jvm.Cond.selects "LayeredCharters" ({ cls := "LayeredCharters", name := "act", desc := "(II)I" } : Jvm.MethodName) ({ cls := "LayeredCharters", name := "act", desc := "(II)I" } : Jvm.MethodName)) ∈ lw_all := lw_g (lw_at lw_m3 204 rfl) rfl
theorem q726 : (Jvm.Cond.code ({ cls := "LayeredCharters", name := "act", desc := "(II)I" } : Jvm.MethodName) prog_1_method_13_code (3 : Nat) (Option.some Jvm.ClassFile.FieldType.int)) ∈ lw_all := lw_g (lw_at lw_m3 205 rfl) rfl
theorem q727 : (Jvm.Cond.methodLink "LayeredCharters" (161 : Nat) ({ cls := "LayeredCharters$Ranges", name := "isDeed", desc := "(I)Z" } : Jvm.MethodName)) ∈ lw_all := lw_g (lw_at lw_m3 206 rfl) rfl
theorem q730 : (Jvm.Cond.methodLink "LayeredCharters" (164 : Nat) ({ cls := "LayeredCharters$Guild", name := "act", desc := "(LLayeredCharters$Member;I)I" } : Jvm.MethodName)) ∈ lw_all := lw_g (lw_at lw_m3 209 rfl) rfl
theorem q758 : (Jvm.Cond.instanceMethod ({ cls := "LayeredCharters", name := "rule", desc := "(II)I" } : Jvm.MethodName)) ∈ lw_all := lw_g (lw_at lw_m3 237 rfl) rfl
theorem q759 : (Jvm.Cond.selects "LayeredCharters" ({ cls := "LayeredCharters", name := "rule", desc := "(II)I" } : Jvm.MethodName) ({ cls := "LayeredCharters", name := "rule", desc := "(II)I" } : Jvm.MethodName)) ∈ lw_all := lw_g (lw_at lw_m3 238 rfl) rfl
theorem q760 : (Jvm.Cond.code ({ cls := "LayeredCharters", name := "rule", desc := "(II)I" } : Jvm.MethodName) prog_1_method_14_code (4 : Nat) (Option.some Jvm.ClassFile.FieldType.int)) ∈ lw_all := lw_g (lw_at lw_m3 239 rfl) rfl
theorem q761 : (Jvm.Cond.methodLink "LayeredCharters" (168 : Nat) ({ cls := "LayeredCharters$Charter", name := "isIdle", desc := "(I)Z" } : Jvm.MethodName)) ∈ lw_all := lw_g (lw_at lw_m4 0 rfl) rfl
theorem q762 : (Jvm.Cond.methodLink "LayeredCharters" (171 : Nat) ({ cls := "LayeredCharters$Charter", name := "odds", desc := "(I)I" } : Jvm.MethodName)) ∈ lw_all := lw_g (lw_at lw_m4 1 rfl) rfl
theorem q785 : (Jvm.Cond.methodLink "LayeredCharters" (175 : Nat) ({ cls := "LayeredCharters$Rule", name := "pairs", desc := "()I" } : Jvm.MethodName)) ∈ lw_all := lw_g (lw_at lw_m4 24 rfl) rfl
theorem q790 : (Jvm.Cond.instanceMethod ({ cls := "LayeredCharters", name := "member", desc := "(II)I" } : Jvm.MethodName)) ∈ lw_all := lw_g (lw_at lw_m4 29 rfl) rfl
theorem q791 : (Jvm.Cond.selects "LayeredCharters" ({ cls := "LayeredCharters", name := "member", desc := "(II)I" } : Jvm.MethodName) ({ cls := "LayeredCharters", name := "member", desc := "(II)I" } : Jvm.MethodName)) ∈ lw_all := lw_g (lw_at lw_m4 30 rfl) rfl
theorem q792 : (Jvm.Cond.code ({ cls := "LayeredCharters", name := "member", desc := "(II)I" } : Jvm.MethodName) prog_1_method_16_code (4 : Nat) (Option.some Jvm.ClassFile.FieldType.int)) ∈ lw_all := lw_g (lw_at lw_m4 31 rfl) rfl
theorem q793 : (Jvm.Cond.methodLink "LayeredCharters" (183 : Nat) ({ cls := "LayeredCharters", name := "allowedTo", desc := "(LLayeredCharters$Member;)I" } : Jvm.MethodName)) ∈ lw_all := lw_g (lw_at lw_m4 32 rfl) rfl
theorem q794 : (Jvm.Cond.privateMethod ({ cls := "LayeredCharters", name := "allowedTo", desc := "(LLayeredCharters$Member;)I" } : Jvm.MethodName)) ∈ lw_tbl := lw_at lw_m4 33 rfl
theorem q795 : (Jvm.Cond.instanceMethod ({ cls := "LayeredCharters", name := "allowedTo", desc := "(LLayeredCharters$Member;)I" } : Jvm.MethodName)) ∈ lw_all := lw_g (lw_at lw_m4 34 rfl) rfl
theorem q796 : (Jvm.Cond.code ({ cls := "LayeredCharters", name := "allowedTo", desc := "(LLayeredCharters$Member;)I" } : Jvm.MethodName) prog_1_method_15_code (4 : Nat) (Option.some Jvm.ClassFile.FieldType.int)) ∈ lw_all := lw_g (lw_at lw_m4 35 rfl) rfl
theorem q797 : (Jvm.Cond.methodLink "LayeredCharters" (179 : Nat) ({ cls := "LayeredCharters$Charter", name := "least", desc := "(II)I" } : Jvm.MethodName)) ∈ lw_all := lw_g (lw_at lw_m4 36 rfl) rfl
theorem q799 : (Jvm.Cond.instanceMethod ({ cls := "LayeredCharters", name := "allowed", desc := "(IIII)I" } : Jvm.MethodName)) ∈ lw_all := lw_g (lw_at lw_m4 38 rfl) rfl
theorem q800 : (Jvm.Cond.selects "LayeredCharters" ({ cls := "LayeredCharters", name := "allowed", desc := "(IIII)I" } : Jvm.MethodName) ({ cls := "LayeredCharters", name := "allowed", desc := "(IIII)I" } : Jvm.MethodName)) ∈ lw_all := lw_g (lw_at lw_m4 39 rfl) rfl
theorem q801 : (Jvm.Cond.code ({ cls := "LayeredCharters", name := "allowed", desc := "(IIII)I" } : Jvm.MethodName) prog_1_method_17_code (7 : Nat) (Option.some Jvm.ClassFile.FieldType.int)) ∈ lw_all := lw_g (lw_at lw_m4 40 rfl) rfl
theorem q802 : (Jvm.Cond.methodLink "LayeredCharters" (190 : Nat) ({ cls := "LayeredCharters$Charter", name := "isAllowedByLayers", desc := "(III)Z" } : Jvm.MethodName)) ∈ lw_all := lw_g (lw_at lw_m4 41 rfl) rfl
theorem q806 : (Jvm.Cond.methodLink "LayeredCharters" (193 : Nat) ({ cls := "LayeredCharters$Charter", name := "reason", desc := "(III)I" } : Jvm.MethodName)) ∈ lw_all := lw_g (lw_at lw_m4 45 rfl) rfl
theorem q808 : (Jvm.Cond.instanceMethod ({ cls := "LayeredCharters", name := "why", desc := "(III)I" } : Jvm.MethodName)) ∈ lw_all := lw_g (lw_at lw_m4 47 rfl) rfl
theorem q809 : (Jvm.Cond.selects "LayeredCharters" ({ cls := "LayeredCharters", name := "why", desc := "(III)I" } : Jvm.MethodName) ({ cls := "LayeredCharters", name := "why", desc := "(III)I" } : Jvm.MethodName)) ∈ lw_all := lw_g (lw_at lw_m4 48 rfl) rfl
theorem q810 : (Jvm.Cond.code ({ cls := "LayeredCharters", name := "why", desc := "(III)I" } : Jvm.MethodName) prog_1_method_18_code (4 : Nat) (Option.some Jvm.ClassFile.FieldType.int)) ∈ lw_all := lw_g (lw_at lw_m4 49 rfl) rfl
theorem q812 : (Jvm.Cond.instanceMethod ({ cls := "LayeredCharters", name := "count", desc := "(I)I" } : Jvm.MethodName)) ∈ lw_all := lw_g (lw_at lw_m4 51 rfl) rfl
theorem q813 : (Jvm.Cond.selects "LayeredCharters" ({ cls := "LayeredCharters", name := "count", desc := "(I)I" } : Jvm.MethodName) ({ cls := "LayeredCharters", name := "count", desc := "(I)I" } : Jvm.MethodName)) ∈ lw_all := lw_g (lw_at lw_m4 52 rfl) rfl
theorem q814 : (Jvm.Cond.code ({ cls := "LayeredCharters", name := "count", desc := "(I)I" } : Jvm.MethodName) prog_1_method_20_code (3 : Nat) (Option.some Jvm.ClassFile.FieldType.int)) ∈ lw_all := lw_g (lw_at lw_m4 53 rfl) rfl
theorem q815 : (Jvm.Cond.static ({ cls := "LayeredCharters", name := "lambda$count$0", desc := "(LLayeredCharters$Charter;II)Z" } : Jvm.MethodName)) ∈ lw_all := lw_g (lw_at lw_m4 54 rfl) rfl
theorem q816 : (Jvm.Cond.code ({ cls := "LayeredCharters", name := "lambda$count$0", desc := "(LLayeredCharters$Charter;II)Z" } : Jvm.MethodName) prog_1_method_38_code (3 : Nat) (Option.some Jvm.ClassFile.FieldType.boolean)) ∈ lw_all := lw_g (lw_at lw_m4 55 rfl) rfl
theorem q817 : (Jvm.Cond.methodLink "LayeredCharters" (201 : Nat) ({ cls := "LayeredCharters$Charter", name := "count", desc := "(LLayeredCharters$Test;)I" } : Jvm.MethodName)) ∈ lw_all := lw_g (lw_at lw_m4 56 rfl) rfl
theorem q818 : (Jvm.Cond.static ({ cls := "LayeredCharters", name := "lambda$count$1", desc := "(LLayeredCharters$Charter;I)Z" } : Jvm.MethodName)) ∈ lw_all := lw_g (lw_at lw_m4 57 rfl) rfl
theorem q819 : (Jvm.Cond.code ({ cls := "LayeredCharters", name := "lambda$count$1", desc := "(LLayeredCharters$Charter;I)Z" } : Jvm.MethodName) prog_1_method_37_code (2 : Nat) (Option.some Jvm.ClassFile.FieldType.boolean)) ∈ lw_all := lw_g (lw_at lw_m4 58 rfl) rfl
theorem q820 : (Jvm.Cond.methodLink "LayeredCharters" (212 : Nat) ({ cls := "LayeredCharters", name := "allOdds", desc := "()I" } : Jvm.MethodName)) ∈ lw_all := lw_g (lw_at lw_m4 59 rfl) rfl
theorem q821 : (Jvm.Cond.privateMethod ({ cls := "LayeredCharters", name := "allOdds", desc := "()I" } : Jvm.MethodName)) ∈ lw_tbl := lw_at lw_m4 60 rfl
theorem q822 : (Jvm.Cond.instanceMethod ({ cls := "LayeredCharters", name := "allOdds", desc := "()I" } : Jvm.MethodName)) ∈ lw_all := lw_g (lw_at lw_m4 61 rfl) rfl
theorem q823 : (Jvm.Cond.code ({ cls := "LayeredCharters", name := "allOdds", desc := "()I" } : Jvm.MethodName) prog_1_method_19_code (3 : Nat) (Option.some Jvm.ClassFile.FieldType.int)) ∈ lw_all := lw_g (lw_at lw_m4 62 rfl) rfl
theorem q824 : (Jvm.Cond.methodLink "LayeredCharters" (215 : Nat) ({ cls := "LayeredCharters$Charter", name := "triples", desc := "()I" } : Jvm.MethodName)) ∈ lw_all := lw_g (lw_at lw_m4 63 rfl) rfl
theorem q829 : (Jvm.Cond.instanceMethod ({ cls := "LayeredCharters", name := "leastRank", desc := "(II)I" } : Jvm.MethodName)) ∈ lw_all := lw_g (lw_at lw_m4 68 rfl) rfl
theorem q830 : (Jvm.Cond.selects "LayeredCharters" ({ cls := "LayeredCharters", name := "leastRank", desc := "(II)I" } : Jvm.MethodName) ({ cls := "LayeredCharters", name := "leastRank", desc := "(II)I" } : Jvm.MethodName)) ∈ lw_all := lw_g (lw_at lw_m4 69 rfl) rfl
theorem q831 : (Jvm.Cond.code ({ cls := "LayeredCharters", name := "leastRank", desc := "(II)I" } : Jvm.MethodName) prog_1_method_21_code (4 : Nat) (Option.some Jvm.ClassFile.FieldType.int)) ∈ lw_all := lw_g (lw_at lw_m4 70 rfl) rfl
theorem q833 : (Jvm.Cond.instanceMethod ({ cls := "LayeredCharters", name := "ifStruck", desc := "(I)I" } : Jvm.MethodName)) ∈ lw_all := lw_g (lw_at lw_m4 72 rfl) rfl
theorem q834 : (Jvm.Cond.selects "LayeredCharters" ({ cls := "LayeredCharters", name := "ifStruck", desc := "(I)I" } : Jvm.MethodName) ({ cls := "LayeredCharters", name := "ifStruck", desc := "(I)I" } : Jvm.MethodName)) ∈ lw_all := lw_g (lw_at lw_m4 73 rfl) rfl
theorem q835 : (Jvm.Cond.code ({ cls := "LayeredCharters", name := "ifStruck", desc := "(I)I" } : Jvm.MethodName) prog_1_method_23_code (2 : Nat) (Option.some Jvm.ClassFile.FieldType.int)) ∈ lw_all := lw_g (lw_at lw_m4 74 rfl) rfl
theorem q836 : (Jvm.Cond.methodLink "LayeredCharters" (229 : Nat) ({ cls := "LayeredCharters", name := "more", desc := "(I)I" } : Jvm.MethodName)) ∈ lw_all := lw_g (lw_at lw_m4 75 rfl) rfl
theorem q837 : (Jvm.Cond.privateMethod ({ cls := "LayeredCharters", name := "more", desc := "(I)I" } : Jvm.MethodName)) ∈ lw_tbl := lw_at lw_m4 76 rfl
theorem q838 : (Jvm.Cond.instanceMethod ({ cls := "LayeredCharters", name := "more", desc := "(I)I" } : Jvm.MethodName)) ∈ lw_all := lw_g (lw_at lw_m4 77 rfl) rfl
theorem q839 : (Jvm.Cond.code ({ cls := "LayeredCharters", name := "more", desc := "(I)I" } : Jvm.MethodName) prog_1_method_22_code (2 : Nat) (Option.some Jvm.ClassFile.FieldType.int)) ∈ lw_all := lw_g (lw_at lw_m4 78 rfl) rfl
theorem q840 : (Jvm.Cond.methodLink "LayeredCharters" (225 : Nat) ({ cls := "LayeredCharters$Charter", name := "without", desc := "(I)LLayeredCharters$Charter;" } : Jvm.MethodName)) ∈ lw_all := lw_g (lw_at lw_m4 79 rfl) rfl
theorem q842 : (Jvm.Cond.instanceMethod ({ cls := "LayeredCharters", name := "worstBan", desc := "()I" } : Jvm.MethodName)) ∈ lw_all := lw_g (lw_at lw_m4 81 rfl) rfl
theorem q843 : (Jvm.Cond.selects "LayeredCharters" ({ cls := "LayeredCharters", name := "worstBan", desc := "()I" } : Jvm.MethodName) ({ cls := "LayeredCharters", name := "worstBan", desc := "()I" } : Jvm.MethodName)) ∈ lw_all := lw_g (lw_at lw_m4 82 rfl) rfl
theorem q844 : (Jvm.Cond.code ({ cls := "LayeredCharters", name := "worstBan", desc := "()I" } : Jvm.MethodName) prog_1_method_24_code (5 : Nat) (Option.some Jvm.ClassFile.FieldType.int)) ∈ lw_all := lw_g (lw_at lw_m4 83 rfl) rfl
theorem q846 : (Jvm.Cond.instanceMethod ({ cls := "LayeredCharters", name := "bestWaiver", desc := "(I)I" } : Jvm.MethodName)) ∈ lw_all := lw_g (lw_at lw_m4 85 rfl) rfl
theorem q847 : (Jvm.Cond.selects "LayeredCharters" ({ cls := "LayeredCharters", name := "bestWaiver", desc := "(I)I" } : Jvm.MethodName) ({ cls := "LayeredCharters", name := "bestWaiver", desc := "(I)I" } : Jvm.MethodName)) ∈ lw_all := lw_g (lw_at lw_m4 86 rfl) rfl
theorem q848 : (Jvm.Cond.code ({ cls := "LayeredCharters", name := "bestWaiver", desc := "(I)I" } : Jvm.MethodName) prog_1_method_25_code (7 : Nat) (Option.some Jvm.ClassFile.FieldType.int)) ∈ lw_all := lw_g (lw_at lw_m4 87 rfl) rfl
theorem q849 : (Jvm.Cond.methodLink "LayeredCharters" (232 : Nat) ({ cls := "LayeredCharters$Charter", name := "copy", desc := "()LLayeredCharters$Charter;" } : Jvm.MethodName)) ∈ lw_all := lw_g (lw_at lw_m4 88 rfl) rfl
theorem q850 : (Jvm.Cond.methodLink "LayeredCharters" (235 : Nat) ({ cls := "java/lang/Math", name := "max", desc := "(II)I" } : Jvm.MethodName)) ∈ lw_all := lw_g (lw_at lw_m4 89 rfl) rfl
theorem q852 : (Jvm.Cond.instanceMethod ({ cls := "LayeredCharters", name := "put", desc := "(J)I" } : Jvm.MethodName)) ∈ lw_all := lw_g (lw_at lw_m4 91 rfl) rfl
theorem q853 : (Jvm.Cond.selects "LayeredCharters" ({ cls := "LayeredCharters", name := "put", desc := "(J)I" } : Jvm.MethodName) ({ cls := "LayeredCharters", name := "put", desc := "(J)I" } : Jvm.MethodName)) ∈ lw_all := lw_g (lw_at lw_m4 92 rfl) rfl
theorem q854 : (Jvm.Cond.code ({ cls := "LayeredCharters", name := "put", desc := "(J)I" } : Jvm.MethodName) prog_1_method_31_code (7 : Nat) (Option.some Jvm.ClassFile.FieldType.int)) ∈ lw_all := lw_g (lw_at lw_m4 93 rfl) rfl
theorem q855 : (Jvm.Cond.stringRef "LayeredCharters" (279 : Nat) "") ∈ lw_tbl := lw_at lw_m4 94 rfl
theorem q856 : (Jvm.Cond.constantLong "LayeredCharters" (281 : Nat) (255 : Int64)) ∈ lw_all := lw_g (lw_at lw_m4 95 rfl) rfl
theorem q857 : (Jvm.Cond.methodLink "LayeredCharters" (283 : Nat) ({ cls := "java/lang/StringBuilder", name := "append", desc := "(C)Ljava/lang/StringBuilder;" } : Jvm.MethodName)) ∈ lw_all := lw_g (lw_at lw_m4 96 rfl) rfl
theorem q896 : (Jvm.Cond.methodLink "LayeredCharters" (287 : Nat) ({ cls := "java/lang/StringBuilder", name := "append", desc := "(Ljava/lang/String;)Ljava/lang/StringBuilder;" } : Jvm.MethodName)) ∈ lw_all := lw_g (lw_at lw_m4 135 rfl) rfl
theorem q926 : (Jvm.Cond.methodLink "LayeredCharters" (290 : Nat) ({ cls := "java/lang/StringBuilder", name := "toString", desc := "()Ljava/lang/String;" } : Jvm.MethodName)) ∈ lw_all := lw_g (lw_at lw_m4 165 rfl) rfl
theorem q976 : (Jvm.Cond.methodLink "LayeredCharters" (294 : Nat) ({ cls := "java/lang/String", name := "isEmpty", desc := "()Z" } : Jvm.MethodName)) ∈ lw_all := lw_g (lw_at lw_m4 215 rfl) rfl
theorem q980 : (Jvm.Cond.methodLink "LayeredCharters" (297 : Nat) ({ cls := "java/lang/String", name := "length", desc := "()I" } : Jvm.MethodName)) ∈ lw_all := lw_g (lw_at lw_m4 219 rfl) rfl
theorem q982 : (Jvm.Cond.instanceMethod ({ cls := "LayeredCharters", name := "wipe", desc := "()I" } : Jvm.MethodName)) ∈ lw_all := lw_g (lw_at lw_m4 221 rfl) rfl
theorem q983 : (Jvm.Cond.selects "LayeredCharters" ({ cls := "LayeredCharters", name := "wipe", desc := "()I" } : Jvm.MethodName) ({ cls := "LayeredCharters", name := "wipe", desc := "()I" } : Jvm.MethodName)) ∈ lw_all := lw_g (lw_at lw_m4 222 rfl) rfl
theorem q984 : (Jvm.Cond.code ({ cls := "LayeredCharters", name := "wipe", desc := "()I" } : Jvm.MethodName) prog_1_method_32_code (2 : Nat) (Option.some Jvm.ClassFile.FieldType.int)) ∈ lw_all := lw_g (lw_at lw_m4 223 rfl) rfl
theorem q986 : (Jvm.Cond.instanceMethod ({ cls := "LayeredCharters", name := "fault", desc := "()I" } : Jvm.MethodName)) ∈ lw_all := lw_g (lw_at lw_m4 225 rfl) rfl
theorem q987 : (Jvm.Cond.selects "LayeredCharters" ({ cls := "LayeredCharters", name := "fault", desc := "()I" } : Jvm.MethodName) ({ cls := "LayeredCharters", name := "fault", desc := "()I" } : Jvm.MethodName)) ∈ lw_all := lw_g (lw_at lw_m4 226 rfl) rfl
theorem q988 : (Jvm.Cond.code ({ cls := "LayeredCharters", name := "fault", desc := "()I" } : Jvm.MethodName) prog_1_method_33_code (1 : Nat) (Option.some Jvm.ClassFile.FieldType.int)) ∈ lw_all := lw_g (lw_at lw_m4 227 rfl) rfl
theorem q990 : (Jvm.Cond.instanceMethod ({ cls := "LayeredCharters", name := "undo", desc := "()I" } : Jvm.MethodName)) ∈ lw_all := lw_g (lw_at lw_m4 229 rfl) rfl
theorem q991 : (Jvm.Cond.selects "LayeredCharters" ({ cls := "LayeredCharters", name := "undo", desc := "()I" } : Jvm.MethodName) ({ cls := "LayeredCharters", name := "undo", desc := "()I" } : Jvm.MethodName)) ∈ lw_all := lw_g (lw_at lw_m4 230 rfl) rfl
theorem q992 : (Jvm.Cond.code ({ cls := "LayeredCharters", name := "undo", desc := "()I" } : Jvm.MethodName) prog_1_method_34_code (1 : Nat) (Option.some Jvm.ClassFile.FieldType.int)) ∈ lw_all := lw_g (lw_at lw_m4 231 rfl) rfl
theorem q993 : (Jvm.Cond.interfaceEntry "LayeredCharters" (298 : Nat)) ∈ lw_tbl := lw_at lw_m4 232 rfl
theorem q994 : (Jvm.Cond.methodLink "LayeredCharters" (298 : Nat) ({ cls := "java/util/List", name := "isEmpty", desc := "()Z" } : Jvm.MethodName)) ∈ lw_all := lw_g (lw_at lw_m4 233 rfl) rfl
theorem q1003 : (Jvm.Cond.instanceMethod ({ cls := "LayeredCharters", name := "save", desc := "(I)I" } : Jvm.MethodName)) ∈ lw_all := lw_g (lw_at lw_m5 2 rfl) rfl
theorem q1004 : (Jvm.Cond.selects "LayeredCharters" ({ cls := "LayeredCharters", name := "save", desc := "(I)I" } : Jvm.MethodName) ({ cls := "LayeredCharters", name := "save", desc := "(I)I" } : Jvm.MethodName)) ∈ lw_all := lw_g (lw_at lw_m5 3 rfl) rfl
theorem q1005 : (Jvm.Cond.code ({ cls := "LayeredCharters", name := "save", desc := "(I)I" } : Jvm.MethodName) prog_1_method_35_code (2 : Nat) (Option.some Jvm.ClassFile.FieldType.int)) ∈ lw_all := lw_g (lw_at lw_m5 4 rfl) rfl
theorem q1007 : (Jvm.Cond.instanceMethod ({ cls := "LayeredCharters", name := "restore", desc := "(I)I" } : Jvm.MethodName)) ∈ lw_all := lw_g (lw_at lw_m5 6 rfl) rfl
theorem q1008 : (Jvm.Cond.selects "LayeredCharters" ({ cls := "LayeredCharters", name := "restore", desc := "(I)I" } : Jvm.MethodName) ({ cls := "LayeredCharters", name := "restore", desc := "(I)I" } : Jvm.MethodName)) ∈ lw_all := lw_g (lw_at lw_m5 7 rfl) rfl
theorem q1009 : (Jvm.Cond.code ({ cls := "LayeredCharters", name := "restore", desc := "(I)I" } : Jvm.MethodName) prog_1_method_36_code (2 : Nat) (Option.some Jvm.ClassFile.FieldType.int)) ∈ lw_all := lw_g (lw_at lw_m5 8 rfl) rfl
theorem q1276 : (Jvm.Cond.castable "LayeredCharters" "java/lang/Object") ∈ lw_tbl := lw_at lw_m6 35 rfl
theorem in_X0 : ∀ w ∈ wsX00, w ∈ lw_all := lw_in wsX00 [183, 185, 187, 189, 191, 193] (by decide +kernel) (by decide +kernel)

/-! LayeredCharters$Guild -/
set_option maxRecDepth 100000
def RX1 : String := "LayeredCharters$Guild"
def TX1 : u_T := fun k => match k with
  | 0 => ("LayeredCharters$Guild", "charter", "LLayeredCharters$Charter;", false)
  | 1 => ("LayeredCharters$Guild", "members", "Ljava/util/List;", true)
  | 2 => ("LayeredCharters$Guild", "done", "I", false)
  | 3 => ("LayeredCharters$Guild", "byLayers", "[I", true)
  | _ => ("LayeredCharters$Guild", "notPermitted", "I", false)
def tyX1 : Nat → FieldType := fun k => match k with
  | 0 => .object "LayeredCharters$Charter"
  | 1 => .object "java/util/List"
  | 2 => .int
  | 3 => .array .int
  | _ => .int
abbrev wsX10 : List Cond := u_ws RX1 TX1 5
theorem nmX1 : ∀ a, a < 5 → ∀ b, b < 5 → a ≠ b → (TX1 a).2.1 ≠ (TX1 b).2.1 := by decide +kernel
theorem tyX1_ok : ∀ k, k < 5 → parseFieldDescriptor (TX1 k).2.2.1 = some (tyX1 k) := by decide +kernel
abbrev cX1_init : ByteArray := prog_3_method_1_code
def yX1_init : MethodName := ⟨RX1, "<init>", "()V"⟩
def dkwX1_init_1 : List UInt8 := [181, 0, 21, 42, 8, 188, 10, 181, 0, 25, 177]
abbrev dktX1_init_1 : List UInt8 := dkwX1_init_1 ++ []
def dkwX1_init_0 : List UInt8 := [42, 183, 0, 3, 42, 187, 0, 9, 89, 183, 0, 11, 181, 0, 12, 42, 187, 0, 18, 89, 183, 0, 20]
abbrev dktX1_init_0 : List UInt8 := dkwX1_init_0 ++ dktX1_init_1
theorem dksX1_init_0 : cX1_init.data.toList.drop 0 = dktX1_init_0 := by decide +kernel
theorem dksX1_init_1 : cX1_init.data.toList.drop 23 = dktX1_init_1 := dk_seg dksX1_init_0 23 rfl rfl
theorem dX1_init_0 : decode cX1_init 0 = .ok (.aload_n 0, 1) := dk_42 (dk_at dksX1_init_0 0 rfl rfl)
theorem dX1_init_1 : decode cX1_init 1 = .ok (.invokespecial 3, 3) := dk_183 0 3 (dk_at dksX1_init_0 1 rfl rfl)
theorem dX1_init_4 : decode cX1_init 4 = .ok (.aload_n 0, 1) := dk_42 (dk_at dksX1_init_0 4 rfl rfl)
theorem dX1_init_5 : decode cX1_init 5 = .ok (.new 9, 3) := dk_187 0 9 (dk_at dksX1_init_0 5 rfl rfl)
theorem dX1_init_8 : decode cX1_init 8 = .ok (.dup, 1) := dk_89 (dk_at dksX1_init_0 8 rfl rfl)
theorem dX1_init_9 : decode cX1_init 9 = .ok (.invokespecial 11, 3) := dk_183 0 11 (dk_at dksX1_init_0 9 rfl rfl)
theorem dX1_init_12 : decode cX1_init 12 = .ok (.putfield 12, 3) := dk_181 0 12 (dk_at dksX1_init_0 12 rfl rfl)
theorem dX1_init_15 : decode cX1_init 15 = .ok (.aload_n 0, 1) := dk_42 (dk_at dksX1_init_0 15 rfl rfl)
theorem dX1_init_16 : decode cX1_init 16 = .ok (.new 18, 3) := dk_187 0 18 (dk_at dksX1_init_0 16 rfl rfl)
theorem dX1_init_19 : decode cX1_init 19 = .ok (.dup, 1) := dk_89 (dk_at dksX1_init_0 19 rfl rfl)
theorem dX1_init_20 : decode cX1_init 20 = .ok (.invokespecial 20, 3) := dk_183 0 20 (dk_at dksX1_init_0 20 rfl rfl)
theorem dX1_init_23 : decode cX1_init 23 = .ok (.putfield 21, 3) := dk_181 0 21 (dk_at dksX1_init_1 0 rfl rfl)
theorem dX1_init_26 : decode cX1_init 26 = .ok (.aload_n 0, 1) := dk_42 (dk_at dksX1_init_1 3 rfl rfl)
theorem dX1_init_27 : decode cX1_init 27 = .ok (.iconst 5, 1) := dk_8 (dk_at dksX1_init_1 4 rfl rfl)
theorem dX1_init_28 : decode cX1_init 28 = .ok (.newarray .int, 2) := dk_188_10 (dk_at dksX1_init_1 5 rfl rfl)
theorem dX1_init_30 : decode cX1_init 30 = .ok (.putfield 25, 3) := dk_181 0 25 (dk_at dksX1_init_1 7 rfl rfl)
theorem dX1_init_33 : decode cX1_init 33 = .ok (.return_, 1) := dk_177 (dk_at dksX1_init_1 10 rfl rfl)
abbrev cX1_copy : ByteArray := prog_3_method_2_code
def yX1_copy : MethodName := ⟨RX1, "copy", "()LLayeredCharters$Guild;"⟩
def dkwX1_copy_4 : List UInt8 := [46, 79, 132, 2, 1, 167, 255, 236, 43, 42, 180, 0, 57, 181, 0, 57, 43, 176]
abbrev dktX1_copy_4 : List UInt8 := dkwX1_copy_4 ++ []
def dkwX1_copy_3 : List UInt8 := [42, 180, 0, 53, 181, 0, 53, 3, 61, 28, 8, 162, 0, 21, 43, 180, 0, 25, 28, 42, 180, 0, 25, 28]
abbrev dktX1_copy_3 : List UInt8 := dkwX1_copy_3 ++ dktX1_copy_4
def dkwX1_copy_2 : List UInt8 := [185, 0, 40, 2, 0, 192, 0, 44, 182, 0, 46, 185, 0, 49, 2, 0, 87, 132, 2, 1, 167, 255, 214, 43]
abbrev dktX1_copy_2 : List UInt8 := dkwX1_copy_2 ++ dktX1_copy_3
def dkwX1_copy_1 : List UInt8 := [180, 0, 21, 185, 0, 34, 1, 0, 162, 0, 35, 43, 180, 0, 21, 42, 180, 0, 21, 28]
abbrev dktX1_copy_1 : List UInt8 := dkwX1_copy_1 ++ dktX1_copy_2
def dkwX1_copy_0 : List UInt8 := [187, 0, 13, 89, 183, 0, 29, 76, 43, 42, 180, 0, 12, 182, 0, 30, 181, 0, 12, 3, 61, 28, 42]
abbrev dktX1_copy_0 : List UInt8 := dkwX1_copy_0 ++ dktX1_copy_1
theorem dksX1_copy_0 : cX1_copy.data.toList.drop 0 = dktX1_copy_0 := by decide +kernel
theorem dksX1_copy_1 : cX1_copy.data.toList.drop 23 = dktX1_copy_1 := dk_seg dksX1_copy_0 23 rfl rfl
theorem dksX1_copy_2 : cX1_copy.data.toList.drop 43 = dktX1_copy_2 := dk_seg dksX1_copy_1 20 rfl rfl
theorem dksX1_copy_3 : cX1_copy.data.toList.drop 67 = dktX1_copy_3 := dk_seg dksX1_copy_2 24 rfl rfl
theorem dksX1_copy_4 : cX1_copy.data.toList.drop 91 = dktX1_copy_4 := dk_seg dksX1_copy_3 24 rfl rfl
theorem dX1_copy_0 : decode cX1_copy 0 = .ok (.new 13, 3) := dk_187 0 13 (dk_at dksX1_copy_0 0 rfl rfl)
theorem dX1_copy_3 : decode cX1_copy 3 = .ok (.dup, 1) := dk_89 (dk_at dksX1_copy_0 3 rfl rfl)
theorem dX1_copy_4 : decode cX1_copy 4 = .ok (.invokespecial 29, 3) := dk_183 0 29 (dk_at dksX1_copy_0 4 rfl rfl)
theorem dX1_copy_7 : decode cX1_copy 7 = .ok (.astore_n 1, 1) := dk_76 (dk_at dksX1_copy_0 7 rfl rfl)
theorem dX1_copy_8 : decode cX1_copy 8 = .ok (.aload_n 1, 1) := dk_43 (dk_at dksX1_copy_0 8 rfl rfl)
theorem dX1_copy_9 : decode cX1_copy 9 = .ok (.aload_n 0, 1) := dk_42 (dk_at dksX1_copy_0 9 rfl rfl)
theorem dX1_copy_10 : decode cX1_copy 10 = .ok (.getfield 12, 3) := dk_180 0 12 (dk_at dksX1_copy_0 10 rfl rfl)
theorem dX1_copy_13 : decode cX1_copy 13 = .ok (.invokevirtual 30, 3) := dk_182 0 30 (dk_at dksX1_copy_0 13 rfl rfl)
theorem dX1_copy_16 : decode cX1_copy 16 = .ok (.putfield 12, 3) := dk_181 0 12 (dk_at dksX1_copy_0 16 rfl rfl)
theorem dX1_copy_19 : decode cX1_copy 19 = .ok (.iconst 0, 1) := dk_3 (dk_at dksX1_copy_0 19 rfl rfl)
theorem dX1_copy_20 : decode cX1_copy 20 = .ok (.istore_n 2, 1) := dk_61 (dk_at dksX1_copy_0 20 rfl rfl)
theorem dX1_copy_21 : decode cX1_copy 21 = .ok (.iload_n 2, 1) := dk_28 (dk_at dksX1_copy_0 21 rfl rfl)
theorem dX1_copy_22 : decode cX1_copy 22 = .ok (.aload_n 0, 1) := dk_42 (dk_at dksX1_copy_0 22 rfl rfl)
theorem dX1_copy_23 : decode cX1_copy 23 = .ok (.getfield 21, 3) := dk_180 0 21 (dk_at dksX1_copy_1 0 rfl rfl)
theorem dX1_copy_26 : decode cX1_copy 26 = .ok (.invokeinterface 34 1, 5) := by decide +kernel
theorem dX1_copy_31 : decode cX1_copy 31 = .ok (.if_icmp .ge 35, 3) := dk_162 0 35 (dk_at dksX1_copy_1 8 rfl rfl)
theorem dX1_copy_34 : decode cX1_copy 34 = .ok (.aload_n 1, 1) := dk_43 (dk_at dksX1_copy_1 11 rfl rfl)
theorem dX1_copy_35 : decode cX1_copy 35 = .ok (.getfield 21, 3) := dk_180 0 21 (dk_at dksX1_copy_1 12 rfl rfl)
theorem dX1_copy_38 : decode cX1_copy 38 = .ok (.aload_n 0, 1) := dk_42 (dk_at dksX1_copy_1 15 rfl rfl)
theorem dX1_copy_39 : decode cX1_copy 39 = .ok (.getfield 21, 3) := dk_180 0 21 (dk_at dksX1_copy_1 16 rfl rfl)
theorem dX1_copy_42 : decode cX1_copy 42 = .ok (.iload_n 2, 1) := dk_28 (dk_at dksX1_copy_1 19 rfl rfl)
theorem dX1_copy_43 : decode cX1_copy 43 = .ok (.invokeinterface 40 2, 5) := by decide +kernel
theorem dX1_copy_48 : decode cX1_copy 48 = .ok (.checkcast 44, 3) := dk_192 0 44 (dk_at dksX1_copy_2 5 rfl rfl)
theorem dX1_copy_51 : decode cX1_copy 51 = .ok (.invokevirtual 46, 3) := dk_182 0 46 (dk_at dksX1_copy_2 8 rfl rfl)
theorem dX1_copy_54 : decode cX1_copy 54 = .ok (.invokeinterface 49 2, 5) := by decide +kernel
theorem dX1_copy_59 : decode cX1_copy 59 = .ok (.pop, 1) := dk_87 (dk_at dksX1_copy_2 16 rfl rfl)
theorem dX1_copy_60 : decode cX1_copy 60 = .ok (.iinc 2 1, 3) := dk_132 2 1 (dk_at dksX1_copy_2 17 rfl rfl)
theorem dX1_copy_63 : decode cX1_copy 63 = .ok (.goto (-42), 3) := dk_167 255 214 (dk_at dksX1_copy_2 20 rfl rfl)
theorem dX1_copy_66 : decode cX1_copy 66 = .ok (.aload_n 1, 1) := dk_43 (dk_at dksX1_copy_2 23 rfl rfl)
theorem dX1_copy_67 : decode cX1_copy 67 = .ok (.aload_n 0, 1) := dk_42 (dk_at dksX1_copy_3 0 rfl rfl)
theorem dX1_copy_68 : decode cX1_copy 68 = .ok (.getfield 53, 3) := dk_180 0 53 (dk_at dksX1_copy_3 1 rfl rfl)
theorem dX1_copy_71 : decode cX1_copy 71 = .ok (.putfield 53, 3) := dk_181 0 53 (dk_at dksX1_copy_3 4 rfl rfl)
theorem dX1_copy_74 : decode cX1_copy 74 = .ok (.iconst 0, 1) := dk_3 (dk_at dksX1_copy_3 7 rfl rfl)
theorem dX1_copy_75 : decode cX1_copy 75 = .ok (.istore_n 2, 1) := dk_61 (dk_at dksX1_copy_3 8 rfl rfl)
theorem dX1_copy_76 : decode cX1_copy 76 = .ok (.iload_n 2, 1) := dk_28 (dk_at dksX1_copy_3 9 rfl rfl)
theorem dX1_copy_77 : decode cX1_copy 77 = .ok (.iconst 5, 1) := dk_8 (dk_at dksX1_copy_3 10 rfl rfl)
theorem dX1_copy_78 : decode cX1_copy 78 = .ok (.if_icmp .ge 21, 3) := dk_162 0 21 (dk_at dksX1_copy_3 11 rfl rfl)
theorem dX1_copy_81 : decode cX1_copy 81 = .ok (.aload_n 1, 1) := dk_43 (dk_at dksX1_copy_3 14 rfl rfl)
theorem dX1_copy_82 : decode cX1_copy 82 = .ok (.getfield 25, 3) := dk_180 0 25 (dk_at dksX1_copy_3 15 rfl rfl)
theorem dX1_copy_85 : decode cX1_copy 85 = .ok (.iload_n 2, 1) := dk_28 (dk_at dksX1_copy_3 18 rfl rfl)
theorem dX1_copy_86 : decode cX1_copy 86 = .ok (.aload_n 0, 1) := dk_42 (dk_at dksX1_copy_3 19 rfl rfl)
theorem dX1_copy_87 : decode cX1_copy 87 = .ok (.getfield 25, 3) := dk_180 0 25 (dk_at dksX1_copy_3 20 rfl rfl)
theorem dX1_copy_90 : decode cX1_copy 90 = .ok (.iload_n 2, 1) := dk_28 (dk_at dksX1_copy_3 23 rfl rfl)
theorem dX1_copy_91 : decode cX1_copy 91 = .ok (.iaload, 1) := dk_46 (dk_at dksX1_copy_4 0 rfl rfl)
theorem dX1_copy_92 : decode cX1_copy 92 = .ok (.iastore, 1) := dk_79 (dk_at dksX1_copy_4 1 rfl rfl)
theorem dX1_copy_93 : decode cX1_copy 93 = .ok (.iinc 2 1, 3) := dk_132 2 1 (dk_at dksX1_copy_4 2 rfl rfl)
theorem dX1_copy_96 : decode cX1_copy 96 = .ok (.goto (-20), 3) := dk_167 255 236 (dk_at dksX1_copy_4 5 rfl rfl)
theorem dX1_copy_99 : decode cX1_copy 99 = .ok (.aload_n 1, 1) := dk_43 (dk_at dksX1_copy_4 8 rfl rfl)
theorem dX1_copy_100 : decode cX1_copy 100 = .ok (.aload_n 0, 1) := dk_42 (dk_at dksX1_copy_4 9 rfl rfl)
theorem dX1_copy_101 : decode cX1_copy 101 = .ok (.getfield 57, 3) := dk_180 0 57 (dk_at dksX1_copy_4 10 rfl rfl)
theorem dX1_copy_104 : decode cX1_copy 104 = .ok (.putfield 57, 3) := dk_181 0 57 (dk_at dksX1_copy_4 13 rfl rfl)
theorem dX1_copy_107 : decode cX1_copy 107 = .ok (.aload_n 1, 1) := dk_43 (dk_at dksX1_copy_4 16 rfl rfl)
theorem dX1_copy_108 : decode cX1_copy 108 = .ok (.areturn, 1) := dk_176 (dk_at dksX1_copy_4 17 rfl rfl)
abbrev cX1_hasMember : ByteArray := prog_3_method_3_code
def yX1_hasMember : MethodName := ⟨RX1, "hasMember", "(I)Z"⟩
def dkwX1_hasMember_0 : List UInt8 := [27, 3, 42, 180, 0, 21, 185, 0, 34, 1, 0, 4, 100, 184, 0, 60, 172]
abbrev dktX1_hasMember_0 : List UInt8 := dkwX1_hasMember_0 ++ []
theorem dksX1_hasMember_0 : cX1_hasMember.data.toList.drop 0 = dktX1_hasMember_0 := by decide +kernel
theorem dX1_hasMember_0 : decode cX1_hasMember 0 = .ok (.iload_n 1, 1) := dk_27 (dk_at dksX1_hasMember_0 0 rfl rfl)
theorem dX1_hasMember_1 : decode cX1_hasMember 1 = .ok (.iconst 0, 1) := dk_3 (dk_at dksX1_hasMember_0 1 rfl rfl)
theorem dX1_hasMember_2 : decode cX1_hasMember 2 = .ok (.aload_n 0, 1) := dk_42 (dk_at dksX1_hasMember_0 2 rfl rfl)
theorem dX1_hasMember_3 : decode cX1_hasMember 3 = .ok (.getfield 21, 3) := dk_180 0 21 (dk_at dksX1_hasMember_0 3 rfl rfl)
theorem dX1_hasMember_6 : decode cX1_hasMember 6 = .ok (.invokeinterface 34 1, 5) := by decide +kernel
theorem dX1_hasMember_11 : decode cX1_hasMember 11 = .ok (.iconst 1, 1) := dk_4 (dk_at dksX1_hasMember_0 11 rfl rfl)
theorem dX1_hasMember_12 : decode cX1_hasMember 12 = .ok (.isub, 1) := dk_100 (dk_at dksX1_hasMember_0 12 rfl rfl)
theorem dX1_hasMember_13 : decode cX1_hasMember 13 = .ok (.invokestatic 60, 3) := dk_184 0 60 (dk_at dksX1_hasMember_0 13 rfl rfl)
theorem dX1_hasMember_16 : decode cX1_hasMember 16 = .ok (.ireturn, 1) := dk_172 (dk_at dksX1_hasMember_0 16 rfl rfl)
abbrev cX1_act : ByteArray := prog_3_method_4_code
def yX1_act : MethodName := ⟨RX1, "act", "(LLayeredCharters$Member;I)I"⟩
def dkwX1_act_5 : List UInt8 := [185, 0, 40, 2, 0, 192, 0, 87, 180, 0, 89, 92, 46, 4, 96, 79, 29, 172]
abbrev dktX1_act_5 : List UInt8 := dkwX1_act_5 ++ []
def dkwX1_act_4 : List UInt8 := [180, 0, 12, 29, 182, 0, 80, 153, 0, 31, 42, 180, 0, 25, 42, 180, 0, 12, 180, 0, 84, 29]
abbrev dktX1_act_4 : List UInt8 := dkwX1_act_4 ++ dktX1_act_5
def dkwX1_act_3 : List UInt8 := [181, 0, 77, 42, 89, 180, 0, 57, 29, 16, 100, 160, 0, 7, 4, 167, 0, 4, 3, 96, 181, 0, 57, 42]
abbrev dktX1_act_3 : List UInt8 := dkwX1_act_3 ++ dktX1_act_4
def dkwX1_act_2 : List UInt8 := [167, 0, 4, 3, 96, 181, 0, 53, 43, 89, 180, 0, 77, 29, 156, 0, 7, 3, 167, 0, 4, 4, 96]
abbrev dktX1_act_2 : List UInt8 := dkwX1_act_2 ++ dktX1_act_3
def dkwX1_act_1 : List UInt8 := [156, 0, 7, 4, 167, 0, 4, 3, 96, 181, 0, 76, 42, 89, 180, 0, 53, 29, 156, 0, 7, 4]
abbrev dktX1_act_1 : List UInt8 := dkwX1_act_1 ++ dktX1_act_2
def dkwX1_act_0 : List UInt8 := [42, 180, 0, 12, 43, 180, 0, 66, 28, 43, 180, 0, 69, 182, 0, 72, 62, 43, 89, 180, 0, 76, 29]
abbrev dktX1_act_0 : List UInt8 := dkwX1_act_0 ++ dktX1_act_1
theorem dksX1_act_0 : cX1_act.data.toList.drop 0 = dktX1_act_0 := by decide +kernel
theorem dksX1_act_1 : cX1_act.data.toList.drop 23 = dktX1_act_1 := dk_seg dksX1_act_0 23 rfl rfl
theorem dksX1_act_2 : cX1_act.data.toList.drop 45 = dktX1_act_2 := dk_seg dksX1_act_1 22 rfl rfl
theorem dksX1_act_3 : cX1_act.data.toList.drop 68 = dktX1_act_3 := dk_seg dksX1_act_2 23 rfl rfl
theorem dksX1_act_4 : cX1_act.data.toList.drop 92 = dktX1_act_4 := dk_seg dksX1_act_3 24 rfl rfl
theorem dksX1_act_5 : cX1_act.data.toList.drop 114 = dktX1_act_5 := dk_seg dksX1_act_4 22 rfl rfl
theorem dX1_act_0 : decode cX1_act 0 = .ok (.aload_n 0, 1) := dk_42 (dk_at dksX1_act_0 0 rfl rfl)
theorem dX1_act_1 : decode cX1_act 1 = .ok (.getfield 12, 3) := dk_180 0 12 (dk_at dksX1_act_0 1 rfl rfl)
theorem dX1_act_4 : decode cX1_act 4 = .ok (.aload_n 1, 1) := dk_43 (dk_at dksX1_act_0 4 rfl rfl)
theorem dX1_act_5 : decode cX1_act 5 = .ok (.getfield 66, 3) := dk_180 0 66 (dk_at dksX1_act_0 5 rfl rfl)
theorem dX1_act_8 : decode cX1_act 8 = .ok (.iload_n 2, 1) := dk_28 (dk_at dksX1_act_0 8 rfl rfl)
theorem dX1_act_9 : decode cX1_act 9 = .ok (.aload_n 1, 1) := dk_43 (dk_at dksX1_act_0 9 rfl rfl)
theorem dX1_act_10 : decode cX1_act 10 = .ok (.getfield 69, 3) := dk_180 0 69 (dk_at dksX1_act_0 10 rfl rfl)
theorem dX1_act_13 : decode cX1_act 13 = .ok (.invokevirtual 72, 3) := dk_182 0 72 (dk_at dksX1_act_0 13 rfl rfl)
theorem dX1_act_16 : decode cX1_act 16 = .ok (.istore_n 3, 1) := dk_62 (dk_at dksX1_act_0 16 rfl rfl)
theorem dX1_act_17 : decode cX1_act 17 = .ok (.aload_n 1, 1) := dk_43 (dk_at dksX1_act_0 17 rfl rfl)
theorem dX1_act_18 : decode cX1_act 18 = .ok (.dup, 1) := dk_89 (dk_at dksX1_act_0 18 rfl rfl)
theorem dX1_act_19 : decode cX1_act 19 = .ok (.getfield 76, 3) := dk_180 0 76 (dk_at dksX1_act_0 19 rfl rfl)
theorem dX1_act_22 : decode cX1_act 22 = .ok (.iload_n 3, 1) := dk_29 (dk_at dksX1_act_0 22 rfl rfl)
theorem dX1_act_23 : decode cX1_act 23 = .ok (.ifCond .ge 7, 3) := dk_156 0 7 (dk_at dksX1_act_1 0 rfl rfl)
theorem dX1_act_26 : decode cX1_act 26 = .ok (.iconst 1, 1) := dk_4 (dk_at dksX1_act_1 3 rfl rfl)
theorem dX1_act_27 : decode cX1_act 27 = .ok (.goto 4, 3) := dk_167 0 4 (dk_at dksX1_act_1 4 rfl rfl)
theorem dX1_act_30 : decode cX1_act 30 = .ok (.iconst 0, 1) := dk_3 (dk_at dksX1_act_1 7 rfl rfl)
theorem dX1_act_31 : decode cX1_act 31 = .ok (.iadd, 1) := dk_96 (dk_at dksX1_act_1 8 rfl rfl)
theorem dX1_act_32 : decode cX1_act 32 = .ok (.putfield 76, 3) := dk_181 0 76 (dk_at dksX1_act_1 9 rfl rfl)
theorem dX1_act_35 : decode cX1_act 35 = .ok (.aload_n 0, 1) := dk_42 (dk_at dksX1_act_1 12 rfl rfl)
theorem dX1_act_36 : decode cX1_act 36 = .ok (.dup, 1) := dk_89 (dk_at dksX1_act_1 13 rfl rfl)
theorem dX1_act_37 : decode cX1_act 37 = .ok (.getfield 53, 3) := dk_180 0 53 (dk_at dksX1_act_1 14 rfl rfl)
theorem dX1_act_40 : decode cX1_act 40 = .ok (.iload_n 3, 1) := dk_29 (dk_at dksX1_act_1 17 rfl rfl)
theorem dX1_act_41 : decode cX1_act 41 = .ok (.ifCond .ge 7, 3) := dk_156 0 7 (dk_at dksX1_act_1 18 rfl rfl)
theorem dX1_act_44 : decode cX1_act 44 = .ok (.iconst 1, 1) := dk_4 (dk_at dksX1_act_1 21 rfl rfl)
theorem dX1_act_45 : decode cX1_act 45 = .ok (.goto 4, 3) := dk_167 0 4 (dk_at dksX1_act_2 0 rfl rfl)
theorem dX1_act_48 : decode cX1_act 48 = .ok (.iconst 0, 1) := dk_3 (dk_at dksX1_act_2 3 rfl rfl)
theorem dX1_act_49 : decode cX1_act 49 = .ok (.iadd, 1) := dk_96 (dk_at dksX1_act_2 4 rfl rfl)
theorem dX1_act_50 : decode cX1_act 50 = .ok (.putfield 53, 3) := dk_181 0 53 (dk_at dksX1_act_2 5 rfl rfl)
theorem dX1_act_53 : decode cX1_act 53 = .ok (.aload_n 1, 1) := dk_43 (dk_at dksX1_act_2 8 rfl rfl)
theorem dX1_act_54 : decode cX1_act 54 = .ok (.dup, 1) := dk_89 (dk_at dksX1_act_2 9 rfl rfl)
theorem dX1_act_55 : decode cX1_act 55 = .ok (.getfield 77, 3) := dk_180 0 77 (dk_at dksX1_act_2 10 rfl rfl)
theorem dX1_act_58 : decode cX1_act 58 = .ok (.iload_n 3, 1) := dk_29 (dk_at dksX1_act_2 13 rfl rfl)
theorem dX1_act_59 : decode cX1_act 59 = .ok (.ifCond .ge 7, 3) := dk_156 0 7 (dk_at dksX1_act_2 14 rfl rfl)
theorem dX1_act_62 : decode cX1_act 62 = .ok (.iconst 0, 1) := dk_3 (dk_at dksX1_act_2 17 rfl rfl)
theorem dX1_act_63 : decode cX1_act 63 = .ok (.goto 4, 3) := dk_167 0 4 (dk_at dksX1_act_2 18 rfl rfl)
theorem dX1_act_66 : decode cX1_act 66 = .ok (.iconst 1, 1) := dk_4 (dk_at dksX1_act_2 21 rfl rfl)
theorem dX1_act_67 : decode cX1_act 67 = .ok (.iadd, 1) := dk_96 (dk_at dksX1_act_2 22 rfl rfl)
theorem dX1_act_68 : decode cX1_act 68 = .ok (.putfield 77, 3) := dk_181 0 77 (dk_at dksX1_act_3 0 rfl rfl)
theorem dX1_act_71 : decode cX1_act 71 = .ok (.aload_n 0, 1) := dk_42 (dk_at dksX1_act_3 3 rfl rfl)
theorem dX1_act_72 : decode cX1_act 72 = .ok (.dup, 1) := dk_89 (dk_at dksX1_act_3 4 rfl rfl)
theorem dX1_act_73 : decode cX1_act 73 = .ok (.getfield 57, 3) := dk_180 0 57 (dk_at dksX1_act_3 5 rfl rfl)
theorem dX1_act_76 : decode cX1_act 76 = .ok (.iload_n 3, 1) := dk_29 (dk_at dksX1_act_3 8 rfl rfl)
theorem dX1_act_77 : decode cX1_act 77 = .ok (.bipush 100, 2) := dk_16 100 (dk_at dksX1_act_3 9 rfl rfl)
theorem dX1_act_79 : decode cX1_act 79 = .ok (.if_icmp .ne 7, 3) := dk_160 0 7 (dk_at dksX1_act_3 11 rfl rfl)
theorem dX1_act_82 : decode cX1_act 82 = .ok (.iconst 1, 1) := dk_4 (dk_at dksX1_act_3 14 rfl rfl)
theorem dX1_act_83 : decode cX1_act 83 = .ok (.goto 4, 3) := dk_167 0 4 (dk_at dksX1_act_3 15 rfl rfl)
theorem dX1_act_86 : decode cX1_act 86 = .ok (.iconst 0, 1) := dk_3 (dk_at dksX1_act_3 18 rfl rfl)
theorem dX1_act_87 : decode cX1_act 87 = .ok (.iadd, 1) := dk_96 (dk_at dksX1_act_3 19 rfl rfl)
theorem dX1_act_88 : decode cX1_act 88 = .ok (.putfield 57, 3) := dk_181 0 57 (dk_at dksX1_act_3 20 rfl rfl)
theorem dX1_act_91 : decode cX1_act 91 = .ok (.aload_n 0, 1) := dk_42 (dk_at dksX1_act_3 23 rfl rfl)
theorem dX1_act_92 : decode cX1_act 92 = .ok (.getfield 12, 3) := dk_180 0 12 (dk_at dksX1_act_4 0 rfl rfl)
theorem dX1_act_95 : decode cX1_act 95 = .ok (.iload_n 3, 1) := dk_29 (dk_at dksX1_act_4 3 rfl rfl)
theorem dX1_act_96 : decode cX1_act 96 = .ok (.invokevirtual 80, 3) := dk_182 0 80 (dk_at dksX1_act_4 4 rfl rfl)
theorem dX1_act_99 : decode cX1_act 99 = .ok (.ifCond .eq 31, 3) := dk_153 0 31 (dk_at dksX1_act_4 7 rfl rfl)
theorem dX1_act_102 : decode cX1_act 102 = .ok (.aload_n 0, 1) := dk_42 (dk_at dksX1_act_4 10 rfl rfl)
theorem dX1_act_103 : decode cX1_act 103 = .ok (.getfield 25, 3) := dk_180 0 25 (dk_at dksX1_act_4 11 rfl rfl)
theorem dX1_act_106 : decode cX1_act 106 = .ok (.aload_n 0, 1) := dk_42 (dk_at dksX1_act_4 14 rfl rfl)
theorem dX1_act_107 : decode cX1_act 107 = .ok (.getfield 12, 3) := dk_180 0 12 (dk_at dksX1_act_4 15 rfl rfl)
theorem dX1_act_110 : decode cX1_act 110 = .ok (.getfield 84, 3) := dk_180 0 84 (dk_at dksX1_act_4 18 rfl rfl)
theorem dX1_act_113 : decode cX1_act 113 = .ok (.iload_n 3, 1) := dk_29 (dk_at dksX1_act_4 21 rfl rfl)
theorem dX1_act_114 : decode cX1_act 114 = .ok (.invokeinterface 40 2, 5) := by decide +kernel
theorem dX1_act_119 : decode cX1_act 119 = .ok (.checkcast 87, 3) := dk_192 0 87 (dk_at dksX1_act_5 5 rfl rfl)
theorem dX1_act_122 : decode cX1_act 122 = .ok (.getfield 89, 3) := dk_180 0 89 (dk_at dksX1_act_5 8 rfl rfl)
theorem dX1_act_125 : decode cX1_act 125 = .ok (.dup2, 1) := dk_92 (dk_at dksX1_act_5 11 rfl rfl)
theorem dX1_act_126 : decode cX1_act 126 = .ok (.iaload, 1) := dk_46 (dk_at dksX1_act_5 12 rfl rfl)
theorem dX1_act_127 : decode cX1_act 127 = .ok (.iconst 1, 1) := dk_4 (dk_at dksX1_act_5 13 rfl rfl)
theorem dX1_act_128 : decode cX1_act 128 = .ok (.iadd, 1) := dk_96 (dk_at dksX1_act_5 14 rfl rfl)
theorem dX1_act_129 : decode cX1_act 129 = .ok (.iastore, 1) := dk_79 (dk_at dksX1_act_5 15 rfl rfl)
theorem dX1_act_130 : decode cX1_act 130 = .ok (.iload_n 3, 1) := dk_29 (dk_at dksX1_act_5 16 rfl rfl)
theorem dX1_act_131 : decode cX1_act 131 = .ok (.ireturn, 1) := dk_172 (dk_at dksX1_act_5 17 rfl rfl)
theorem q43 : (Jvm.Cond.initialized "LayeredCharters$Guild") ∈ lw_all := lw_g (lw_at lw_m1 2 rfl) rfl
theorem q74 : (Jvm.Cond.instantiable "LayeredCharters$Guild" (5 : Nat)) ∈ lw_all := lw_g (lw_at lw_m1 33 rfl) rfl
theorem q76 : (Jvm.Cond.instanceMethod ({ cls := "LayeredCharters$Guild", name := "<init>", desc := "()V" } : Jvm.MethodName)) ∈ lw_all := lw_g (lw_at lw_m1 35 rfl) rfl
theorem q77 : (Jvm.Cond.code ({ cls := "LayeredCharters$Guild", name := "<init>", desc := "()V" } : Jvm.MethodName) prog_3_method_1_code (1 : Nat) (Option.none : Option Jvm.ClassFile.FieldType)) ∈ lw_all := lw_g (lw_at lw_m1 36 rfl) rfl
theorem q78 : (Jvm.Cond.methodLink "LayeredCharters$Guild" (3 : Nat) ({ cls := "java/lang/Object", name := "<init>", desc := "()V" } : Jvm.MethodName)) ∈ lw_all := lw_g (lw_at lw_m1 37 rfl) rfl
theorem q79 : (Jvm.Cond.classLink "LayeredCharters$Guild" (9 : Nat) "LayeredCharters$Charter") ∈ lw_all := lw_g (lw_at lw_m1 38 rfl) rfl
theorem q81 : (Jvm.Cond.methodLinkNest "LayeredCharters$Guild" (11 : Nat) ({ cls := "LayeredCharters$Charter", name := "<init>", desc := "()V" } : Jvm.MethodName) "LayeredCharters") ∈ lw_tbl := lw_at lw_m1 40 rfl
theorem q113 : (Jvm.Cond.fieldLink "LayeredCharters$Guild" (84 : Nat) "LayeredCharters$Charter" "rules" "Ljava/util/List;") ∈ lw_all := lw_g (lw_at lw_m1 72 rfl) rfl
theorem q117 : (Jvm.Cond.classLink "LayeredCharters$Guild" (18 : Nat) "java/util/ArrayList") ∈ lw_all := lw_g (lw_at lw_m1 76 rfl) rfl
theorem q118 : (Jvm.Cond.methodLink "LayeredCharters$Guild" (20 : Nat) ({ cls := "java/util/ArrayList", name := "<init>", desc := "()V" } : Jvm.MethodName)) ∈ lw_all := lw_g (lw_at lw_m1 77 rfl) rfl
theorem q119 : (Jvm.Cond.fieldLink "LayeredCharters$Guild" (12 : Nat) "LayeredCharters$Guild" "charter" "LLayeredCharters$Charter;") ∈ lw_all := lw_g (lw_at lw_m1 78 rfl) rfl
theorem q121 : (Jvm.Cond.fieldLink "LayeredCharters$Guild" (21 : Nat) "LayeredCharters$Guild" "members" "Ljava/util/List;") ∈ lw_all := lw_g (lw_at lw_m1 80 rfl) rfl
theorem q123 : (Jvm.Cond.fieldLink "LayeredCharters$Guild" (53 : Nat) "LayeredCharters$Guild" "done" "I") ∈ lw_all := lw_g (lw_at lw_m1 82 rfl) rfl
theorem q125 : (Jvm.Cond.fieldLink "LayeredCharters$Guild" (25 : Nat) "LayeredCharters$Guild" "byLayers" "[I") ∈ lw_all := lw_g (lw_at lw_m1 84 rfl) rfl
theorem q127 : (Jvm.Cond.fieldLink "LayeredCharters$Guild" (57 : Nat) "LayeredCharters$Guild" "notPermitted" "I") ∈ lw_all := lw_g (lw_at lw_m1 86 rfl) rfl
theorem q129 : (Jvm.Cond.lays "LayeredCharters$Guild" "LayeredCharters$Guild" "charter" "LLayeredCharters$Charter;") ∈ lw_all := lw_g (lw_at lw_m1 88 rfl) rfl
theorem q130 : (Jvm.Cond.soleField "LayeredCharters$Guild" "charter") ∈ lw_all := lw_g (lw_at lw_m1 89 rfl) rfl
theorem q131 : (Jvm.Cond.laysFinal "LayeredCharters$Guild" "LayeredCharters$Guild" "members" "Ljava/util/List;") ∈ lw_all := lw_g (lw_at lw_m1 90 rfl) rfl
theorem q132 : (Jvm.Cond.soleField "LayeredCharters$Guild" "members") ∈ lw_all := lw_g (lw_at lw_m1 91 rfl) rfl
theorem q133 : (Jvm.Cond.lays "LayeredCharters$Guild" "LayeredCharters$Guild" "done" "I") ∈ lw_all := lw_g (lw_at lw_m1 92 rfl) rfl
theorem q134 : (Jvm.Cond.soleField "LayeredCharters$Guild" "done") ∈ lw_all := lw_g (lw_at lw_m1 93 rfl) rfl
theorem q135 : (Jvm.Cond.laysFinal "LayeredCharters$Guild" "LayeredCharters$Guild" "byLayers" "[I") ∈ lw_all := lw_g (lw_at lw_m1 94 rfl) rfl
theorem q136 : (Jvm.Cond.soleField "LayeredCharters$Guild" "byLayers") ∈ lw_all := lw_g (lw_at lw_m1 95 rfl) rfl
theorem q137 : (Jvm.Cond.lays "LayeredCharters$Guild" "LayeredCharters$Guild" "notPermitted" "I") ∈ lw_all := lw_g (lw_at lw_m1 96 rfl) rfl
theorem q138 : (Jvm.Cond.soleField "LayeredCharters$Guild" "notPermitted") ∈ lw_all := lw_g (lw_at lw_m1 97 rfl) rfl
theorem q139 : (Jvm.Cond.superclass "LayeredCharters$Guild" "java/lang/Object") ∈ lw_all := lw_g (lw_at lw_m1 98 rfl) rfl
theorem q225 : (Jvm.Cond.instanceMethod ({ cls := "LayeredCharters$Guild", name := "copy", desc := "()LLayeredCharters$Guild;" } : Jvm.MethodName)) ∈ lw_all := lw_g (lw_at lw_m1 184 rfl) rfl
theorem q226 : (Jvm.Cond.selects "LayeredCharters$Guild" ({ cls := "LayeredCharters$Guild", name := "copy", desc := "()LLayeredCharters$Guild;" } : Jvm.MethodName) ({ cls := "LayeredCharters$Guild", name := "copy", desc := "()LLayeredCharters$Guild;" } : Jvm.MethodName)) ∈ lw_all := lw_g (lw_at lw_m1 185 rfl) rfl
theorem q227 : (Jvm.Cond.code ({ cls := "LayeredCharters$Guild", name := "copy", desc := "()LLayeredCharters$Guild;" } : Jvm.MethodName) prog_3_method_2_code (3 : Nat) (Option.some (Jvm.ClassFile.FieldType.object "LayeredCharters$Guild"))) ∈ lw_all := lw_g (lw_at lw_m1 186 rfl) rfl
theorem q228 : (Jvm.Cond.classLink "LayeredCharters$Guild" (13 : Nat) "LayeredCharters$Guild") ∈ lw_all := lw_g (lw_at lw_m1 187 rfl) rfl
theorem q229 : (Jvm.Cond.methodLink "LayeredCharters$Guild" (29 : Nat) ({ cls := "LayeredCharters$Guild", name := "<init>", desc := "()V" } : Jvm.MethodName)) ∈ lw_all := lw_g (lw_at lw_m1 188 rfl) rfl
theorem q230 : (Jvm.Cond.methodLink "LayeredCharters$Guild" (30 : Nat) ({ cls := "LayeredCharters$Charter", name := "copy", desc := "()LLayeredCharters$Charter;" } : Jvm.MethodName)) ∈ lw_all := lw_g (lw_at lw_m1 189 rfl) rfl
theorem q263 : (Jvm.Cond.selects "LayeredCharters$Guild" ({ cls := "java/lang/Object", name := "getClass", desc := "()Ljava/lang/Class;" } : Jvm.MethodName) ({ cls := "java/lang/Object", name := "getClass", desc := "()Ljava/lang/Class;" } : Jvm.MethodName)) ∈ lw_all := lw_g (lw_at lw_m1 222 rfl) rfl
theorem q301 : (Jvm.Cond.interfaceEntry "LayeredCharters$Guild" (34 : Nat)) ∈ lw_tbl := lw_at lw_m2 20 rfl
theorem q302 : (Jvm.Cond.methodLink "LayeredCharters$Guild" (34 : Nat) ({ cls := "java/util/List", name := "size", desc := "()I" } : Jvm.MethodName)) ∈ lw_all := lw_g (lw_at lw_m2 21 rfl) rfl
theorem q303 : (Jvm.Cond.interfaceEntry "LayeredCharters$Guild" (40 : Nat)) ∈ lw_tbl := lw_at lw_m2 22 rfl
theorem q304 : (Jvm.Cond.methodLink "LayeredCharters$Guild" (40 : Nat) ({ cls := "java/util/List", name := "get", desc := "(I)Ljava/lang/Object;" } : Jvm.MethodName)) ∈ lw_all := lw_g (lw_at lw_m2 23 rfl) rfl
theorem q322 : (Jvm.Cond.classLink "LayeredCharters$Guild" (44 : Nat) "LayeredCharters$Member") ∈ lw_all := lw_g (lw_at lw_m2 41 rfl) rfl
theorem q323 : (Jvm.Cond.methodLink "LayeredCharters$Guild" (46 : Nat) ({ cls := "LayeredCharters$Member", name := "copy", desc := "()LLayeredCharters$Member;" } : Jvm.MethodName)) ∈ lw_all := lw_g (lw_at lw_m2 42 rfl) rfl
theorem q334 : (Jvm.Cond.fieldLink "LayeredCharters$Guild" (66 : Nat) "LayeredCharters$Member" "craft" "I") ∈ lw_all := lw_g (lw_at lw_m2 53 rfl) rfl
theorem q337 : (Jvm.Cond.fieldLink "LayeredCharters$Guild" (69 : Nat) "LayeredCharters$Member" "rank" "I") ∈ lw_all := lw_g (lw_at lw_m2 56 rfl) rfl
theorem q340 : (Jvm.Cond.fieldLink "LayeredCharters$Guild" (76 : Nat) "LayeredCharters$Member" "done" "I") ∈ lw_all := lw_g (lw_at lw_m2 59 rfl) rfl
theorem q343 : (Jvm.Cond.fieldLink "LayeredCharters$Guild" (77 : Nat) "LayeredCharters$Member" "refused" "I") ∈ lw_all := lw_g (lw_at lw_m2 62 rfl) rfl
theorem q354 : (Jvm.Cond.interfaceEntry "LayeredCharters$Guild" (49 : Nat)) ∈ lw_tbl := lw_at lw_m2 73 rfl
theorem q355 : (Jvm.Cond.methodLink "LayeredCharters$Guild" (49 : Nat) ({ cls := "java/util/List", name := "add", desc := "(Ljava/lang/Object;)Z" } : Jvm.MethodName)) ∈ lw_all := lw_g (lw_at lw_m2 74 rfl) rfl
theorem q393 : (Jvm.Cond.fieldLink "LayeredCharters$Guild" (89 : Nat) "LayeredCharters$Rule" "layer" "I") ∈ lw_all := lw_g (lw_at lw_m2 112 rfl) rfl
theorem q715 : (Jvm.Cond.instanceMethod ({ cls := "LayeredCharters$Guild", name := "hasMember", desc := "(I)Z" } : Jvm.MethodName)) ∈ lw_all := lw_g (lw_at lw_m3 194 rfl) rfl
theorem q716 : (Jvm.Cond.selects "LayeredCharters$Guild" ({ cls := "LayeredCharters$Guild", name := "hasMember", desc := "(I)Z" } : Jvm.MethodName) ({ cls := "LayeredCharters$Guild", name := "hasMember", desc := "(I)Z" } : Jvm.MethodName)) ∈ lw_all := lw_g (lw_at lw_m3 195 rfl) rfl
theorem q717 : (Jvm.Cond.code ({ cls := "LayeredCharters$Guild", name := "hasMember", desc := "(I)Z" } : Jvm.MethodName) prog_3_method_3_code (2 : Nat) (Option.some Jvm.ClassFile.FieldType.boolean)) ∈ lw_all := lw_g (lw_at lw_m3 196 rfl) rfl
theorem q718 : (Jvm.Cond.methodLink "LayeredCharters$Guild" (60 : Nat) ({ cls := "LayeredCharters$Ranges", name := "holds", desc := "(III)Z" } : Jvm.MethodName)) ∈ lw_all := lw_g (lw_at lw_m3 197 rfl) rfl
theorem q731 : (Jvm.Cond.instanceMethod ({ cls := "LayeredCharters$Guild", name := "act", desc := "(LLayeredCharters$Member;I)I" } : Jvm.MethodName)) ∈ lw_all := lw_g (lw_at lw_m3 210 rfl) rfl
theorem q732 : (Jvm.Cond.selects "LayeredCharters$Guild" ({ cls := "LayeredCharters$Guild", name := "act", desc := "(LLayeredCharters$Member;I)I" } : Jvm.MethodName) ({ cls := "LayeredCharters$Guild", name := "act", desc := "(LLayeredCharters$Member;I)I" } : Jvm.MethodName)) ∈ lw_all := lw_g (lw_at lw_m3 211 rfl) rfl
theorem q733 : (Jvm.Cond.code ({ cls := "LayeredCharters$Guild", name := "act", desc := "(LLayeredCharters$Member;I)I" } : Jvm.MethodName) prog_3_method_4_code (4 : Nat) (Option.some Jvm.ClassFile.FieldType.int)) ∈ lw_all := lw_g (lw_at lw_m3 212 rfl) rfl
theorem q734 : (Jvm.Cond.methodLink "LayeredCharters$Guild" (72 : Nat) ({ cls := "LayeredCharters$Charter", name := "reason", desc := "(III)I" } : Jvm.MethodName)) ∈ lw_all := lw_g (lw_at lw_m3 213 rfl) rfl
theorem q755 : (Jvm.Cond.methodLink "LayeredCharters$Guild" (80 : Nat) ({ cls := "LayeredCharters$Charter", name := "hasRule", desc := "(I)Z" } : Jvm.MethodName)) ∈ lw_all := lw_g (lw_at lw_m3 234 rfl) rfl
theorem q756 : (Jvm.Cond.classLink "LayeredCharters$Guild" (87 : Nat) "LayeredCharters$Rule") ∈ lw_all := lw_g (lw_at lw_m3 235 rfl) rfl
theorem q1275 : (Jvm.Cond.castable "LayeredCharters$Guild" "java/lang/Object") ∈ lw_tbl := lw_at lw_m6 34 rfl
theorem in_X1 : ∀ w ∈ wsX10, w ∈ lw_all := lw_in wsX10 [129, 131, 133, 135, 137] (by decide +kernel) (by decide +kernel)

/-! LayeredCharters$Charter -/
set_option maxRecDepth 100000
def RX2 : String := "LayeredCharters$Charter"
def TX2 : u_T := fun k => match k with
  | _ => ("LayeredCharters$Charter", "rules", "Ljava/util/List;", true)
def tyX2 : Nat → FieldType := fun k => match k with
  | _ => .object "java/util/List"
abbrev wsX20 : List Cond := u_ws RX2 TX2 1
theorem nmX2 : ∀ a, a < 1 → ∀ b, b < 1 → a ≠ b → (TX2 a).2.1 ≠ (TX2 b).2.1 := by decide +kernel
theorem tyX2_ok : ∀ k, k < 1 → parseFieldDescriptor (TX2 k).2.2.1 = some (tyX2 k) := by decide +kernel
abbrev cX2_init : ByteArray := prog_2_method_1_code
def yX2_init : MethodName := ⟨RX2, "<init>", "()V"⟩
def dkwX2_init_0 : List UInt8 := [42, 183, 0, 3, 42, 187, 0, 9, 89, 183, 0, 11, 181, 0, 12, 177]
abbrev dktX2_init_0 : List UInt8 := dkwX2_init_0 ++ []
theorem dksX2_init_0 : cX2_init.data.toList.drop 0 = dktX2_init_0 := by decide +kernel
theorem dX2_init_0 : decode cX2_init 0 = .ok (.aload_n 0, 1) := dk_42 (dk_at dksX2_init_0 0 rfl rfl)
theorem dX2_init_1 : decode cX2_init 1 = .ok (.invokespecial 3, 3) := dk_183 0 3 (dk_at dksX2_init_0 1 rfl rfl)
theorem dX2_init_4 : decode cX2_init 4 = .ok (.aload_n 0, 1) := dk_42 (dk_at dksX2_init_0 4 rfl rfl)
theorem dX2_init_5 : decode cX2_init 5 = .ok (.new 9, 3) := dk_187 0 9 (dk_at dksX2_init_0 5 rfl rfl)
theorem dX2_init_8 : decode cX2_init 8 = .ok (.dup, 1) := dk_89 (dk_at dksX2_init_0 8 rfl rfl)
theorem dX2_init_9 : decode cX2_init 9 = .ok (.invokespecial 11, 3) := dk_183 0 11 (dk_at dksX2_init_0 9 rfl rfl)
theorem dX2_init_12 : decode cX2_init 12 = .ok (.putfield 12, 3) := dk_181 0 12 (dk_at dksX2_init_0 12 rfl rfl)
theorem dX2_init_15 : decode cX2_init 15 = .ok (.return_, 1) := dk_177 (dk_at dksX2_init_0 15 rfl rfl)
abbrev cX2_copy : ByteArray := prog_2_method_2_code
def yX2_copy : MethodName := ⟨RX2, "copy", "()LLayeredCharters$Charter;"⟩
def dkwX2_copy_0 : List UInt8 := [187, 0, 13, 89, 183, 0, 18, 76, 43, 180, 0, 12, 42, 180, 0, 12, 185, 0, 19, 2, 0, 87, 43, 176]
abbrev dktX2_copy_0 : List UInt8 := dkwX2_copy_0 ++ []
theorem dksX2_copy_0 : cX2_copy.data.toList.drop 0 = dktX2_copy_0 := by decide +kernel
theorem dX2_copy_0 : decode cX2_copy 0 = .ok (.new 13, 3) := dk_187 0 13 (dk_at dksX2_copy_0 0 rfl rfl)
theorem dX2_copy_3 : decode cX2_copy 3 = .ok (.dup, 1) := dk_89 (dk_at dksX2_copy_0 3 rfl rfl)
theorem dX2_copy_4 : decode cX2_copy 4 = .ok (.invokespecial 18, 3) := dk_183 0 18 (dk_at dksX2_copy_0 4 rfl rfl)
theorem dX2_copy_7 : decode cX2_copy 7 = .ok (.astore_n 1, 1) := dk_76 (dk_at dksX2_copy_0 7 rfl rfl)
theorem dX2_copy_8 : decode cX2_copy 8 = .ok (.aload_n 1, 1) := dk_43 (dk_at dksX2_copy_0 8 rfl rfl)
theorem dX2_copy_9 : decode cX2_copy 9 = .ok (.getfield 12, 3) := dk_180 0 12 (dk_at dksX2_copy_0 9 rfl rfl)
theorem dX2_copy_12 : decode cX2_copy 12 = .ok (.aload_n 0, 1) := dk_42 (dk_at dksX2_copy_0 12 rfl rfl)
theorem dX2_copy_13 : decode cX2_copy 13 = .ok (.getfield 12, 3) := dk_180 0 12 (dk_at dksX2_copy_0 13 rfl rfl)
theorem dX2_copy_16 : decode cX2_copy 16 = .ok (.invokeinterface 19 2, 5) := by decide +kernel
theorem dX2_copy_21 : decode cX2_copy 21 = .ok (.pop, 1) := dk_87 (dk_at dksX2_copy_0 21 rfl rfl)
theorem dX2_copy_22 : decode cX2_copy 22 = .ok (.aload_n 1, 1) := dk_43 (dk_at dksX2_copy_0 22 rfl rfl)
theorem dX2_copy_23 : decode cX2_copy 23 = .ok (.areturn, 1) := dk_176 (dk_at dksX2_copy_0 23 rfl rfl)
abbrev cX2_hasRule : ByteArray := prog_2_method_4_code
def yX2_hasRule : MethodName := ⟨RX2, "hasRule", "(I)Z"⟩
def dkwX2_hasRule_0 : List UInt8 := [27, 3, 42, 180, 0, 12, 185, 0, 33, 1, 0, 4, 100, 184, 0, 37, 172]
abbrev dktX2_hasRule_0 : List UInt8 := dkwX2_hasRule_0 ++ []
theorem dksX2_hasRule_0 : cX2_hasRule.data.toList.drop 0 = dktX2_hasRule_0 := by decide +kernel
theorem dX2_hasRule_0 : decode cX2_hasRule 0 = .ok (.iload_n 1, 1) := dk_27 (dk_at dksX2_hasRule_0 0 rfl rfl)
theorem dX2_hasRule_1 : decode cX2_hasRule 1 = .ok (.iconst 0, 1) := dk_3 (dk_at dksX2_hasRule_0 1 rfl rfl)
theorem dX2_hasRule_2 : decode cX2_hasRule 2 = .ok (.aload_n 0, 1) := dk_42 (dk_at dksX2_hasRule_0 2 rfl rfl)
theorem dX2_hasRule_3 : decode cX2_hasRule 3 = .ok (.getfield 12, 3) := dk_180 0 12 (dk_at dksX2_hasRule_0 3 rfl rfl)
theorem dX2_hasRule_6 : decode cX2_hasRule 6 = .ok (.invokeinterface 33 1, 5) := by decide +kernel
theorem dX2_hasRule_11 : decode cX2_hasRule 11 = .ok (.iconst 1, 1) := dk_4 (dk_at dksX2_hasRule_0 11 rfl rfl)
theorem dX2_hasRule_12 : decode cX2_hasRule 12 = .ok (.isub, 1) := dk_100 (dk_at dksX2_hasRule_0 12 rfl rfl)
theorem dX2_hasRule_13 : decode cX2_hasRule 13 = .ok (.invokestatic 37, 3) := dk_184 0 37 (dk_at dksX2_hasRule_0 13 rfl rfl)
theorem dX2_hasRule_16 : decode cX2_hasRule 16 = .ok (.ireturn, 1) := dk_172 (dk_at dksX2_hasRule_0 16 rfl rfl)
abbrev cX2_firstIdle : ByteArray := prog_2_method_16_code
def yX2_firstIdle : MethodName := ⟨RX2, "firstIdle", "()I"⟩
def dkwX2_firstIdle_1 : List UInt8 := [172, 132, 1, 1, 167, 255, 230, 16, 250, 172]
abbrev dktX2_firstIdle_1 : List UInt8 := dkwX2_firstIdle_1 ++ []
def dkwX2_firstIdle_0 : List UInt8 := [3, 60, 27, 42, 180, 0, 12, 185, 0, 33, 1, 0, 162, 0, 19, 42, 27, 182, 0, 100, 153, 0, 5, 27]
abbrev dktX2_firstIdle_0 : List UInt8 := dkwX2_firstIdle_0 ++ dktX2_firstIdle_1
theorem dksX2_firstIdle_0 : cX2_firstIdle.data.toList.drop 0 = dktX2_firstIdle_0 := by decide +kernel
theorem dksX2_firstIdle_1 : cX2_firstIdle.data.toList.drop 24 = dktX2_firstIdle_1 := dk_seg dksX2_firstIdle_0 24 rfl rfl
theorem dX2_firstIdle_0 : decode cX2_firstIdle 0 = .ok (.iconst 0, 1) := dk_3 (dk_at dksX2_firstIdle_0 0 rfl rfl)
theorem dX2_firstIdle_1 : decode cX2_firstIdle 1 = .ok (.istore_n 1, 1) := dk_60 (dk_at dksX2_firstIdle_0 1 rfl rfl)
theorem dX2_firstIdle_2 : decode cX2_firstIdle 2 = .ok (.iload_n 1, 1) := dk_27 (dk_at dksX2_firstIdle_0 2 rfl rfl)
theorem dX2_firstIdle_3 : decode cX2_firstIdle 3 = .ok (.aload_n 0, 1) := dk_42 (dk_at dksX2_firstIdle_0 3 rfl rfl)
theorem dX2_firstIdle_4 : decode cX2_firstIdle 4 = .ok (.getfield 12, 3) := dk_180 0 12 (dk_at dksX2_firstIdle_0 4 rfl rfl)
theorem dX2_firstIdle_7 : decode cX2_firstIdle 7 = .ok (.invokeinterface 33 1, 5) := by decide +kernel
theorem dX2_firstIdle_12 : decode cX2_firstIdle 12 = .ok (.if_icmp .ge 19, 3) := dk_162 0 19 (dk_at dksX2_firstIdle_0 12 rfl rfl)
theorem dX2_firstIdle_15 : decode cX2_firstIdle 15 = .ok (.aload_n 0, 1) := dk_42 (dk_at dksX2_firstIdle_0 15 rfl rfl)
theorem dX2_firstIdle_16 : decode cX2_firstIdle 16 = .ok (.iload_n 1, 1) := dk_27 (dk_at dksX2_firstIdle_0 16 rfl rfl)
theorem dX2_firstIdle_17 : decode cX2_firstIdle 17 = .ok (.invokevirtual 100, 3) := dk_182 0 100 (dk_at dksX2_firstIdle_0 17 rfl rfl)
theorem dX2_firstIdle_20 : decode cX2_firstIdle 20 = .ok (.ifCond .eq 5, 3) := dk_153 0 5 (dk_at dksX2_firstIdle_0 20 rfl rfl)
theorem dX2_firstIdle_23 : decode cX2_firstIdle 23 = .ok (.iload_n 1, 1) := dk_27 (dk_at dksX2_firstIdle_0 23 rfl rfl)
theorem dX2_firstIdle_24 : decode cX2_firstIdle 24 = .ok (.ireturn, 1) := dk_172 (dk_at dksX2_firstIdle_1 0 rfl rfl)
theorem dX2_firstIdle_25 : decode cX2_firstIdle 25 = .ok (.iinc 1 1, 3) := dk_132 1 1 (dk_at dksX2_firstIdle_1 1 rfl rfl)
theorem dX2_firstIdle_28 : decode cX2_firstIdle 28 = .ok (.goto (-26), 3) := dk_167 255 230 (dk_at dksX2_firstIdle_1 4 rfl rfl)
theorem dX2_firstIdle_31 : decode cX2_firstIdle 31 = .ok (.bipush (-6), 2) := dk_16 250 (dk_at dksX2_firstIdle_1 7 rfl rfl)
theorem dX2_firstIdle_33 : decode cX2_firstIdle 33 = .ok (.ireturn, 1) := dk_172 (dk_at dksX2_firstIdle_1 9 rfl rfl)
abbrev cX2_isIdle : ByteArray := prog_2_method_15_code
def yX2_isIdle : MethodName := ⟨RX2, "isIdle", "(I)Z"⟩
def dkwX2_isIdle_0 : List UInt8 := [42, 42, 27, 182, 0, 92, 182, 0, 96, 172]
abbrev dktX2_isIdle_0 : List UInt8 := dkwX2_isIdle_0 ++ []
theorem dksX2_isIdle_0 : cX2_isIdle.data.toList.drop 0 = dktX2_isIdle_0 := by decide +kernel
theorem dX2_isIdle_0 : decode cX2_isIdle 0 = .ok (.aload_n 0, 1) := dk_42 (dk_at dksX2_isIdle_0 0 rfl rfl)
theorem dX2_isIdle_1 : decode cX2_isIdle 1 = .ok (.aload_n 0, 1) := dk_42 (dk_at dksX2_isIdle_0 1 rfl rfl)
theorem dX2_isIdle_2 : decode cX2_isIdle 2 = .ok (.iload_n 1, 1) := dk_27 (dk_at dksX2_isIdle_0 2 rfl rfl)
theorem dX2_isIdle_3 : decode cX2_isIdle 3 = .ok (.invokevirtual 92, 3) := dk_182 0 92 (dk_at dksX2_isIdle_0 3 rfl rfl)
theorem dX2_isIdle_6 : decode cX2_isIdle 6 = .ok (.invokevirtual 96, 3) := dk_182 0 96 (dk_at dksX2_isIdle_0 6 rfl rfl)
theorem dX2_isIdle_9 : decode cX2_isIdle 9 = .ok (.ireturn, 1) := dk_172 (dk_at dksX2_isIdle_0 9 rfl rfl)
abbrev cX2_without : ByteArray := prog_2_method_3_code
def yX2_without : MethodName := ⟨RX2, "without", "(I)LLayeredCharters$Charter;"⟩
def dkwX2_without_0 : List UInt8 := [42, 182, 0, 25, 77, 44, 180, 0, 12, 27, 185, 0, 29, 2, 0, 87, 44, 176]
abbrev dktX2_without_0 : List UInt8 := dkwX2_without_0 ++ []
theorem dksX2_without_0 : cX2_without.data.toList.drop 0 = dktX2_without_0 := by decide +kernel
theorem dX2_without_0 : decode cX2_without 0 = .ok (.aload_n 0, 1) := dk_42 (dk_at dksX2_without_0 0 rfl rfl)
theorem dX2_without_1 : decode cX2_without 1 = .ok (.invokevirtual 25, 3) := dk_182 0 25 (dk_at dksX2_without_0 1 rfl rfl)
theorem dX2_without_4 : decode cX2_without 4 = .ok (.astore_n 2, 1) := dk_77 (dk_at dksX2_without_0 4 rfl rfl)
theorem dX2_without_5 : decode cX2_without 5 = .ok (.aload_n 2, 1) := dk_44 (dk_at dksX2_without_0 5 rfl rfl)
theorem dX2_without_6 : decode cX2_without 6 = .ok (.getfield 12, 3) := dk_180 0 12 (dk_at dksX2_without_0 6 rfl rfl)
theorem dX2_without_9 : decode cX2_without 9 = .ok (.iload_n 1, 1) := dk_27 (dk_at dksX2_without_0 9 rfl rfl)
theorem dX2_without_10 : decode cX2_without 10 = .ok (.invokeinterface 29 2, 5) := by decide +kernel
theorem dX2_without_15 : decode cX2_without 15 = .ok (.pop, 1) := dk_87 (dk_at dksX2_without_0 15 rfl rfl)
theorem dX2_without_16 : decode cX2_without 16 = .ok (.aload_n 2, 1) := dk_44 (dk_at dksX2_without_0 16 rfl rfl)
theorem dX2_without_17 : decode cX2_without 17 = .ok (.areturn, 1) := dk_176 (dk_at dksX2_without_0 17 rfl rfl)
abbrev cX2_allowsTheSame : ByteArray := prog_2_method_14_code
def yX2_allowsTheSame : MethodName := ⟨RX2, "allowsTheSame", "(LLayeredCharters$Charter;)Z"⟩
def dkwX2_allowsTheSame_2 : List UInt8 := [167, 255, 221, 132, 3, 1, 167, 255, 207, 28, 172]
abbrev dktX2_allowsTheSame_2 : List UInt8 := dkwX2_allowsTheSame_2 ++ []
def dkwX2_allowsTheSame_1 : List UInt8 := [182, 0, 89, 43, 29, 21, 4, 182, 0, 89, 160, 0, 7, 4, 167, 0, 4, 3, 126, 61, 132, 4, 1]
abbrev dktX2_allowsTheSame_1 : List UInt8 := dkwX2_allowsTheSame_1 ++ dktX2_allowsTheSame_2
def dkwX2_allowsTheSame_0 : List UInt8 := [4, 61, 3, 62, 29, 8, 162, 0, 50, 3, 54, 4, 21, 4, 16, 6, 162, 0, 34, 28, 42, 29, 21, 4]
abbrev dktX2_allowsTheSame_0 : List UInt8 := dkwX2_allowsTheSame_0 ++ dktX2_allowsTheSame_1
theorem dksX2_allowsTheSame_0 : cX2_allowsTheSame.data.toList.drop 0 = dktX2_allowsTheSame_0 := by decide +kernel
theorem dksX2_allowsTheSame_1 : cX2_allowsTheSame.data.toList.drop 24 = dktX2_allowsTheSame_1 := dk_seg dksX2_allowsTheSame_0 24 rfl rfl
theorem dksX2_allowsTheSame_2 : cX2_allowsTheSame.data.toList.drop 47 = dktX2_allowsTheSame_2 := dk_seg dksX2_allowsTheSame_1 23 rfl rfl
theorem dX2_allowsTheSame_0 : decode cX2_allowsTheSame 0 = .ok (.iconst 1, 1) := dk_4 (dk_at dksX2_allowsTheSame_0 0 rfl rfl)
theorem dX2_allowsTheSame_1 : decode cX2_allowsTheSame 1 = .ok (.istore_n 2, 1) := dk_61 (dk_at dksX2_allowsTheSame_0 1 rfl rfl)
theorem dX2_allowsTheSame_2 : decode cX2_allowsTheSame 2 = .ok (.iconst 0, 1) := dk_3 (dk_at dksX2_allowsTheSame_0 2 rfl rfl)
theorem dX2_allowsTheSame_3 : decode cX2_allowsTheSame 3 = .ok (.istore_n 3, 1) := dk_62 (dk_at dksX2_allowsTheSame_0 3 rfl rfl)
theorem dX2_allowsTheSame_4 : decode cX2_allowsTheSame 4 = .ok (.iload_n 3, 1) := dk_29 (dk_at dksX2_allowsTheSame_0 4 rfl rfl)
theorem dX2_allowsTheSame_5 : decode cX2_allowsTheSame 5 = .ok (.iconst 5, 1) := dk_8 (dk_at dksX2_allowsTheSame_0 5 rfl rfl)
theorem dX2_allowsTheSame_6 : decode cX2_allowsTheSame 6 = .ok (.if_icmp .ge 50, 3) := dk_162 0 50 (dk_at dksX2_allowsTheSame_0 6 rfl rfl)
theorem dX2_allowsTheSame_9 : decode cX2_allowsTheSame 9 = .ok (.iconst 0, 1) := dk_3 (dk_at dksX2_allowsTheSame_0 9 rfl rfl)
theorem dX2_allowsTheSame_10 : decode cX2_allowsTheSame 10 = .ok (.istore 4, 2) := dk_54 4 (dk_at dksX2_allowsTheSame_0 10 rfl rfl)
theorem dX2_allowsTheSame_12 : decode cX2_allowsTheSame 12 = .ok (.iload 4, 2) := dk_21 4 (dk_at dksX2_allowsTheSame_0 12 rfl rfl)
theorem dX2_allowsTheSame_14 : decode cX2_allowsTheSame 14 = .ok (.bipush 6, 2) := dk_16 6 (dk_at dksX2_allowsTheSame_0 14 rfl rfl)
theorem dX2_allowsTheSame_16 : decode cX2_allowsTheSame 16 = .ok (.if_icmp .ge 34, 3) := dk_162 0 34 (dk_at dksX2_allowsTheSame_0 16 rfl rfl)
theorem dX2_allowsTheSame_19 : decode cX2_allowsTheSame 19 = .ok (.iload_n 2, 1) := dk_28 (dk_at dksX2_allowsTheSame_0 19 rfl rfl)
theorem dX2_allowsTheSame_20 : decode cX2_allowsTheSame 20 = .ok (.aload_n 0, 1) := dk_42 (dk_at dksX2_allowsTheSame_0 20 rfl rfl)
theorem dX2_allowsTheSame_21 : decode cX2_allowsTheSame 21 = .ok (.iload_n 3, 1) := dk_29 (dk_at dksX2_allowsTheSame_0 21 rfl rfl)
theorem dX2_allowsTheSame_22 : decode cX2_allowsTheSame 22 = .ok (.iload 4, 2) := dk_21 4 (dk_at dksX2_allowsTheSame_0 22 rfl rfl)
theorem dX2_allowsTheSame_24 : decode cX2_allowsTheSame 24 = .ok (.invokevirtual 89, 3) := dk_182 0 89 (dk_at dksX2_allowsTheSame_1 0 rfl rfl)
theorem dX2_allowsTheSame_27 : decode cX2_allowsTheSame 27 = .ok (.aload_n 1, 1) := dk_43 (dk_at dksX2_allowsTheSame_1 3 rfl rfl)
theorem dX2_allowsTheSame_28 : decode cX2_allowsTheSame 28 = .ok (.iload_n 3, 1) := dk_29 (dk_at dksX2_allowsTheSame_1 4 rfl rfl)
theorem dX2_allowsTheSame_29 : decode cX2_allowsTheSame 29 = .ok (.iload 4, 2) := dk_21 4 (dk_at dksX2_allowsTheSame_1 5 rfl rfl)
theorem dX2_allowsTheSame_31 : decode cX2_allowsTheSame 31 = .ok (.invokevirtual 89, 3) := dk_182 0 89 (dk_at dksX2_allowsTheSame_1 7 rfl rfl)
theorem dX2_allowsTheSame_34 : decode cX2_allowsTheSame 34 = .ok (.if_icmp .ne 7, 3) := dk_160 0 7 (dk_at dksX2_allowsTheSame_1 10 rfl rfl)
theorem dX2_allowsTheSame_37 : decode cX2_allowsTheSame 37 = .ok (.iconst 1, 1) := dk_4 (dk_at dksX2_allowsTheSame_1 13 rfl rfl)
theorem dX2_allowsTheSame_38 : decode cX2_allowsTheSame 38 = .ok (.goto 4, 3) := dk_167 0 4 (dk_at dksX2_allowsTheSame_1 14 rfl rfl)
theorem dX2_allowsTheSame_41 : decode cX2_allowsTheSame 41 = .ok (.iconst 0, 1) := dk_3 (dk_at dksX2_allowsTheSame_1 17 rfl rfl)
theorem dX2_allowsTheSame_42 : decode cX2_allowsTheSame 42 = .ok (.iand, 1) := dk_126 (dk_at dksX2_allowsTheSame_1 18 rfl rfl)
theorem dX2_allowsTheSame_43 : decode cX2_allowsTheSame 43 = .ok (.istore_n 2, 1) := dk_61 (dk_at dksX2_allowsTheSame_1 19 rfl rfl)
theorem dX2_allowsTheSame_44 : decode cX2_allowsTheSame 44 = .ok (.iinc 4 1, 3) := dk_132 4 1 (dk_at dksX2_allowsTheSame_1 20 rfl rfl)
theorem dX2_allowsTheSame_47 : decode cX2_allowsTheSame 47 = .ok (.goto (-35), 3) := dk_167 255 221 (dk_at dksX2_allowsTheSame_2 0 rfl rfl)
theorem dX2_allowsTheSame_50 : decode cX2_allowsTheSame 50 = .ok (.iinc 3 1, 3) := dk_132 3 1 (dk_at dksX2_allowsTheSame_2 3 rfl rfl)
theorem dX2_allowsTheSame_53 : decode cX2_allowsTheSame 53 = .ok (.goto (-49), 3) := dk_167 255 207 (dk_at dksX2_allowsTheSame_2 6 rfl rfl)
theorem dX2_allowsTheSame_56 : decode cX2_allowsTheSame 56 = .ok (.iload_n 2, 1) := dk_28 (dk_at dksX2_allowsTheSame_2 9 rfl rfl)
theorem dX2_allowsTheSame_57 : decode cX2_allowsTheSame 57 = .ok (.ireturn, 1) := dk_172 (dk_at dksX2_allowsTheSame_2 10 rfl rfl)
abbrev cX2_least : ByteArray := prog_2_method_12_code
def yX2_least : MethodName := ⟨RX2, "least", "(II)I"⟩
def dkwX2_least_3 : List UInt8 := [62, 132, 5, 1, 167, 255, 202, 29, 172]
abbrev dktX2_least_3 : List UInt8 := dkwX2_least_3 ++ []
def dkwX2_least_2 : List UInt8 := [27, 28, 182, 0, 85, 54, 6, 21, 6, 21, 4, 164, 0, 12, 21, 6, 29, 184, 0, 79, 167, 0, 4, 29]
abbrev dktX2_least_2 : List UInt8 := dkwX2_least_2 ++ dktX2_least_3
def dkwX2_least_1 : List UInt8 := [8, 162, 0, 54, 42, 5, 21, 5, 27, 28, 182, 0, 85, 21, 4, 184, 0, 79, 54, 4, 42, 4, 21, 5]
abbrev dktX2_least_1 : List UInt8 := dkwX2_least_1 ++ dktX2_least_2
def dkwX2_least_0 : List UInt8 := [42, 27, 28, 182, 0, 72, 153, 0, 7, 3, 167, 0, 5, 16, 10, 62, 3, 54, 4, 3, 54, 5, 21, 5]
abbrev dktX2_least_0 : List UInt8 := dkwX2_least_0 ++ dktX2_least_1
theorem dksX2_least_0 : cX2_least.data.toList.drop 0 = dktX2_least_0 := by decide +kernel
theorem dksX2_least_1 : cX2_least.data.toList.drop 24 = dktX2_least_1 := dk_seg dksX2_least_0 24 rfl rfl
theorem dksX2_least_2 : cX2_least.data.toList.drop 48 = dktX2_least_2 := dk_seg dksX2_least_1 24 rfl rfl
theorem dksX2_least_3 : cX2_least.data.toList.drop 72 = dktX2_least_3 := dk_seg dksX2_least_2 24 rfl rfl
theorem dX2_least_0 : decode cX2_least 0 = .ok (.aload_n 0, 1) := dk_42 (dk_at dksX2_least_0 0 rfl rfl)
theorem dX2_least_1 : decode cX2_least 1 = .ok (.iload_n 1, 1) := dk_27 (dk_at dksX2_least_0 1 rfl rfl)
theorem dX2_least_2 : decode cX2_least 2 = .ok (.iload_n 2, 1) := dk_28 (dk_at dksX2_least_0 2 rfl rfl)
theorem dX2_least_3 : decode cX2_least 3 = .ok (.invokevirtual 72, 3) := dk_182 0 72 (dk_at dksX2_least_0 3 rfl rfl)
theorem dX2_least_6 : decode cX2_least 6 = .ok (.ifCond .eq 7, 3) := dk_153 0 7 (dk_at dksX2_least_0 6 rfl rfl)
theorem dX2_least_9 : decode cX2_least 9 = .ok (.iconst 0, 1) := dk_3 (dk_at dksX2_least_0 9 rfl rfl)
theorem dX2_least_10 : decode cX2_least 10 = .ok (.goto 5, 3) := dk_167 0 5 (dk_at dksX2_least_0 10 rfl rfl)
theorem dX2_least_13 : decode cX2_least 13 = .ok (.bipush 10, 2) := dk_16 10 (dk_at dksX2_least_0 13 rfl rfl)
theorem dX2_least_15 : decode cX2_least 15 = .ok (.istore_n 3, 1) := dk_62 (dk_at dksX2_least_0 15 rfl rfl)
theorem dX2_least_16 : decode cX2_least 16 = .ok (.iconst 0, 1) := dk_3 (dk_at dksX2_least_0 16 rfl rfl)
theorem dX2_least_17 : decode cX2_least 17 = .ok (.istore 4, 2) := dk_54 4 (dk_at dksX2_least_0 17 rfl rfl)
theorem dX2_least_19 : decode cX2_least 19 = .ok (.iconst 0, 1) := dk_3 (dk_at dksX2_least_0 19 rfl rfl)
theorem dX2_least_20 : decode cX2_least 20 = .ok (.istore 5, 2) := dk_54 5 (dk_at dksX2_least_0 20 rfl rfl)
theorem dX2_least_22 : decode cX2_least 22 = .ok (.iload 5, 2) := dk_21 5 (dk_at dksX2_least_0 22 rfl rfl)
theorem dX2_least_24 : decode cX2_least 24 = .ok (.iconst 5, 1) := dk_8 (dk_at dksX2_least_1 0 rfl rfl)
theorem dX2_least_25 : decode cX2_least 25 = .ok (.if_icmp .ge 54, 3) := dk_162 0 54 (dk_at dksX2_least_1 1 rfl rfl)
theorem dX2_least_28 : decode cX2_least 28 = .ok (.aload_n 0, 1) := dk_42 (dk_at dksX2_least_1 4 rfl rfl)
theorem dX2_least_29 : decode cX2_least 29 = .ok (.iconst 2, 1) := dk_5 (dk_at dksX2_least_1 5 rfl rfl)
theorem dX2_least_30 : decode cX2_least 30 = .ok (.iload 5, 2) := dk_21 5 (dk_at dksX2_least_1 6 rfl rfl)
theorem dX2_least_32 : decode cX2_least 32 = .ok (.iload_n 1, 1) := dk_27 (dk_at dksX2_least_1 8 rfl rfl)
theorem dX2_least_33 : decode cX2_least 33 = .ok (.iload_n 2, 1) := dk_28 (dk_at dksX2_least_1 9 rfl rfl)
theorem dX2_least_34 : decode cX2_least 34 = .ok (.invokevirtual 85, 3) := dk_182 0 85 (dk_at dksX2_least_1 10 rfl rfl)
theorem dX2_least_37 : decode cX2_least 37 = .ok (.iload 4, 2) := dk_21 4 (dk_at dksX2_least_1 13 rfl rfl)
theorem dX2_least_39 : decode cX2_least 39 = .ok (.invokestatic 79, 3) := dk_184 0 79 (dk_at dksX2_least_1 15 rfl rfl)
theorem dX2_least_42 : decode cX2_least 42 = .ok (.istore 4, 2) := dk_54 4 (dk_at dksX2_least_1 18 rfl rfl)
theorem dX2_least_44 : decode cX2_least 44 = .ok (.aload_n 0, 1) := dk_42 (dk_at dksX2_least_1 20 rfl rfl)
theorem dX2_least_45 : decode cX2_least 45 = .ok (.iconst 1, 1) := dk_4 (dk_at dksX2_least_1 21 rfl rfl)
theorem dX2_least_46 : decode cX2_least 46 = .ok (.iload 5, 2) := dk_21 5 (dk_at dksX2_least_1 22 rfl rfl)
theorem dX2_least_48 : decode cX2_least 48 = .ok (.iload_n 1, 1) := dk_27 (dk_at dksX2_least_2 0 rfl rfl)
theorem dX2_least_49 : decode cX2_least 49 = .ok (.iload_n 2, 1) := dk_28 (dk_at dksX2_least_2 1 rfl rfl)
theorem dX2_least_50 : decode cX2_least 50 = .ok (.invokevirtual 85, 3) := dk_182 0 85 (dk_at dksX2_least_2 2 rfl rfl)
theorem dX2_least_53 : decode cX2_least 53 = .ok (.istore 6, 2) := dk_54 6 (dk_at dksX2_least_2 5 rfl rfl)
theorem dX2_least_55 : decode cX2_least 55 = .ok (.iload 6, 2) := dk_21 6 (dk_at dksX2_least_2 7 rfl rfl)
theorem dX2_least_57 : decode cX2_least 57 = .ok (.iload 4, 2) := dk_21 4 (dk_at dksX2_least_2 9 rfl rfl)
theorem dX2_least_59 : decode cX2_least 59 = .ok (.if_icmp .le 12, 3) := dk_164 0 12 (dk_at dksX2_least_2 11 rfl rfl)
theorem dX2_least_62 : decode cX2_least 62 = .ok (.iload 6, 2) := dk_21 6 (dk_at dksX2_least_2 14 rfl rfl)
theorem dX2_least_64 : decode cX2_least 64 = .ok (.iload_n 3, 1) := dk_29 (dk_at dksX2_least_2 16 rfl rfl)
theorem dX2_least_65 : decode cX2_least 65 = .ok (.invokestatic 79, 3) := dk_184 0 79 (dk_at dksX2_least_2 17 rfl rfl)
theorem dX2_least_68 : decode cX2_least 68 = .ok (.goto 4, 3) := dk_167 0 4 (dk_at dksX2_least_2 20 rfl rfl)
theorem dX2_least_71 : decode cX2_least 71 = .ok (.iload_n 3, 1) := dk_29 (dk_at dksX2_least_2 23 rfl rfl)
theorem dX2_least_72 : decode cX2_least 72 = .ok (.istore_n 3, 1) := dk_62 (dk_at dksX2_least_3 0 rfl rfl)
theorem dX2_least_73 : decode cX2_least 73 = .ok (.iinc 5 1, 3) := dk_132 5 1 (dk_at dksX2_least_3 1 rfl rfl)
theorem dX2_least_76 : decode cX2_least 76 = .ok (.goto (-54), 3) := dk_167 255 202 (dk_at dksX2_least_3 4 rfl rfl)
theorem dX2_least_79 : decode cX2_least 79 = .ok (.iload_n 3, 1) := dk_29 (dk_at dksX2_least_3 7 rfl rfl)
theorem dX2_least_80 : decode cX2_least 80 = .ok (.ireturn, 1) := dk_172 (dk_at dksX2_least_3 8 rfl rfl)
abbrev cX2_isPermitted : ByteArray := prog_2_method_5_code
def yX2_isPermitted : MethodName := ⟨RX2, "isPermitted", "(II)Z"⟩
def dkwX2_isPermitted_3 : List UInt8 := [132, 4, 1, 167, 255, 189, 29, 172]
abbrev dktX2_isPermitted_3 : List UInt8 := dkwX2_isPermitted_3 ++ []
def dkwX2_isPermitted_2 : List UInt8 := [185, 0, 43, 2, 0, 192, 0, 46, 27, 28, 182, 0, 52, 153, 0, 7, 4, 167, 0, 4, 3, 128, 62]
abbrev dktX2_isPermitted_2 : List UInt8 := dkwX2_isPermitted_2 ++ dktX2_isPermitted_3
def dkwX2_isPermitted_1 : List UInt8 := [21, 4, 185, 0, 43, 2, 0, 192, 0, 46, 180, 0, 48, 154, 0, 29, 42, 180, 0, 12, 21, 4]
abbrev dktX2_isPermitted_1 : List UInt8 := dkwX2_isPermitted_1 ++ dktX2_isPermitted_2
def dkwX2_isPermitted_0 : List UInt8 := [3, 62, 3, 54, 4, 21, 4, 42, 180, 0, 12, 185, 0, 33, 1, 0, 162, 0, 59, 29, 42, 180, 0, 12]
abbrev dktX2_isPermitted_0 : List UInt8 := dkwX2_isPermitted_0 ++ dktX2_isPermitted_1
theorem dksX2_isPermitted_0 : cX2_isPermitted.data.toList.drop 0 = dktX2_isPermitted_0 := by decide +kernel
theorem dksX2_isPermitted_1 : cX2_isPermitted.data.toList.drop 24 = dktX2_isPermitted_1 := dk_seg dksX2_isPermitted_0 24 rfl rfl
theorem dksX2_isPermitted_2 : cX2_isPermitted.data.toList.drop 46 = dktX2_isPermitted_2 := dk_seg dksX2_isPermitted_1 22 rfl rfl
theorem dksX2_isPermitted_3 : cX2_isPermitted.data.toList.drop 69 = dktX2_isPermitted_3 := dk_seg dksX2_isPermitted_2 23 rfl rfl
theorem dX2_isPermitted_0 : decode cX2_isPermitted 0 = .ok (.iconst 0, 1) := dk_3 (dk_at dksX2_isPermitted_0 0 rfl rfl)
theorem dX2_isPermitted_1 : decode cX2_isPermitted 1 = .ok (.istore_n 3, 1) := dk_62 (dk_at dksX2_isPermitted_0 1 rfl rfl)
theorem dX2_isPermitted_2 : decode cX2_isPermitted 2 = .ok (.iconst 0, 1) := dk_3 (dk_at dksX2_isPermitted_0 2 rfl rfl)
theorem dX2_isPermitted_3 : decode cX2_isPermitted 3 = .ok (.istore 4, 2) := dk_54 4 (dk_at dksX2_isPermitted_0 3 rfl rfl)
theorem dX2_isPermitted_5 : decode cX2_isPermitted 5 = .ok (.iload 4, 2) := dk_21 4 (dk_at dksX2_isPermitted_0 5 rfl rfl)
theorem dX2_isPermitted_7 : decode cX2_isPermitted 7 = .ok (.aload_n 0, 1) := dk_42 (dk_at dksX2_isPermitted_0 7 rfl rfl)
theorem dX2_isPermitted_8 : decode cX2_isPermitted 8 = .ok (.getfield 12, 3) := dk_180 0 12 (dk_at dksX2_isPermitted_0 8 rfl rfl)
theorem dX2_isPermitted_11 : decode cX2_isPermitted 11 = .ok (.invokeinterface 33 1, 5) := by decide +kernel
theorem dX2_isPermitted_16 : decode cX2_isPermitted 16 = .ok (.if_icmp .ge 59, 3) := dk_162 0 59 (dk_at dksX2_isPermitted_0 16 rfl rfl)
theorem dX2_isPermitted_19 : decode cX2_isPermitted 19 = .ok (.iload_n 3, 1) := dk_29 (dk_at dksX2_isPermitted_0 19 rfl rfl)
theorem dX2_isPermitted_20 : decode cX2_isPermitted 20 = .ok (.aload_n 0, 1) := dk_42 (dk_at dksX2_isPermitted_0 20 rfl rfl)
theorem dX2_isPermitted_21 : decode cX2_isPermitted 21 = .ok (.getfield 12, 3) := dk_180 0 12 (dk_at dksX2_isPermitted_0 21 rfl rfl)
theorem dX2_isPermitted_24 : decode cX2_isPermitted 24 = .ok (.iload 4, 2) := dk_21 4 (dk_at dksX2_isPermitted_1 0 rfl rfl)
theorem dX2_isPermitted_26 : decode cX2_isPermitted 26 = .ok (.invokeinterface 43 2, 5) := by decide +kernel
theorem dX2_isPermitted_31 : decode cX2_isPermitted 31 = .ok (.checkcast 46, 3) := dk_192 0 46 (dk_at dksX2_isPermitted_1 7 rfl rfl)
theorem dX2_isPermitted_34 : decode cX2_isPermitted 34 = .ok (.getfield 48, 3) := dk_180 0 48 (dk_at dksX2_isPermitted_1 10 rfl rfl)
theorem dX2_isPermitted_37 : decode cX2_isPermitted 37 = .ok (.ifCond .ne 29, 3) := dk_154 0 29 (dk_at dksX2_isPermitted_1 13 rfl rfl)
theorem dX2_isPermitted_40 : decode cX2_isPermitted 40 = .ok (.aload_n 0, 1) := dk_42 (dk_at dksX2_isPermitted_1 16 rfl rfl)
theorem dX2_isPermitted_41 : decode cX2_isPermitted 41 = .ok (.getfield 12, 3) := dk_180 0 12 (dk_at dksX2_isPermitted_1 17 rfl rfl)
theorem dX2_isPermitted_44 : decode cX2_isPermitted 44 = .ok (.iload 4, 2) := dk_21 4 (dk_at dksX2_isPermitted_1 20 rfl rfl)
theorem dX2_isPermitted_46 : decode cX2_isPermitted 46 = .ok (.invokeinterface 43 2, 5) := by decide +kernel
theorem dX2_isPermitted_51 : decode cX2_isPermitted 51 = .ok (.checkcast 46, 3) := dk_192 0 46 (dk_at dksX2_isPermitted_2 5 rfl rfl)
theorem dX2_isPermitted_54 : decode cX2_isPermitted 54 = .ok (.iload_n 1, 1) := dk_27 (dk_at dksX2_isPermitted_2 8 rfl rfl)
theorem dX2_isPermitted_55 : decode cX2_isPermitted 55 = .ok (.iload_n 2, 1) := dk_28 (dk_at dksX2_isPermitted_2 9 rfl rfl)
theorem dX2_isPermitted_56 : decode cX2_isPermitted 56 = .ok (.invokevirtual 52, 3) := dk_182 0 52 (dk_at dksX2_isPermitted_2 10 rfl rfl)
theorem dX2_isPermitted_59 : decode cX2_isPermitted 59 = .ok (.ifCond .eq 7, 3) := dk_153 0 7 (dk_at dksX2_isPermitted_2 13 rfl rfl)
theorem dX2_isPermitted_62 : decode cX2_isPermitted 62 = .ok (.iconst 1, 1) := dk_4 (dk_at dksX2_isPermitted_2 16 rfl rfl)
theorem dX2_isPermitted_63 : decode cX2_isPermitted 63 = .ok (.goto 4, 3) := dk_167 0 4 (dk_at dksX2_isPermitted_2 17 rfl rfl)
theorem dX2_isPermitted_66 : decode cX2_isPermitted 66 = .ok (.iconst 0, 1) := dk_3 (dk_at dksX2_isPermitted_2 20 rfl rfl)
theorem dX2_isPermitted_67 : decode cX2_isPermitted 67 = .ok (.ior, 1) := dk_128 (dk_at dksX2_isPermitted_2 21 rfl rfl)
theorem dX2_isPermitted_68 : decode cX2_isPermitted 68 = .ok (.istore_n 3, 1) := dk_62 (dk_at dksX2_isPermitted_2 22 rfl rfl)
theorem dX2_isPermitted_69 : decode cX2_isPermitted 69 = .ok (.iinc 4 1, 3) := dk_132 4 1 (dk_at dksX2_isPermitted_3 0 rfl rfl)
theorem dX2_isPermitted_72 : decode cX2_isPermitted 72 = .ok (.goto (-67), 3) := dk_167 255 189 (dk_at dksX2_isPermitted_3 3 rfl rfl)
theorem dX2_isPermitted_75 : decode cX2_isPermitted 75 = .ok (.iload_n 3, 1) := dk_29 (dk_at dksX2_isPermitted_3 6 rfl rfl)
theorem dX2_isPermitted_76 : decode cX2_isPermitted 76 = .ok (.ireturn, 1) := dk_172 (dk_at dksX2_isPermitted_3 7 rfl rfl)
abbrev cX2_strongest : ByteArray := prog_2_method_10_code
def yX2_strongest : MethodName := ⟨RX2, "strongest", "(IIII)I"⟩
def dkwX2_strongest_3 : List UInt8 := [21, 5, 184, 0, 79, 167, 0, 5, 21, 5, 54, 5, 132, 6, 1, 167, 255, 177, 21, 5, 172]
abbrev dktX2_strongest_3 : List UInt8 := dkwX2_strongest_3 ++ []
def dkwX2_strongest_2 : List UInt8 := [180, 0, 69, 28, 160, 0, 27, 25, 7, 29, 21, 4, 182, 0, 52, 153, 0, 16, 25, 7, 180, 0, 60]
abbrev dktX2_strongest_2 : List UInt8 := dkwX2_strongest_2 ++ dktX2_strongest_3
def dkwX2_strongest_1 : List UInt8 := [21, 6, 185, 0, 43, 2, 0, 192, 0, 46, 58, 7, 25, 7, 180, 0, 48, 27, 160, 0, 36, 25, 7]
abbrev dktX2_strongest_1 : List UInt8 := dkwX2_strongest_1 ++ dktX2_strongest_2
def dkwX2_strongest_0 : List UInt8 := [3, 54, 5, 3, 54, 6, 21, 6, 42, 180, 0, 12, 185, 0, 33, 1, 0, 162, 0, 71, 42, 180, 0, 12]
abbrev dktX2_strongest_0 : List UInt8 := dkwX2_strongest_0 ++ dktX2_strongest_1
theorem dksX2_strongest_0 : cX2_strongest.data.toList.drop 0 = dktX2_strongest_0 := by decide +kernel
theorem dksX2_strongest_1 : cX2_strongest.data.toList.drop 24 = dktX2_strongest_1 := dk_seg dksX2_strongest_0 24 rfl rfl
theorem dksX2_strongest_2 : cX2_strongest.data.toList.drop 47 = dktX2_strongest_2 := dk_seg dksX2_strongest_1 23 rfl rfl
theorem dksX2_strongest_3 : cX2_strongest.data.toList.drop 70 = dktX2_strongest_3 := dk_seg dksX2_strongest_2 23 rfl rfl
theorem dX2_strongest_0 : decode cX2_strongest 0 = .ok (.iconst 0, 1) := dk_3 (dk_at dksX2_strongest_0 0 rfl rfl)
theorem dX2_strongest_1 : decode cX2_strongest 1 = .ok (.istore 5, 2) := dk_54 5 (dk_at dksX2_strongest_0 1 rfl rfl)
theorem dX2_strongest_3 : decode cX2_strongest 3 = .ok (.iconst 0, 1) := dk_3 (dk_at dksX2_strongest_0 3 rfl rfl)
theorem dX2_strongest_4 : decode cX2_strongest 4 = .ok (.istore 6, 2) := dk_54 6 (dk_at dksX2_strongest_0 4 rfl rfl)
theorem dX2_strongest_6 : decode cX2_strongest 6 = .ok (.iload 6, 2) := dk_21 6 (dk_at dksX2_strongest_0 6 rfl rfl)
theorem dX2_strongest_8 : decode cX2_strongest 8 = .ok (.aload_n 0, 1) := dk_42 (dk_at dksX2_strongest_0 8 rfl rfl)
theorem dX2_strongest_9 : decode cX2_strongest 9 = .ok (.getfield 12, 3) := dk_180 0 12 (dk_at dksX2_strongest_0 9 rfl rfl)
theorem dX2_strongest_12 : decode cX2_strongest 12 = .ok (.invokeinterface 33 1, 5) := by decide +kernel
theorem dX2_strongest_17 : decode cX2_strongest 17 = .ok (.if_icmp .ge 71, 3) := dk_162 0 71 (dk_at dksX2_strongest_0 17 rfl rfl)
theorem dX2_strongest_20 : decode cX2_strongest 20 = .ok (.aload_n 0, 1) := dk_42 (dk_at dksX2_strongest_0 20 rfl rfl)
theorem dX2_strongest_21 : decode cX2_strongest 21 = .ok (.getfield 12, 3) := dk_180 0 12 (dk_at dksX2_strongest_0 21 rfl rfl)
theorem dX2_strongest_24 : decode cX2_strongest 24 = .ok (.iload 6, 2) := dk_21 6 (dk_at dksX2_strongest_1 0 rfl rfl)
theorem dX2_strongest_26 : decode cX2_strongest 26 = .ok (.invokeinterface 43 2, 5) := by decide +kernel
theorem dX2_strongest_31 : decode cX2_strongest 31 = .ok (.checkcast 46, 3) := dk_192 0 46 (dk_at dksX2_strongest_1 7 rfl rfl)
theorem dX2_strongest_34 : decode cX2_strongest 34 = .ok (.astore 7, 2) := dk_58 7 (dk_at dksX2_strongest_1 10 rfl rfl)
theorem dX2_strongest_36 : decode cX2_strongest 36 = .ok (.aload 7, 2) := dk_25 7 (dk_at dksX2_strongest_1 12 rfl rfl)
theorem dX2_strongest_38 : decode cX2_strongest 38 = .ok (.getfield 48, 3) := dk_180 0 48 (dk_at dksX2_strongest_1 14 rfl rfl)
theorem dX2_strongest_41 : decode cX2_strongest 41 = .ok (.iload_n 1, 1) := dk_27 (dk_at dksX2_strongest_1 17 rfl rfl)
theorem dX2_strongest_42 : decode cX2_strongest 42 = .ok (.if_icmp .ne 36, 3) := dk_160 0 36 (dk_at dksX2_strongest_1 18 rfl rfl)
theorem dX2_strongest_45 : decode cX2_strongest 45 = .ok (.aload 7, 2) := dk_25 7 (dk_at dksX2_strongest_1 21 rfl rfl)
theorem dX2_strongest_47 : decode cX2_strongest 47 = .ok (.getfield 69, 3) := dk_180 0 69 (dk_at dksX2_strongest_2 0 rfl rfl)
theorem dX2_strongest_50 : decode cX2_strongest 50 = .ok (.iload_n 2, 1) := dk_28 (dk_at dksX2_strongest_2 3 rfl rfl)
theorem dX2_strongest_51 : decode cX2_strongest 51 = .ok (.if_icmp .ne 27, 3) := dk_160 0 27 (dk_at dksX2_strongest_2 4 rfl rfl)
theorem dX2_strongest_54 : decode cX2_strongest 54 = .ok (.aload 7, 2) := dk_25 7 (dk_at dksX2_strongest_2 7 rfl rfl)
theorem dX2_strongest_56 : decode cX2_strongest 56 = .ok (.iload_n 3, 1) := dk_29 (dk_at dksX2_strongest_2 9 rfl rfl)
theorem dX2_strongest_57 : decode cX2_strongest 57 = .ok (.iload 4, 2) := dk_21 4 (dk_at dksX2_strongest_2 10 rfl rfl)
theorem dX2_strongest_59 : decode cX2_strongest 59 = .ok (.invokevirtual 52, 3) := dk_182 0 52 (dk_at dksX2_strongest_2 12 rfl rfl)
theorem dX2_strongest_62 : decode cX2_strongest 62 = .ok (.ifCond .eq 16, 3) := dk_153 0 16 (dk_at dksX2_strongest_2 15 rfl rfl)
theorem dX2_strongest_65 : decode cX2_strongest 65 = .ok (.aload 7, 2) := dk_25 7 (dk_at dksX2_strongest_2 18 rfl rfl)
theorem dX2_strongest_67 : decode cX2_strongest 67 = .ok (.getfield 60, 3) := dk_180 0 60 (dk_at dksX2_strongest_2 20 rfl rfl)
theorem dX2_strongest_70 : decode cX2_strongest 70 = .ok (.iload 5, 2) := dk_21 5 (dk_at dksX2_strongest_3 0 rfl rfl)
theorem dX2_strongest_72 : decode cX2_strongest 72 = .ok (.invokestatic 79, 3) := dk_184 0 79 (dk_at dksX2_strongest_3 2 rfl rfl)
theorem dX2_strongest_75 : decode cX2_strongest 75 = .ok (.goto 5, 3) := dk_167 0 5 (dk_at dksX2_strongest_3 5 rfl rfl)
theorem dX2_strongest_78 : decode cX2_strongest 78 = .ok (.iload 5, 2) := dk_21 5 (dk_at dksX2_strongest_3 8 rfl rfl)
theorem dX2_strongest_80 : decode cX2_strongest 80 = .ok (.istore 5, 2) := dk_54 5 (dk_at dksX2_strongest_3 10 rfl rfl)
theorem dX2_strongest_82 : decode cX2_strongest 82 = .ok (.iinc 6 1, 3) := dk_132 6 1 (dk_at dksX2_strongest_3 12 rfl rfl)
theorem dX2_strongest_85 : decode cX2_strongest 85 = .ok (.goto (-79), 3) := dk_167 255 177 (dk_at dksX2_strongest_3 15 rfl rfl)
theorem dX2_strongest_88 : decode cX2_strongest 88 = .ok (.iload 5, 2) := dk_21 5 (dk_at dksX2_strongest_3 18 rfl rfl)
theorem dX2_strongest_90 : decode cX2_strongest 90 = .ok (.ireturn, 1) := dk_172 (dk_at dksX2_strongest_3 20 rfl rfl)
abbrev cX2_reason : ByteArray := prog_2_method_9_code
def yX2_reason : MethodName := ⟨RX2, "reason", "(III)I"⟩
def dkwX2_reason_0 : List UInt8 := [42, 27, 28, 182, 0, 72, 153, 0, 13, 42, 27, 28, 29, 182, 0, 75, 167, 0, 5, 16, 100, 172]
abbrev dktX2_reason_0 : List UInt8 := dkwX2_reason_0 ++ []
theorem dksX2_reason_0 : cX2_reason.data.toList.drop 0 = dktX2_reason_0 := by decide +kernel
theorem dX2_reason_0 : decode cX2_reason 0 = .ok (.aload_n 0, 1) := dk_42 (dk_at dksX2_reason_0 0 rfl rfl)
theorem dX2_reason_1 : decode cX2_reason 1 = .ok (.iload_n 1, 1) := dk_27 (dk_at dksX2_reason_0 1 rfl rfl)
theorem dX2_reason_2 : decode cX2_reason 2 = .ok (.iload_n 2, 1) := dk_28 (dk_at dksX2_reason_0 2 rfl rfl)
theorem dX2_reason_3 : decode cX2_reason 3 = .ok (.invokevirtual 72, 3) := dk_182 0 72 (dk_at dksX2_reason_0 3 rfl rfl)
theorem dX2_reason_6 : decode cX2_reason 6 = .ok (.ifCond .eq 13, 3) := dk_153 0 13 (dk_at dksX2_reason_0 6 rfl rfl)
theorem dX2_reason_9 : decode cX2_reason 9 = .ok (.aload_n 0, 1) := dk_42 (dk_at dksX2_reason_0 9 rfl rfl)
theorem dX2_reason_10 : decode cX2_reason 10 = .ok (.iload_n 1, 1) := dk_27 (dk_at dksX2_reason_0 10 rfl rfl)
theorem dX2_reason_11 : decode cX2_reason 11 = .ok (.iload_n 2, 1) := dk_28 (dk_at dksX2_reason_0 11 rfl rfl)
theorem dX2_reason_12 : decode cX2_reason 12 = .ok (.iload_n 3, 1) := dk_29 (dk_at dksX2_reason_0 12 rfl rfl)
theorem dX2_reason_13 : decode cX2_reason 13 = .ok (.invokevirtual 75, 3) := dk_182 0 75 (dk_at dksX2_reason_0 13 rfl rfl)
theorem dX2_reason_16 : decode cX2_reason 16 = .ok (.goto 5, 3) := dk_167 0 5 (dk_at dksX2_reason_0 16 rfl rfl)
theorem dX2_reason_19 : decode cX2_reason 19 = .ok (.bipush 100, 2) := dk_16 100 (dk_at dksX2_reason_0 19 rfl rfl)
theorem dX2_reason_21 : decode cX2_reason 21 = .ok (.ireturn, 1) := dk_172 (dk_at dksX2_reason_0 21 rfl rfl)
abbrev cX2_ban : ByteArray := prog_2_method_8_code
def yX2_ban : MethodName := ⟨RX2, "ban", "(III)I"⟩
def dkwX2_ban_4 : List UInt8 := [21, 5, 167, 0, 5, 21, 4, 54, 4, 132, 5, 1, 167, 255, 160, 21, 4, 172]
abbrev dktX2_ban_4 : List UInt8 := dkwX2_ban_4 ++ []
def dkwX2_ban_3 : List UInt8 := [180, 0, 69, 42, 180, 0, 12, 21, 4, 185, 0, 43, 2, 0, 192, 0, 46, 180, 0, 69, 162, 0, 8]
abbrev dktX2_ban_3 : List UInt8 := dkwX2_ban_3 ++ dktX2_ban_4
def dkwX2_ban_2 : List UInt8 := [153, 0, 50, 21, 4, 155, 0, 40, 42, 180, 0, 12, 21, 5, 185, 0, 43, 2, 0, 192, 0, 46]
abbrev dktX2_ban_2 : List UInt8 := dkwX2_ban_2 ++ dktX2_ban_3
def dkwX2_ban_1 : List UInt8 := [180, 0, 12, 21, 5, 185, 0, 43, 2, 0, 192, 0, 46, 27, 28, 29, 182, 0, 66, 54, 6, 21, 6]
abbrev dktX2_ban_1 : List UInt8 := dkwX2_ban_1 ++ dktX2_ban_2
def dkwX2_ban_0 : List UInt8 := [16, 250, 54, 4, 3, 54, 5, 21, 5, 42, 180, 0, 12, 185, 0, 33, 1, 0, 162, 0, 88, 42, 42]
abbrev dktX2_ban_0 : List UInt8 := dkwX2_ban_0 ++ dktX2_ban_1
theorem dksX2_ban_0 : cX2_ban.data.toList.drop 0 = dktX2_ban_0 := by decide +kernel
theorem dksX2_ban_1 : cX2_ban.data.toList.drop 23 = dktX2_ban_1 := dk_seg dksX2_ban_0 23 rfl rfl
theorem dksX2_ban_2 : cX2_ban.data.toList.drop 46 = dktX2_ban_2 := dk_seg dksX2_ban_1 23 rfl rfl
theorem dksX2_ban_3 : cX2_ban.data.toList.drop 68 = dktX2_ban_3 := dk_seg dksX2_ban_2 22 rfl rfl
theorem dksX2_ban_4 : cX2_ban.data.toList.drop 91 = dktX2_ban_4 := dk_seg dksX2_ban_3 23 rfl rfl
theorem dX2_ban_0 : decode cX2_ban 0 = .ok (.bipush (-6), 2) := dk_16 250 (dk_at dksX2_ban_0 0 rfl rfl)
theorem dX2_ban_2 : decode cX2_ban 2 = .ok (.istore 4, 2) := dk_54 4 (dk_at dksX2_ban_0 2 rfl rfl)
theorem dX2_ban_4 : decode cX2_ban 4 = .ok (.iconst 0, 1) := dk_3 (dk_at dksX2_ban_0 4 rfl rfl)
theorem dX2_ban_5 : decode cX2_ban 5 = .ok (.istore 5, 2) := dk_54 5 (dk_at dksX2_ban_0 5 rfl rfl)
theorem dX2_ban_7 : decode cX2_ban 7 = .ok (.iload 5, 2) := dk_21 5 (dk_at dksX2_ban_0 7 rfl rfl)
theorem dX2_ban_9 : decode cX2_ban 9 = .ok (.aload_n 0, 1) := dk_42 (dk_at dksX2_ban_0 9 rfl rfl)
theorem dX2_ban_10 : decode cX2_ban 10 = .ok (.getfield 12, 3) := dk_180 0 12 (dk_at dksX2_ban_0 10 rfl rfl)
theorem dX2_ban_13 : decode cX2_ban 13 = .ok (.invokeinterface 33 1, 5) := by decide +kernel
theorem dX2_ban_18 : decode cX2_ban 18 = .ok (.if_icmp .ge 88, 3) := dk_162 0 88 (dk_at dksX2_ban_0 18 rfl rfl)
theorem dX2_ban_21 : decode cX2_ban 21 = .ok (.aload_n 0, 1) := dk_42 (dk_at dksX2_ban_0 21 rfl rfl)
theorem dX2_ban_22 : decode cX2_ban 22 = .ok (.aload_n 0, 1) := dk_42 (dk_at dksX2_ban_0 22 rfl rfl)
theorem dX2_ban_23 : decode cX2_ban 23 = .ok (.getfield 12, 3) := dk_180 0 12 (dk_at dksX2_ban_1 0 rfl rfl)
theorem dX2_ban_26 : decode cX2_ban 26 = .ok (.iload 5, 2) := dk_21 5 (dk_at dksX2_ban_1 3 rfl rfl)
theorem dX2_ban_28 : decode cX2_ban 28 = .ok (.invokeinterface 43 2, 5) := by decide +kernel
theorem dX2_ban_33 : decode cX2_ban 33 = .ok (.checkcast 46, 3) := dk_192 0 46 (dk_at dksX2_ban_1 10 rfl rfl)
theorem dX2_ban_36 : decode cX2_ban 36 = .ok (.iload_n 1, 1) := dk_27 (dk_at dksX2_ban_1 13 rfl rfl)
theorem dX2_ban_37 : decode cX2_ban 37 = .ok (.iload_n 2, 1) := dk_28 (dk_at dksX2_ban_1 14 rfl rfl)
theorem dX2_ban_38 : decode cX2_ban 38 = .ok (.iload_n 3, 1) := dk_29 (dk_at dksX2_ban_1 15 rfl rfl)
theorem dX2_ban_39 : decode cX2_ban 39 = .ok (.invokevirtual 66, 3) := dk_182 0 66 (dk_at dksX2_ban_1 16 rfl rfl)
theorem dX2_ban_42 : decode cX2_ban 42 = .ok (.istore 6, 2) := dk_54 6 (dk_at dksX2_ban_1 19 rfl rfl)
theorem dX2_ban_44 : decode cX2_ban 44 = .ok (.iload 6, 2) := dk_21 6 (dk_at dksX2_ban_1 21 rfl rfl)
theorem dX2_ban_46 : decode cX2_ban 46 = .ok (.ifCond .eq 50, 3) := dk_153 0 50 (dk_at dksX2_ban_2 0 rfl rfl)
theorem dX2_ban_49 : decode cX2_ban 49 = .ok (.iload 4, 2) := dk_21 4 (dk_at dksX2_ban_2 3 rfl rfl)
theorem dX2_ban_51 : decode cX2_ban 51 = .ok (.ifCond .lt 40, 3) := dk_155 0 40 (dk_at dksX2_ban_2 5 rfl rfl)
theorem dX2_ban_54 : decode cX2_ban 54 = .ok (.aload_n 0, 1) := dk_42 (dk_at dksX2_ban_2 8 rfl rfl)
theorem dX2_ban_55 : decode cX2_ban 55 = .ok (.getfield 12, 3) := dk_180 0 12 (dk_at dksX2_ban_2 9 rfl rfl)
theorem dX2_ban_58 : decode cX2_ban 58 = .ok (.iload 5, 2) := dk_21 5 (dk_at dksX2_ban_2 12 rfl rfl)
theorem dX2_ban_60 : decode cX2_ban 60 = .ok (.invokeinterface 43 2, 5) := by decide +kernel
theorem dX2_ban_65 : decode cX2_ban 65 = .ok (.checkcast 46, 3) := dk_192 0 46 (dk_at dksX2_ban_2 19 rfl rfl)
theorem dX2_ban_68 : decode cX2_ban 68 = .ok (.getfield 69, 3) := dk_180 0 69 (dk_at dksX2_ban_3 0 rfl rfl)
theorem dX2_ban_71 : decode cX2_ban 71 = .ok (.aload_n 0, 1) := dk_42 (dk_at dksX2_ban_3 3 rfl rfl)
theorem dX2_ban_72 : decode cX2_ban 72 = .ok (.getfield 12, 3) := dk_180 0 12 (dk_at dksX2_ban_3 4 rfl rfl)
theorem dX2_ban_75 : decode cX2_ban 75 = .ok (.iload 4, 2) := dk_21 4 (dk_at dksX2_ban_3 7 rfl rfl)
theorem dX2_ban_77 : decode cX2_ban 77 = .ok (.invokeinterface 43 2, 5) := by decide +kernel
theorem dX2_ban_82 : decode cX2_ban 82 = .ok (.checkcast 46, 3) := dk_192 0 46 (dk_at dksX2_ban_3 14 rfl rfl)
theorem dX2_ban_85 : decode cX2_ban 85 = .ok (.getfield 69, 3) := dk_180 0 69 (dk_at dksX2_ban_3 17 rfl rfl)
theorem dX2_ban_88 : decode cX2_ban 88 = .ok (.if_icmp .ge 8, 3) := dk_162 0 8 (dk_at dksX2_ban_3 20 rfl rfl)
theorem dX2_ban_91 : decode cX2_ban 91 = .ok (.iload 5, 2) := dk_21 5 (dk_at dksX2_ban_4 0 rfl rfl)
theorem dX2_ban_93 : decode cX2_ban 93 = .ok (.goto 5, 3) := dk_167 0 5 (dk_at dksX2_ban_4 2 rfl rfl)
theorem dX2_ban_96 : decode cX2_ban 96 = .ok (.iload 4, 2) := dk_21 4 (dk_at dksX2_ban_4 5 rfl rfl)
theorem dX2_ban_98 : decode cX2_ban 98 = .ok (.istore 4, 2) := dk_54 4 (dk_at dksX2_ban_4 7 rfl rfl)
theorem dX2_ban_100 : decode cX2_ban 100 = .ok (.iinc 5 1, 3) := dk_132 5 1 (dk_at dksX2_ban_4 9 rfl rfl)
theorem dX2_ban_103 : decode cX2_ban 103 = .ok (.goto (-96), 3) := dk_167 255 160 (dk_at dksX2_ban_4 12 rfl rfl)
theorem dX2_ban_106 : decode cX2_ban 106 = .ok (.iload 4, 2) := dk_21 4 (dk_at dksX2_ban_4 15 rfl rfl)
theorem dX2_ban_108 : decode cX2_ban 108 = .ok (.ireturn, 1) := dk_172 (dk_at dksX2_ban_4 17 rfl rfl)
abbrev cX2_holds : ByteArray := prog_2_method_7_code
def yX2_holds : MethodName := ⟨RX2, "holds", "(LLayeredCharters$Rule;III)Z"⟩
def dkwX2_holds_1 : List UInt8 := [162, 0, 17, 42, 43, 28, 29, 182, 0, 63, 154, 0, 7, 4, 167, 0, 4, 3, 172]
abbrev dktX2_holds_1 : List UInt8 := dkwX2_holds_1 ++ []
def dkwX2_holds_0 : List UInt8 := [43, 180, 0, 48, 4, 160, 0, 35, 43, 28, 29, 182, 0, 52, 153, 0, 26, 21, 4, 43, 180, 0, 60]
abbrev dktX2_holds_0 : List UInt8 := dkwX2_holds_0 ++ dktX2_holds_1
theorem dksX2_holds_0 : cX2_holds.data.toList.drop 0 = dktX2_holds_0 := by decide +kernel
theorem dksX2_holds_1 : cX2_holds.data.toList.drop 23 = dktX2_holds_1 := dk_seg dksX2_holds_0 23 rfl rfl
theorem dX2_holds_0 : decode cX2_holds 0 = .ok (.aload_n 1, 1) := dk_43 (dk_at dksX2_holds_0 0 rfl rfl)
theorem dX2_holds_1 : decode cX2_holds 1 = .ok (.getfield 48, 3) := dk_180 0 48 (dk_at dksX2_holds_0 1 rfl rfl)
theorem dX2_holds_4 : decode cX2_holds 4 = .ok (.iconst 1, 1) := dk_4 (dk_at dksX2_holds_0 4 rfl rfl)
theorem dX2_holds_5 : decode cX2_holds 5 = .ok (.if_icmp .ne 35, 3) := dk_160 0 35 (dk_at dksX2_holds_0 5 rfl rfl)
theorem dX2_holds_8 : decode cX2_holds 8 = .ok (.aload_n 1, 1) := dk_43 (dk_at dksX2_holds_0 8 rfl rfl)
theorem dX2_holds_9 : decode cX2_holds 9 = .ok (.iload_n 2, 1) := dk_28 (dk_at dksX2_holds_0 9 rfl rfl)
theorem dX2_holds_10 : decode cX2_holds 10 = .ok (.iload_n 3, 1) := dk_29 (dk_at dksX2_holds_0 10 rfl rfl)
theorem dX2_holds_11 : decode cX2_holds 11 = .ok (.invokevirtual 52, 3) := dk_182 0 52 (dk_at dksX2_holds_0 11 rfl rfl)
theorem dX2_holds_14 : decode cX2_holds 14 = .ok (.ifCond .eq 26, 3) := dk_153 0 26 (dk_at dksX2_holds_0 14 rfl rfl)
theorem dX2_holds_17 : decode cX2_holds 17 = .ok (.iload 4, 2) := dk_21 4 (dk_at dksX2_holds_0 17 rfl rfl)
theorem dX2_holds_19 : decode cX2_holds 19 = .ok (.aload_n 1, 1) := dk_43 (dk_at dksX2_holds_0 19 rfl rfl)
theorem dX2_holds_20 : decode cX2_holds 20 = .ok (.getfield 60, 3) := dk_180 0 60 (dk_at dksX2_holds_0 20 rfl rfl)
theorem dX2_holds_23 : decode cX2_holds 23 = .ok (.if_icmp .ge 17, 3) := dk_162 0 17 (dk_at dksX2_holds_1 0 rfl rfl)
theorem dX2_holds_26 : decode cX2_holds 26 = .ok (.aload_n 0, 1) := dk_42 (dk_at dksX2_holds_1 3 rfl rfl)
theorem dX2_holds_27 : decode cX2_holds 27 = .ok (.aload_n 1, 1) := dk_43 (dk_at dksX2_holds_1 4 rfl rfl)
theorem dX2_holds_28 : decode cX2_holds 28 = .ok (.iload_n 2, 1) := dk_28 (dk_at dksX2_holds_1 5 rfl rfl)
theorem dX2_holds_29 : decode cX2_holds 29 = .ok (.iload_n 3, 1) := dk_29 (dk_at dksX2_holds_1 6 rfl rfl)
theorem dX2_holds_30 : decode cX2_holds 30 = .ok (.invokevirtual 63, 3) := dk_182 0 63 (dk_at dksX2_holds_1 7 rfl rfl)
theorem dX2_holds_33 : decode cX2_holds 33 = .ok (.ifCond .ne 7, 3) := dk_154 0 7 (dk_at dksX2_holds_1 10 rfl rfl)
theorem dX2_holds_36 : decode cX2_holds 36 = .ok (.iconst 1, 1) := dk_4 (dk_at dksX2_holds_1 13 rfl rfl)
theorem dX2_holds_37 : decode cX2_holds 37 = .ok (.goto 4, 3) := dk_167 0 4 (dk_at dksX2_holds_1 14 rfl rfl)
theorem dX2_holds_40 : decode cX2_holds 40 = .ok (.iconst 0, 1) := dk_3 (dk_at dksX2_holds_1 17 rfl rfl)
theorem dX2_holds_41 : decode cX2_holds 41 = .ok (.ireturn, 1) := dk_172 (dk_at dksX2_holds_1 18 rfl rfl)
abbrev cX2_isLifted : ByteArray := prog_2_method_6_code
def yX2_isLifted : MethodName := ⟨RX2, "isLifted", "(LLayeredCharters$Rule;II)Z"⟩
def dkwX2_isLifted_2 : List UInt8 := [132, 5, 1, 167, 255, 214, 21, 4, 172]
abbrev dktX2_isLifted_2 : List UInt8 := dkwX2_isLifted_2 ++ []
def dkwX2_isLifted_1 : List UInt8 := [180, 0, 12, 21, 5, 185, 0, 43, 2, 0, 192, 0, 46, 43, 28, 29, 182, 0, 56, 128, 54, 4]
abbrev dktX2_isLifted_1 : List UInt8 := dkwX2_isLifted_1 ++ dktX2_isLifted_2
def dkwX2_isLifted_0 : List UInt8 := [3, 54, 4, 3, 54, 5, 21, 5, 42, 180, 0, 12, 185, 0, 33, 1, 0, 162, 0, 34, 21, 4, 42]
abbrev dktX2_isLifted_0 : List UInt8 := dkwX2_isLifted_0 ++ dktX2_isLifted_1
theorem dksX2_isLifted_0 : cX2_isLifted.data.toList.drop 0 = dktX2_isLifted_0 := by decide +kernel
theorem dksX2_isLifted_1 : cX2_isLifted.data.toList.drop 23 = dktX2_isLifted_1 := dk_seg dksX2_isLifted_0 23 rfl rfl
theorem dksX2_isLifted_2 : cX2_isLifted.data.toList.drop 45 = dktX2_isLifted_2 := dk_seg dksX2_isLifted_1 22 rfl rfl
theorem dX2_isLifted_0 : decode cX2_isLifted 0 = .ok (.iconst 0, 1) := dk_3 (dk_at dksX2_isLifted_0 0 rfl rfl)
theorem dX2_isLifted_1 : decode cX2_isLifted 1 = .ok (.istore 4, 2) := dk_54 4 (dk_at dksX2_isLifted_0 1 rfl rfl)
theorem dX2_isLifted_3 : decode cX2_isLifted 3 = .ok (.iconst 0, 1) := dk_3 (dk_at dksX2_isLifted_0 3 rfl rfl)
theorem dX2_isLifted_4 : decode cX2_isLifted 4 = .ok (.istore 5, 2) := dk_54 5 (dk_at dksX2_isLifted_0 4 rfl rfl)
theorem dX2_isLifted_6 : decode cX2_isLifted 6 = .ok (.iload 5, 2) := dk_21 5 (dk_at dksX2_isLifted_0 6 rfl rfl)
theorem dX2_isLifted_8 : decode cX2_isLifted 8 = .ok (.aload_n 0, 1) := dk_42 (dk_at dksX2_isLifted_0 8 rfl rfl)
theorem dX2_isLifted_9 : decode cX2_isLifted 9 = .ok (.getfield 12, 3) := dk_180 0 12 (dk_at dksX2_isLifted_0 9 rfl rfl)
theorem dX2_isLifted_12 : decode cX2_isLifted 12 = .ok (.invokeinterface 33 1, 5) := by decide +kernel
theorem dX2_isLifted_17 : decode cX2_isLifted 17 = .ok (.if_icmp .ge 34, 3) := dk_162 0 34 (dk_at dksX2_isLifted_0 17 rfl rfl)
theorem dX2_isLifted_20 : decode cX2_isLifted 20 = .ok (.iload 4, 2) := dk_21 4 (dk_at dksX2_isLifted_0 20 rfl rfl)
theorem dX2_isLifted_22 : decode cX2_isLifted 22 = .ok (.aload_n 0, 1) := dk_42 (dk_at dksX2_isLifted_0 22 rfl rfl)
theorem dX2_isLifted_23 : decode cX2_isLifted 23 = .ok (.getfield 12, 3) := dk_180 0 12 (dk_at dksX2_isLifted_1 0 rfl rfl)
theorem dX2_isLifted_26 : decode cX2_isLifted 26 = .ok (.iload 5, 2) := dk_21 5 (dk_at dksX2_isLifted_1 3 rfl rfl)
theorem dX2_isLifted_28 : decode cX2_isLifted 28 = .ok (.invokeinterface 43 2, 5) := by decide +kernel
theorem dX2_isLifted_33 : decode cX2_isLifted 33 = .ok (.checkcast 46, 3) := dk_192 0 46 (dk_at dksX2_isLifted_1 10 rfl rfl)
theorem dX2_isLifted_36 : decode cX2_isLifted 36 = .ok (.aload_n 1, 1) := dk_43 (dk_at dksX2_isLifted_1 13 rfl rfl)
theorem dX2_isLifted_37 : decode cX2_isLifted 37 = .ok (.iload_n 2, 1) := dk_28 (dk_at dksX2_isLifted_1 14 rfl rfl)
theorem dX2_isLifted_38 : decode cX2_isLifted 38 = .ok (.iload_n 3, 1) := dk_29 (dk_at dksX2_isLifted_1 15 rfl rfl)
theorem dX2_isLifted_39 : decode cX2_isLifted 39 = .ok (.invokevirtual 56, 3) := dk_182 0 56 (dk_at dksX2_isLifted_1 16 rfl rfl)
theorem dX2_isLifted_42 : decode cX2_isLifted 42 = .ok (.ior, 1) := dk_128 (dk_at dksX2_isLifted_1 19 rfl rfl)
theorem dX2_isLifted_43 : decode cX2_isLifted 43 = .ok (.istore 4, 2) := dk_54 4 (dk_at dksX2_isLifted_1 20 rfl rfl)
theorem dX2_isLifted_45 : decode cX2_isLifted 45 = .ok (.iinc 5 1, 3) := dk_132 5 1 (dk_at dksX2_isLifted_2 0 rfl rfl)
theorem dX2_isLifted_48 : decode cX2_isLifted 48 = .ok (.goto (-42), 3) := dk_167 255 214 (dk_at dksX2_isLifted_2 3 rfl rfl)
theorem dX2_isLifted_51 : decode cX2_isLifted 51 = .ok (.iload 4, 2) := dk_21 4 (dk_at dksX2_isLifted_2 6 rfl rfl)
theorem dX2_isLifted_53 : decode cX2_isLifted 53 = .ok (.ireturn, 1) := dk_172 (dk_at dksX2_isLifted_2 8 rfl rfl)
abbrev cX2_odds : ByteArray := prog_2_method_18_code
def yX2_odds : MethodName := ⟨RX2, "odds", "(I)I"⟩
def dkwX2_odds_0 : List UInt8 := [42, 42, 27, 186, 0, 109, 0, 0, 182, 0, 112, 172]
abbrev dktX2_odds_0 : List UInt8 := dkwX2_odds_0 ++ []
theorem dksX2_odds_0 : cX2_odds.data.toList.drop 0 = dktX2_odds_0 := by decide +kernel
theorem dX2_odds_0 : decode cX2_odds 0 = .ok (.aload_n 0, 1) := dk_42 (dk_at dksX2_odds_0 0 rfl rfl)
theorem dX2_odds_1 : decode cX2_odds 1 = .ok (.aload_n 0, 1) := dk_42 (dk_at dksX2_odds_0 1 rfl rfl)
theorem dX2_odds_2 : decode cX2_odds 2 = .ok (.iload_n 1, 1) := dk_27 (dk_at dksX2_odds_0 2 rfl rfl)
theorem dX2_odds_3 : decode cX2_odds 3 = .ok (.invokedynamic 109, 5) := by decide +kernel
theorem dX2_odds_8 : decode cX2_odds 8 = .ok (.invokevirtual 112, 3) := dk_182 0 112 (dk_at dksX2_odds_0 8 rfl rfl)
theorem dX2_odds_11 : decode cX2_odds 11 = .ok (.ireturn, 1) := dk_172 (dk_at dksX2_odds_0 11 rfl rfl)
abbrev cX2_lambda_odds_0 : ByteArray := prog_2_method_19_code
def yX2_lambda_odds_0 : MethodName := ⟨RX2, "lambda$odds$0", "(II)Z"⟩
def dkwX2_lambda_odds_0_1 : List UInt8 := [192, 0, 46, 182, 0, 116, 172]
abbrev dktX2_lambda_odds_0_1 : List UInt8 := dkwX2_lambda_odds_0_1 ++ []
def dkwX2_lambda_odds_0_0 : List UInt8 := [42, 180, 0, 12, 28, 185, 0, 43, 2, 0, 192, 0, 46, 42, 180, 0, 12, 27, 185, 0, 43, 2, 0]
abbrev dktX2_lambda_odds_0_0 : List UInt8 := dkwX2_lambda_odds_0_0 ++ dktX2_lambda_odds_0_1
theorem dksX2_lambda_odds_0_0 : cX2_lambda_odds_0.data.toList.drop 0 = dktX2_lambda_odds_0_0 := by decide +kernel
theorem dksX2_lambda_odds_0_1 : cX2_lambda_odds_0.data.toList.drop 23 = dktX2_lambda_odds_0_1 := dk_seg dksX2_lambda_odds_0_0 23 rfl rfl
theorem dX2_lambda_odds_0_0 : decode cX2_lambda_odds_0 0 = .ok (.aload_n 0, 1) := dk_42 (dk_at dksX2_lambda_odds_0_0 0 rfl rfl)
theorem dX2_lambda_odds_0_1 : decode cX2_lambda_odds_0 1 = .ok (.getfield 12, 3) := dk_180 0 12 (dk_at dksX2_lambda_odds_0_0 1 rfl rfl)
theorem dX2_lambda_odds_0_4 : decode cX2_lambda_odds_0 4 = .ok (.iload_n 2, 1) := dk_28 (dk_at dksX2_lambda_odds_0_0 4 rfl rfl)
theorem dX2_lambda_odds_0_5 : decode cX2_lambda_odds_0 5 = .ok (.invokeinterface 43 2, 5) := by decide +kernel
theorem dX2_lambda_odds_0_10 : decode cX2_lambda_odds_0 10 = .ok (.checkcast 46, 3) := dk_192 0 46 (dk_at dksX2_lambda_odds_0_0 10 rfl rfl)
theorem dX2_lambda_odds_0_13 : decode cX2_lambda_odds_0 13 = .ok (.aload_n 0, 1) := dk_42 (dk_at dksX2_lambda_odds_0_0 13 rfl rfl)
theorem dX2_lambda_odds_0_14 : decode cX2_lambda_odds_0 14 = .ok (.getfield 12, 3) := dk_180 0 12 (dk_at dksX2_lambda_odds_0_0 14 rfl rfl)
theorem dX2_lambda_odds_0_17 : decode cX2_lambda_odds_0 17 = .ok (.iload_n 1, 1) := dk_27 (dk_at dksX2_lambda_odds_0_0 17 rfl rfl)
theorem dX2_lambda_odds_0_18 : decode cX2_lambda_odds_0 18 = .ok (.invokeinterface 43 2, 5) := by decide +kernel
theorem dX2_lambda_odds_0_23 : decode cX2_lambda_odds_0 23 = .ok (.checkcast 46, 3) := dk_192 0 46 (dk_at dksX2_lambda_odds_0_1 0 rfl rfl)
theorem dX2_lambda_odds_0_26 : decode cX2_lambda_odds_0 26 = .ok (.invokevirtual 116, 3) := dk_182 0 116 (dk_at dksX2_lambda_odds_0_1 3 rfl rfl)
theorem dX2_lambda_odds_0_29 : decode cX2_lambda_odds_0 29 = .ok (.ireturn, 1) := dk_172 (dk_at dksX2_lambda_odds_0_1 6 rfl rfl)
abbrev cX2_count : ByteArray := prog_2_method_17_code
def yX2_count : MethodName := ⟨RX2, "count", "(LLayeredCharters$Test;)I"⟩
def dkwX2_count_1 : List UInt8 := [185, 0, 104, 2, 0, 153, 0, 7, 4, 167, 0, 4, 3, 96, 61, 132, 3, 1, 167, 255, 222, 28, 172]
abbrev dktX2_count_1 : List UInt8 := dkwX2_count_1 ++ []
def dkwX2_count_0 : List UInt8 := [3, 61, 3, 62, 29, 42, 180, 0, 12, 185, 0, 33, 1, 0, 162, 0, 27, 28, 43, 29]
abbrev dktX2_count_0 : List UInt8 := dkwX2_count_0 ++ dktX2_count_1
theorem dksX2_count_0 : cX2_count.data.toList.drop 0 = dktX2_count_0 := by decide +kernel
theorem dksX2_count_1 : cX2_count.data.toList.drop 20 = dktX2_count_1 := dk_seg dksX2_count_0 20 rfl rfl
theorem dX2_count_0 : decode cX2_count 0 = .ok (.iconst 0, 1) := dk_3 (dk_at dksX2_count_0 0 rfl rfl)
theorem dX2_count_1 : decode cX2_count 1 = .ok (.istore_n 2, 1) := dk_61 (dk_at dksX2_count_0 1 rfl rfl)
theorem dX2_count_2 : decode cX2_count 2 = .ok (.iconst 0, 1) := dk_3 (dk_at dksX2_count_0 2 rfl rfl)
theorem dX2_count_3 : decode cX2_count 3 = .ok (.istore_n 3, 1) := dk_62 (dk_at dksX2_count_0 3 rfl rfl)
theorem dX2_count_4 : decode cX2_count 4 = .ok (.iload_n 3, 1) := dk_29 (dk_at dksX2_count_0 4 rfl rfl)
theorem dX2_count_5 : decode cX2_count 5 = .ok (.aload_n 0, 1) := dk_42 (dk_at dksX2_count_0 5 rfl rfl)
theorem dX2_count_6 : decode cX2_count 6 = .ok (.getfield 12, 3) := dk_180 0 12 (dk_at dksX2_count_0 6 rfl rfl)
theorem dX2_count_9 : decode cX2_count 9 = .ok (.invokeinterface 33 1, 5) := by decide +kernel
theorem dX2_count_14 : decode cX2_count 14 = .ok (.if_icmp .ge 27, 3) := dk_162 0 27 (dk_at dksX2_count_0 14 rfl rfl)
theorem dX2_count_17 : decode cX2_count 17 = .ok (.iload_n 2, 1) := dk_28 (dk_at dksX2_count_0 17 rfl rfl)
theorem dX2_count_18 : decode cX2_count 18 = .ok (.aload_n 1, 1) := dk_43 (dk_at dksX2_count_0 18 rfl rfl)
theorem dX2_count_19 : decode cX2_count 19 = .ok (.iload_n 3, 1) := dk_29 (dk_at dksX2_count_0 19 rfl rfl)
theorem dX2_count_20 : decode cX2_count 20 = .ok (.invokeinterface 104 2, 5) := by decide +kernel
theorem dX2_count_25 : decode cX2_count 25 = .ok (.ifCond .eq 7, 3) := dk_153 0 7 (dk_at dksX2_count_1 5 rfl rfl)
theorem dX2_count_28 : decode cX2_count 28 = .ok (.iconst 1, 1) := dk_4 (dk_at dksX2_count_1 8 rfl rfl)
theorem dX2_count_29 : decode cX2_count 29 = .ok (.goto 4, 3) := dk_167 0 4 (dk_at dksX2_count_1 9 rfl rfl)
theorem dX2_count_32 : decode cX2_count 32 = .ok (.iconst 0, 1) := dk_3 (dk_at dksX2_count_1 12 rfl rfl)
theorem dX2_count_33 : decode cX2_count 33 = .ok (.iadd, 1) := dk_96 (dk_at dksX2_count_1 13 rfl rfl)
theorem dX2_count_34 : decode cX2_count 34 = .ok (.istore_n 2, 1) := dk_61 (dk_at dksX2_count_1 14 rfl rfl)
theorem dX2_count_35 : decode cX2_count 35 = .ok (.iinc 3 1, 3) := dk_132 3 1 (dk_at dksX2_count_1 15 rfl rfl)
theorem dX2_count_38 : decode cX2_count 38 = .ok (.goto (-34), 3) := dk_167 255 222 (dk_at dksX2_count_1 18 rfl rfl)
theorem dX2_count_41 : decode cX2_count 41 = .ok (.iload_n 2, 1) := dk_28 (dk_at dksX2_count_1 21 rfl rfl)
theorem dX2_count_42 : decode cX2_count 42 = .ok (.ireturn, 1) := dk_172 (dk_at dksX2_count_1 22 rfl rfl)
abbrev cX2_isAllowedByLayers : ByteArray := prog_2_method_11_code
def yX2_isAllowedByLayers : MethodName := ⟨RX2, "isAllowedByLayers", "(III)Z"⟩
def dkwX2_isAllowedByLayers_3 : List UInt8 := [132, 6, 1, 167, 255, 197, 21, 4, 172]
abbrev dktX2_isAllowedByLayers_3 : List UInt8 := dkwX2_isAllowedByLayers_3 ++ []
def dkwX2_isAllowedByLayers_2 : List UInt8 := [21, 4, 21, 7, 21, 5, 164, 0, 9, 29, 21, 7, 161, 0, 7, 4, 167, 0, 4, 3, 126, 54, 4]
abbrev dktX2_isAllowedByLayers_2 : List UInt8 := dkwX2_isAllowedByLayers_2 ++ dktX2_isAllowedByLayers_3
def dkwX2_isAllowedByLayers_1 : List UInt8 := [27, 28, 182, 0, 85, 21, 5, 184, 0, 79, 54, 5, 42, 4, 21, 6, 27, 28, 182, 0, 85, 54, 7]
abbrev dktX2_isAllowedByLayers_1 : List UInt8 := dkwX2_isAllowedByLayers_1 ++ dktX2_isAllowedByLayers_2
def dkwX2_isAllowedByLayers_0 : List UInt8 := [42, 27, 28, 182, 0, 72, 54, 4, 3, 54, 5, 3, 54, 6, 21, 6, 8, 162, 0, 59, 42, 5, 21, 6]
abbrev dktX2_isAllowedByLayers_0 : List UInt8 := dkwX2_isAllowedByLayers_0 ++ dktX2_isAllowedByLayers_1
theorem dksX2_isAllowedByLayers_0 : cX2_isAllowedByLayers.data.toList.drop 0 = dktX2_isAllowedByLayers_0 := by decide +kernel
theorem dksX2_isAllowedByLayers_1 : cX2_isAllowedByLayers.data.toList.drop 24 = dktX2_isAllowedByLayers_1 := dk_seg dksX2_isAllowedByLayers_0 24 rfl rfl
theorem dksX2_isAllowedByLayers_2 : cX2_isAllowedByLayers.data.toList.drop 47 = dktX2_isAllowedByLayers_2 := dk_seg dksX2_isAllowedByLayers_1 23 rfl rfl
theorem dksX2_isAllowedByLayers_3 : cX2_isAllowedByLayers.data.toList.drop 70 = dktX2_isAllowedByLayers_3 := dk_seg dksX2_isAllowedByLayers_2 23 rfl rfl
theorem dX2_isAllowedByLayers_0 : decode cX2_isAllowedByLayers 0 = .ok (.aload_n 0, 1) := dk_42 (dk_at dksX2_isAllowedByLayers_0 0 rfl rfl)
theorem dX2_isAllowedByLayers_1 : decode cX2_isAllowedByLayers 1 = .ok (.iload_n 1, 1) := dk_27 (dk_at dksX2_isAllowedByLayers_0 1 rfl rfl)
theorem dX2_isAllowedByLayers_2 : decode cX2_isAllowedByLayers 2 = .ok (.iload_n 2, 1) := dk_28 (dk_at dksX2_isAllowedByLayers_0 2 rfl rfl)
theorem dX2_isAllowedByLayers_3 : decode cX2_isAllowedByLayers 3 = .ok (.invokevirtual 72, 3) := dk_182 0 72 (dk_at dksX2_isAllowedByLayers_0 3 rfl rfl)
theorem dX2_isAllowedByLayers_6 : decode cX2_isAllowedByLayers 6 = .ok (.istore 4, 2) := dk_54 4 (dk_at dksX2_isAllowedByLayers_0 6 rfl rfl)
theorem dX2_isAllowedByLayers_8 : decode cX2_isAllowedByLayers 8 = .ok (.iconst 0, 1) := dk_3 (dk_at dksX2_isAllowedByLayers_0 8 rfl rfl)
theorem dX2_isAllowedByLayers_9 : decode cX2_isAllowedByLayers 9 = .ok (.istore 5, 2) := dk_54 5 (dk_at dksX2_isAllowedByLayers_0 9 rfl rfl)
theorem dX2_isAllowedByLayers_11 : decode cX2_isAllowedByLayers 11 = .ok (.iconst 0, 1) := dk_3 (dk_at dksX2_isAllowedByLayers_0 11 rfl rfl)
theorem dX2_isAllowedByLayers_12 : decode cX2_isAllowedByLayers 12 = .ok (.istore 6, 2) := dk_54 6 (dk_at dksX2_isAllowedByLayers_0 12 rfl rfl)
theorem dX2_isAllowedByLayers_14 : decode cX2_isAllowedByLayers 14 = .ok (.iload 6, 2) := dk_21 6 (dk_at dksX2_isAllowedByLayers_0 14 rfl rfl)
theorem dX2_isAllowedByLayers_16 : decode cX2_isAllowedByLayers 16 = .ok (.iconst 5, 1) := dk_8 (dk_at dksX2_isAllowedByLayers_0 16 rfl rfl)
theorem dX2_isAllowedByLayers_17 : decode cX2_isAllowedByLayers 17 = .ok (.if_icmp .ge 59, 3) := dk_162 0 59 (dk_at dksX2_isAllowedByLayers_0 17 rfl rfl)
theorem dX2_isAllowedByLayers_20 : decode cX2_isAllowedByLayers 20 = .ok (.aload_n 0, 1) := dk_42 (dk_at dksX2_isAllowedByLayers_0 20 rfl rfl)
theorem dX2_isAllowedByLayers_21 : decode cX2_isAllowedByLayers 21 = .ok (.iconst 2, 1) := dk_5 (dk_at dksX2_isAllowedByLayers_0 21 rfl rfl)
theorem dX2_isAllowedByLayers_22 : decode cX2_isAllowedByLayers 22 = .ok (.iload 6, 2) := dk_21 6 (dk_at dksX2_isAllowedByLayers_0 22 rfl rfl)
theorem dX2_isAllowedByLayers_24 : decode cX2_isAllowedByLayers 24 = .ok (.iload_n 1, 1) := dk_27 (dk_at dksX2_isAllowedByLayers_1 0 rfl rfl)
theorem dX2_isAllowedByLayers_25 : decode cX2_isAllowedByLayers 25 = .ok (.iload_n 2, 1) := dk_28 (dk_at dksX2_isAllowedByLayers_1 1 rfl rfl)
theorem dX2_isAllowedByLayers_26 : decode cX2_isAllowedByLayers 26 = .ok (.invokevirtual 85, 3) := dk_182 0 85 (dk_at dksX2_isAllowedByLayers_1 2 rfl rfl)
theorem dX2_isAllowedByLayers_29 : decode cX2_isAllowedByLayers 29 = .ok (.iload 5, 2) := dk_21 5 (dk_at dksX2_isAllowedByLayers_1 5 rfl rfl)
theorem dX2_isAllowedByLayers_31 : decode cX2_isAllowedByLayers 31 = .ok (.invokestatic 79, 3) := dk_184 0 79 (dk_at dksX2_isAllowedByLayers_1 7 rfl rfl)
theorem dX2_isAllowedByLayers_34 : decode cX2_isAllowedByLayers 34 = .ok (.istore 5, 2) := dk_54 5 (dk_at dksX2_isAllowedByLayers_1 10 rfl rfl)
theorem dX2_isAllowedByLayers_36 : decode cX2_isAllowedByLayers 36 = .ok (.aload_n 0, 1) := dk_42 (dk_at dksX2_isAllowedByLayers_1 12 rfl rfl)
theorem dX2_isAllowedByLayers_37 : decode cX2_isAllowedByLayers 37 = .ok (.iconst 1, 1) := dk_4 (dk_at dksX2_isAllowedByLayers_1 13 rfl rfl)
theorem dX2_isAllowedByLayers_38 : decode cX2_isAllowedByLayers 38 = .ok (.iload 6, 2) := dk_21 6 (dk_at dksX2_isAllowedByLayers_1 14 rfl rfl)
theorem dX2_isAllowedByLayers_40 : decode cX2_isAllowedByLayers 40 = .ok (.iload_n 1, 1) := dk_27 (dk_at dksX2_isAllowedByLayers_1 16 rfl rfl)
theorem dX2_isAllowedByLayers_41 : decode cX2_isAllowedByLayers 41 = .ok (.iload_n 2, 1) := dk_28 (dk_at dksX2_isAllowedByLayers_1 17 rfl rfl)
theorem dX2_isAllowedByLayers_42 : decode cX2_isAllowedByLayers 42 = .ok (.invokevirtual 85, 3) := dk_182 0 85 (dk_at dksX2_isAllowedByLayers_1 18 rfl rfl)
theorem dX2_isAllowedByLayers_45 : decode cX2_isAllowedByLayers 45 = .ok (.istore 7, 2) := dk_54 7 (dk_at dksX2_isAllowedByLayers_1 21 rfl rfl)
theorem dX2_isAllowedByLayers_47 : decode cX2_isAllowedByLayers 47 = .ok (.iload 4, 2) := dk_21 4 (dk_at dksX2_isAllowedByLayers_2 0 rfl rfl)
theorem dX2_isAllowedByLayers_49 : decode cX2_isAllowedByLayers 49 = .ok (.iload 7, 2) := dk_21 7 (dk_at dksX2_isAllowedByLayers_2 2 rfl rfl)
theorem dX2_isAllowedByLayers_51 : decode cX2_isAllowedByLayers 51 = .ok (.iload 5, 2) := dk_21 5 (dk_at dksX2_isAllowedByLayers_2 4 rfl rfl)
theorem dX2_isAllowedByLayers_53 : decode cX2_isAllowedByLayers 53 = .ok (.if_icmp .le 9, 3) := dk_164 0 9 (dk_at dksX2_isAllowedByLayers_2 6 rfl rfl)
theorem dX2_isAllowedByLayers_56 : decode cX2_isAllowedByLayers 56 = .ok (.iload_n 3, 1) := dk_29 (dk_at dksX2_isAllowedByLayers_2 9 rfl rfl)
theorem dX2_isAllowedByLayers_57 : decode cX2_isAllowedByLayers 57 = .ok (.iload 7, 2) := dk_21 7 (dk_at dksX2_isAllowedByLayers_2 10 rfl rfl)
theorem dX2_isAllowedByLayers_59 : decode cX2_isAllowedByLayers 59 = .ok (.if_icmp .lt 7, 3) := dk_161 0 7 (dk_at dksX2_isAllowedByLayers_2 12 rfl rfl)
theorem dX2_isAllowedByLayers_62 : decode cX2_isAllowedByLayers 62 = .ok (.iconst 1, 1) := dk_4 (dk_at dksX2_isAllowedByLayers_2 15 rfl rfl)
theorem dX2_isAllowedByLayers_63 : decode cX2_isAllowedByLayers 63 = .ok (.goto 4, 3) := dk_167 0 4 (dk_at dksX2_isAllowedByLayers_2 16 rfl rfl)
theorem dX2_isAllowedByLayers_66 : decode cX2_isAllowedByLayers 66 = .ok (.iconst 0, 1) := dk_3 (dk_at dksX2_isAllowedByLayers_2 19 rfl rfl)
theorem dX2_isAllowedByLayers_67 : decode cX2_isAllowedByLayers 67 = .ok (.iand, 1) := dk_126 (dk_at dksX2_isAllowedByLayers_2 20 rfl rfl)
theorem dX2_isAllowedByLayers_68 : decode cX2_isAllowedByLayers 68 = .ok (.istore 4, 2) := dk_54 4 (dk_at dksX2_isAllowedByLayers_2 21 rfl rfl)
theorem dX2_isAllowedByLayers_70 : decode cX2_isAllowedByLayers 70 = .ok (.iinc 6 1, 3) := dk_132 6 1 (dk_at dksX2_isAllowedByLayers_3 0 rfl rfl)
theorem dX2_isAllowedByLayers_73 : decode cX2_isAllowedByLayers 73 = .ok (.goto (-59), 3) := dk_167 255 197 (dk_at dksX2_isAllowedByLayers_3 3 rfl rfl)
theorem dX2_isAllowedByLayers_76 : decode cX2_isAllowedByLayers 76 = .ok (.iload 4, 2) := dk_21 4 (dk_at dksX2_isAllowedByLayers_3 6 rfl rfl)
theorem dX2_isAllowedByLayers_78 : decode cX2_isAllowedByLayers 78 = .ok (.ireturn, 1) := dk_172 (dk_at dksX2_isAllowedByLayers_3 8 rfl rfl)
abbrev cX2_triples : ByteArray := prog_2_method_13_code
def yX2_triples : MethodName := ⟨RX2, "triples", "()I"⟩
def dkwX2_triples_1 : List UInt8 := [182, 0, 89, 100, 96, 60, 132, 3, 1, 167, 255, 235, 132, 2, 1, 167, 255, 222, 27, 172]
abbrev dktX2_triples_1 : List UInt8 := dkwX2_triples_1 ++ []
def dkwX2_triples_0 : List UInt8 := [3, 60, 3, 61, 28, 8, 162, 0, 35, 3, 62, 29, 16, 6, 162, 0, 21, 27, 16, 10, 42, 28, 29]
abbrev dktX2_triples_0 : List UInt8 := dkwX2_triples_0 ++ dktX2_triples_1
theorem dksX2_triples_0 : cX2_triples.data.toList.drop 0 = dktX2_triples_0 := by decide +kernel
theorem dksX2_triples_1 : cX2_triples.data.toList.drop 23 = dktX2_triples_1 := dk_seg dksX2_triples_0 23 rfl rfl
theorem dX2_triples_0 : decode cX2_triples 0 = .ok (.iconst 0, 1) := dk_3 (dk_at dksX2_triples_0 0 rfl rfl)
theorem dX2_triples_1 : decode cX2_triples 1 = .ok (.istore_n 1, 1) := dk_60 (dk_at dksX2_triples_0 1 rfl rfl)
theorem dX2_triples_2 : decode cX2_triples 2 = .ok (.iconst 0, 1) := dk_3 (dk_at dksX2_triples_0 2 rfl rfl)
theorem dX2_triples_3 : decode cX2_triples 3 = .ok (.istore_n 2, 1) := dk_61 (dk_at dksX2_triples_0 3 rfl rfl)
theorem dX2_triples_4 : decode cX2_triples 4 = .ok (.iload_n 2, 1) := dk_28 (dk_at dksX2_triples_0 4 rfl rfl)
theorem dX2_triples_5 : decode cX2_triples 5 = .ok (.iconst 5, 1) := dk_8 (dk_at dksX2_triples_0 5 rfl rfl)
theorem dX2_triples_6 : decode cX2_triples 6 = .ok (.if_icmp .ge 35, 3) := dk_162 0 35 (dk_at dksX2_triples_0 6 rfl rfl)
theorem dX2_triples_9 : decode cX2_triples 9 = .ok (.iconst 0, 1) := dk_3 (dk_at dksX2_triples_0 9 rfl rfl)
theorem dX2_triples_10 : decode cX2_triples 10 = .ok (.istore_n 3, 1) := dk_62 (dk_at dksX2_triples_0 10 rfl rfl)
theorem dX2_triples_11 : decode cX2_triples 11 = .ok (.iload_n 3, 1) := dk_29 (dk_at dksX2_triples_0 11 rfl rfl)
theorem dX2_triples_12 : decode cX2_triples 12 = .ok (.bipush 6, 2) := dk_16 6 (dk_at dksX2_triples_0 12 rfl rfl)
theorem dX2_triples_14 : decode cX2_triples 14 = .ok (.if_icmp .ge 21, 3) := dk_162 0 21 (dk_at dksX2_triples_0 14 rfl rfl)
theorem dX2_triples_17 : decode cX2_triples 17 = .ok (.iload_n 1, 1) := dk_27 (dk_at dksX2_triples_0 17 rfl rfl)
theorem dX2_triples_18 : decode cX2_triples 18 = .ok (.bipush 10, 2) := dk_16 10 (dk_at dksX2_triples_0 18 rfl rfl)
theorem dX2_triples_20 : decode cX2_triples 20 = .ok (.aload_n 0, 1) := dk_42 (dk_at dksX2_triples_0 20 rfl rfl)
theorem dX2_triples_21 : decode cX2_triples 21 = .ok (.iload_n 2, 1) := dk_28 (dk_at dksX2_triples_0 21 rfl rfl)
theorem dX2_triples_22 : decode cX2_triples 22 = .ok (.iload_n 3, 1) := dk_29 (dk_at dksX2_triples_0 22 rfl rfl)
theorem dX2_triples_23 : decode cX2_triples 23 = .ok (.invokevirtual 89, 3) := dk_182 0 89 (dk_at dksX2_triples_1 0 rfl rfl)
theorem dX2_triples_26 : decode cX2_triples 26 = .ok (.isub, 1) := dk_100 (dk_at dksX2_triples_1 3 rfl rfl)
theorem dX2_triples_27 : decode cX2_triples 27 = .ok (.iadd, 1) := dk_96 (dk_at dksX2_triples_1 4 rfl rfl)
theorem dX2_triples_28 : decode cX2_triples 28 = .ok (.istore_n 1, 1) := dk_60 (dk_at dksX2_triples_1 5 rfl rfl)
theorem dX2_triples_29 : decode cX2_triples 29 = .ok (.iinc 3 1, 3) := dk_132 3 1 (dk_at dksX2_triples_1 6 rfl rfl)
theorem dX2_triples_32 : decode cX2_triples 32 = .ok (.goto (-21), 3) := dk_167 255 235 (dk_at dksX2_triples_1 9 rfl rfl)
theorem dX2_triples_35 : decode cX2_triples 35 = .ok (.iinc 2 1, 3) := dk_132 2 1 (dk_at dksX2_triples_1 12 rfl rfl)
theorem dX2_triples_38 : decode cX2_triples 38 = .ok (.goto (-34), 3) := dk_167 255 222 (dk_at dksX2_triples_1 15 rfl rfl)
theorem dX2_triples_41 : decode cX2_triples 41 = .ok (.iload_n 1, 1) := dk_27 (dk_at dksX2_triples_1 18 rfl rfl)
theorem dX2_triples_42 : decode cX2_triples 42 = .ok (.ireturn, 1) := dk_172 (dk_at dksX2_triples_1 19 rfl rfl)
theorem q44 : (Jvm.Cond.initialized "LayeredCharters$Charter") ∈ lw_all := lw_g (lw_at lw_m1 3 rfl) rfl
theorem q80 : (Jvm.Cond.instantiable "LayeredCharters$Charter" (1 : Nat)) ∈ lw_all := lw_g (lw_at lw_m1 39 rfl) rfl
theorem q82 : (Jvm.Cond.instanceMethod ({ cls := "LayeredCharters$Charter", name := "<init>", desc := "()V" } : Jvm.MethodName)) ∈ lw_all := lw_g (lw_at lw_m1 41 rfl) rfl
theorem q83 : (Jvm.Cond.code ({ cls := "LayeredCharters$Charter", name := "<init>", desc := "()V" } : Jvm.MethodName) prog_2_method_1_code (1 : Nat) (Option.none : Option Jvm.ClassFile.FieldType)) ∈ lw_all := lw_g (lw_at lw_m1 42 rfl) rfl
theorem q84 : (Jvm.Cond.methodLink "LayeredCharters$Charter" (3 : Nat) ({ cls := "java/lang/Object", name := "<init>", desc := "()V" } : Jvm.MethodName)) ∈ lw_all := lw_g (lw_at lw_m1 43 rfl) rfl
theorem q85 : (Jvm.Cond.classLink "LayeredCharters$Charter" (9 : Nat) "java/util/ArrayList") ∈ lw_all := lw_g (lw_at lw_m1 44 rfl) rfl
theorem q87 : (Jvm.Cond.methodLink "LayeredCharters$Charter" (11 : Nat) ({ cls := "java/util/ArrayList", name := "<init>", desc := "()V" } : Jvm.MethodName)) ∈ lw_all := lw_g (lw_at lw_m1 46 rfl) rfl
theorem q111 : (Jvm.Cond.fieldLink "LayeredCharters$Charter" (12 : Nat) "LayeredCharters$Charter" "rules" "Ljava/util/List;") ∈ lw_all := lw_g (lw_at lw_m1 70 rfl) rfl
theorem q114 : (Jvm.Cond.laysFinal "LayeredCharters$Charter" "LayeredCharters$Charter" "rules" "Ljava/util/List;") ∈ lw_all := lw_g (lw_at lw_m1 73 rfl) rfl
theorem q115 : (Jvm.Cond.soleField "LayeredCharters$Charter" "rules") ∈ lw_all := lw_g (lw_at lw_m1 74 rfl) rfl
theorem q116 : (Jvm.Cond.superclass "LayeredCharters$Charter" "java/lang/Object") ∈ lw_all := lw_g (lw_at lw_m1 75 rfl) rfl
theorem q231 : (Jvm.Cond.instanceMethod ({ cls := "LayeredCharters$Charter", name := "copy", desc := "()LLayeredCharters$Charter;" } : Jvm.MethodName)) ∈ lw_all := lw_g (lw_at lw_m1 190 rfl) rfl
theorem q232 : (Jvm.Cond.selects "LayeredCharters$Charter" ({ cls := "LayeredCharters$Charter", name := "copy", desc := "()LLayeredCharters$Charter;" } : Jvm.MethodName) ({ cls := "LayeredCharters$Charter", name := "copy", desc := "()LLayeredCharters$Charter;" } : Jvm.MethodName)) ∈ lw_all := lw_g (lw_at lw_m1 191 rfl) rfl
theorem q233 : (Jvm.Cond.code ({ cls := "LayeredCharters$Charter", name := "copy", desc := "()LLayeredCharters$Charter;" } : Jvm.MethodName) prog_2_method_2_code (2 : Nat) (Option.some (Jvm.ClassFile.FieldType.object "LayeredCharters$Charter"))) ∈ lw_all := lw_g (lw_at lw_m1 192 rfl) rfl
theorem q234 : (Jvm.Cond.classLink "LayeredCharters$Charter" (13 : Nat) "LayeredCharters$Charter") ∈ lw_all := lw_g (lw_at lw_m1 193 rfl) rfl
theorem q235 : (Jvm.Cond.methodLink "LayeredCharters$Charter" (18 : Nat) ({ cls := "LayeredCharters$Charter", name := "<init>", desc := "()V" } : Jvm.MethodName)) ∈ lw_all := lw_g (lw_at lw_m1 194 rfl) rfl
theorem q236 : (Jvm.Cond.interfaceEntry "LayeredCharters$Charter" (19 : Nat)) ∈ lw_tbl := lw_at lw_m1 195 rfl
theorem q237 : (Jvm.Cond.methodLink "LayeredCharters$Charter" (19 : Nat) ({ cls := "java/util/List", name := "addAll", desc := "(Ljava/util/Collection;)Z" } : Jvm.MethodName)) ∈ lw_all := lw_g (lw_at lw_m1 196 rfl) rfl
theorem q262 : (Jvm.Cond.selects "LayeredCharters$Charter" ({ cls := "java/lang/Object", name := "getClass", desc := "()Ljava/lang/Class;" } : Jvm.MethodName) ({ cls := "java/lang/Object", name := "getClass", desc := "()Ljava/lang/Class;" } : Jvm.MethodName)) ∈ lw_all := lw_g (lw_at lw_m1 221 rfl) rfl
theorem q395 : (Jvm.Cond.fieldLink "LayeredCharters$Charter" (69 : Nat) "LayeredCharters$Rule" "layer" "I") ∈ lw_all := lw_g (lw_at lw_m2 114 rfl) rfl
theorem q397 : (Jvm.Cond.fieldLink "LayeredCharters$Charter" (48 : Nat) "LayeredCharters$Rule" "kind" "I") ∈ lw_all := lw_g (lw_at lw_m2 116 rfl) rfl
theorem q405 : (Jvm.Cond.fieldLink "LayeredCharters$Charter" (60 : Nat) "LayeredCharters$Rule" "seal" "I") ∈ lw_all := lw_g (lw_at lw_m2 124 rfl) rfl
theorem q422 : (Jvm.Cond.instanceMethod ({ cls := "LayeredCharters$Charter", name := "hasRule", desc := "(I)Z" } : Jvm.MethodName)) ∈ lw_all := lw_g (lw_at lw_m2 141 rfl) rfl
theorem q423 : (Jvm.Cond.selects "LayeredCharters$Charter" ({ cls := "LayeredCharters$Charter", name := "hasRule", desc := "(I)Z" } : Jvm.MethodName) ({ cls := "LayeredCharters$Charter", name := "hasRule", desc := "(I)Z" } : Jvm.MethodName)) ∈ lw_all := lw_g (lw_at lw_m2 142 rfl) rfl
theorem q424 : (Jvm.Cond.code ({ cls := "LayeredCharters$Charter", name := "hasRule", desc := "(I)Z" } : Jvm.MethodName) prog_2_method_4_code (2 : Nat) (Option.some Jvm.ClassFile.FieldType.boolean)) ∈ lw_all := lw_g (lw_at lw_m2 143 rfl) rfl
theorem q425 : (Jvm.Cond.interfaceEntry "LayeredCharters$Charter" (33 : Nat)) ∈ lw_tbl := lw_at lw_m2 144 rfl
theorem q426 : (Jvm.Cond.methodLink "LayeredCharters$Charter" (33 : Nat) ({ cls := "java/util/List", name := "size", desc := "()I" } : Jvm.MethodName)) ∈ lw_all := lw_g (lw_at lw_m2 145 rfl) rfl
theorem q427 : (Jvm.Cond.methodLink "LayeredCharters$Charter" (37 : Nat) ({ cls := "LayeredCharters$Ranges", name := "holds", desc := "(III)Z" } : Jvm.MethodName)) ∈ lw_all := lw_g (lw_at lw_m2 146 rfl) rfl
theorem q660 : (Jvm.Cond.instanceMethod ({ cls := "LayeredCharters$Charter", name := "firstIdle", desc := "()I" } : Jvm.MethodName)) ∈ lw_all := lw_g (lw_at lw_m3 139 rfl) rfl
theorem q661 : (Jvm.Cond.selects "LayeredCharters$Charter" ({ cls := "LayeredCharters$Charter", name := "firstIdle", desc := "()I" } : Jvm.MethodName) ({ cls := "LayeredCharters$Charter", name := "firstIdle", desc := "()I" } : Jvm.MethodName)) ∈ lw_all := lw_g (lw_at lw_m3 140 rfl) rfl
theorem q662 : (Jvm.Cond.code ({ cls := "LayeredCharters$Charter", name := "firstIdle", desc := "()I" } : Jvm.MethodName) prog_2_method_16_code (2 : Nat) (Option.some Jvm.ClassFile.FieldType.int)) ∈ lw_all := lw_g (lw_at lw_m3 141 rfl) rfl
theorem q663 : (Jvm.Cond.methodLink "LayeredCharters$Charter" (100 : Nat) ({ cls := "LayeredCharters$Charter", name := "isIdle", desc := "(I)Z" } : Jvm.MethodName)) ∈ lw_all := lw_g (lw_at lw_m3 142 rfl) rfl
theorem q664 : (Jvm.Cond.instanceMethod ({ cls := "LayeredCharters$Charter", name := "isIdle", desc := "(I)Z" } : Jvm.MethodName)) ∈ lw_all := lw_g (lw_at lw_m3 143 rfl) rfl
theorem q665 : (Jvm.Cond.selects "LayeredCharters$Charter" ({ cls := "LayeredCharters$Charter", name := "isIdle", desc := "(I)Z" } : Jvm.MethodName) ({ cls := "LayeredCharters$Charter", name := "isIdle", desc := "(I)Z" } : Jvm.MethodName)) ∈ lw_all := lw_g (lw_at lw_m3 144 rfl) rfl
theorem q666 : (Jvm.Cond.code ({ cls := "LayeredCharters$Charter", name := "isIdle", desc := "(I)Z" } : Jvm.MethodName) prog_2_method_15_code (2 : Nat) (Option.some Jvm.ClassFile.FieldType.boolean)) ∈ lw_all := lw_g (lw_at lw_m3 145 rfl) rfl
theorem q667 : (Jvm.Cond.methodLink "LayeredCharters$Charter" (92 : Nat) ({ cls := "LayeredCharters$Charter", name := "without", desc := "(I)LLayeredCharters$Charter;" } : Jvm.MethodName)) ∈ lw_all := lw_g (lw_at lw_m3 146 rfl) rfl
theorem q668 : (Jvm.Cond.instanceMethod ({ cls := "LayeredCharters$Charter", name := "without", desc := "(I)LLayeredCharters$Charter;" } : Jvm.MethodName)) ∈ lw_all := lw_g (lw_at lw_m3 147 rfl) rfl
theorem q669 : (Jvm.Cond.selects "LayeredCharters$Charter" ({ cls := "LayeredCharters$Charter", name := "without", desc := "(I)LLayeredCharters$Charter;" } : Jvm.MethodName) ({ cls := "LayeredCharters$Charter", name := "without", desc := "(I)LLayeredCharters$Charter;" } : Jvm.MethodName)) ∈ lw_all := lw_g (lw_at lw_m3 148 rfl) rfl
theorem q670 : (Jvm.Cond.code ({ cls := "LayeredCharters$Charter", name := "without", desc := "(I)LLayeredCharters$Charter;" } : Jvm.MethodName) prog_2_method_3_code (3 : Nat) (Option.some (Jvm.ClassFile.FieldType.object "LayeredCharters$Charter"))) ∈ lw_all := lw_g (lw_at lw_m3 149 rfl) rfl
theorem q671 : (Jvm.Cond.methodLink "LayeredCharters$Charter" (25 : Nat) ({ cls := "LayeredCharters$Charter", name := "copy", desc := "()LLayeredCharters$Charter;" } : Jvm.MethodName)) ∈ lw_all := lw_g (lw_at lw_m3 150 rfl) rfl
theorem q672 : (Jvm.Cond.interfaceEntry "LayeredCharters$Charter" (29 : Nat)) ∈ lw_tbl := lw_at lw_m3 151 rfl
theorem q673 : (Jvm.Cond.methodLink "LayeredCharters$Charter" (29 : Nat) ({ cls := "java/util/List", name := "remove", desc := "(I)Ljava/lang/Object;" } : Jvm.MethodName)) ∈ lw_all := lw_g (lw_at lw_m3 152 rfl) rfl
theorem q674 : (Jvm.Cond.methodLink "LayeredCharters$Charter" (96 : Nat) ({ cls := "LayeredCharters$Charter", name := "allowsTheSame", desc := "(LLayeredCharters$Charter;)Z" } : Jvm.MethodName)) ∈ lw_all := lw_g (lw_at lw_m3 153 rfl) rfl
theorem q675 : (Jvm.Cond.instanceMethod ({ cls := "LayeredCharters$Charter", name := "allowsTheSame", desc := "(LLayeredCharters$Charter;)Z" } : Jvm.MethodName)) ∈ lw_all := lw_g (lw_at lw_m3 154 rfl) rfl
theorem q676 : (Jvm.Cond.selects "LayeredCharters$Charter" ({ cls := "LayeredCharters$Charter", name := "allowsTheSame", desc := "(LLayeredCharters$Charter;)Z" } : Jvm.MethodName) ({ cls := "LayeredCharters$Charter", name := "allowsTheSame", desc := "(LLayeredCharters$Charter;)Z" } : Jvm.MethodName)) ∈ lw_all := lw_g (lw_at lw_m3 155 rfl) rfl
theorem q677 : (Jvm.Cond.code ({ cls := "LayeredCharters$Charter", name := "allowsTheSame", desc := "(LLayeredCharters$Charter;)Z" } : Jvm.MethodName) prog_2_method_14_code (5 : Nat) (Option.some Jvm.ClassFile.FieldType.boolean)) ∈ lw_all := lw_g (lw_at lw_m3 156 rfl) rfl
theorem q678 : (Jvm.Cond.methodLink "LayeredCharters$Charter" (89 : Nat) ({ cls := "LayeredCharters$Charter", name := "least", desc := "(II)I" } : Jvm.MethodName)) ∈ lw_all := lw_g (lw_at lw_m3 157 rfl) rfl
theorem q679 : (Jvm.Cond.instanceMethod ({ cls := "LayeredCharters$Charter", name := "least", desc := "(II)I" } : Jvm.MethodName)) ∈ lw_all := lw_g (lw_at lw_m3 158 rfl) rfl
theorem q680 : (Jvm.Cond.selects "LayeredCharters$Charter" ({ cls := "LayeredCharters$Charter", name := "least", desc := "(II)I" } : Jvm.MethodName) ({ cls := "LayeredCharters$Charter", name := "least", desc := "(II)I" } : Jvm.MethodName)) ∈ lw_all := lw_g (lw_at lw_m3 159 rfl) rfl
theorem q681 : (Jvm.Cond.code ({ cls := "LayeredCharters$Charter", name := "least", desc := "(II)I" } : Jvm.MethodName) prog_2_method_12_code (7 : Nat) (Option.some Jvm.ClassFile.FieldType.int)) ∈ lw_all := lw_g (lw_at lw_m3 160 rfl) rfl
theorem q682 : (Jvm.Cond.methodLink "LayeredCharters$Charter" (72 : Nat) ({ cls := "LayeredCharters$Charter", name := "isPermitted", desc := "(II)Z" } : Jvm.MethodName)) ∈ lw_all := lw_g (lw_at lw_m3 161 rfl) rfl
theorem q683 : (Jvm.Cond.instanceMethod ({ cls := "LayeredCharters$Charter", name := "isPermitted", desc := "(II)Z" } : Jvm.MethodName)) ∈ lw_all := lw_g (lw_at lw_m3 162 rfl) rfl
theorem q684 : (Jvm.Cond.selects "LayeredCharters$Charter" ({ cls := "LayeredCharters$Charter", name := "isPermitted", desc := "(II)Z" } : Jvm.MethodName) ({ cls := "LayeredCharters$Charter", name := "isPermitted", desc := "(II)Z" } : Jvm.MethodName)) ∈ lw_all := lw_g (lw_at lw_m3 163 rfl) rfl
theorem q685 : (Jvm.Cond.code ({ cls := "LayeredCharters$Charter", name := "isPermitted", desc := "(II)Z" } : Jvm.MethodName) prog_2_method_5_code (5 : Nat) (Option.some Jvm.ClassFile.FieldType.boolean)) ∈ lw_all := lw_g (lw_at lw_m3 164 rfl) rfl
theorem q686 : (Jvm.Cond.interfaceEntry "LayeredCharters$Charter" (43 : Nat)) ∈ lw_tbl := lw_at lw_m3 165 rfl
theorem q687 : (Jvm.Cond.methodLink "LayeredCharters$Charter" (43 : Nat) ({ cls := "java/util/List", name := "get", desc := "(I)Ljava/lang/Object;" } : Jvm.MethodName)) ∈ lw_all := lw_g (lw_at lw_m3 166 rfl) rfl
theorem q688 : (Jvm.Cond.classLink "LayeredCharters$Charter" (46 : Nat) "LayeredCharters$Rule") ∈ lw_all := lw_g (lw_at lw_m3 167 rfl) rfl
theorem q689 : (Jvm.Cond.methodLink "LayeredCharters$Charter" (52 : Nat) ({ cls := "LayeredCharters$Rule", name := "fits", desc := "(II)Z" } : Jvm.MethodName)) ∈ lw_all := lw_g (lw_at lw_m3 168 rfl) rfl
theorem q693 : (Jvm.Cond.methodLink "LayeredCharters$Charter" (85 : Nat) ({ cls := "LayeredCharters$Charter", name := "strongest", desc := "(IIII)I" } : Jvm.MethodName)) ∈ lw_all := lw_g (lw_at lw_m3 172 rfl) rfl
theorem q694 : (Jvm.Cond.privateMethod ({ cls := "LayeredCharters$Charter", name := "strongest", desc := "(IIII)I" } : Jvm.MethodName)) ∈ lw_tbl := lw_at lw_m3 173 rfl
theorem q695 : (Jvm.Cond.instanceMethod ({ cls := "LayeredCharters$Charter", name := "strongest", desc := "(IIII)I" } : Jvm.MethodName)) ∈ lw_all := lw_g (lw_at lw_m3 174 rfl) rfl
theorem q696 : (Jvm.Cond.code ({ cls := "LayeredCharters$Charter", name := "strongest", desc := "(IIII)I" } : Jvm.MethodName) prog_2_method_10_code (8 : Nat) (Option.some Jvm.ClassFile.FieldType.int)) ∈ lw_all := lw_g (lw_at lw_m3 175 rfl) rfl
theorem q697 : (Jvm.Cond.methodLink "LayeredCharters$Charter" (79 : Nat) ({ cls := "java/lang/Math", name := "max", desc := "(II)I" } : Jvm.MethodName)) ∈ lw_all := lw_g (lw_at lw_m3 176 rfl) rfl
theorem q735 : (Jvm.Cond.instanceMethod ({ cls := "LayeredCharters$Charter", name := "reason", desc := "(III)I" } : Jvm.MethodName)) ∈ lw_all := lw_g (lw_at lw_m3 214 rfl) rfl
theorem q736 : (Jvm.Cond.selects "LayeredCharters$Charter" ({ cls := "LayeredCharters$Charter", name := "reason", desc := "(III)I" } : Jvm.MethodName) ({ cls := "LayeredCharters$Charter", name := "reason", desc := "(III)I" } : Jvm.MethodName)) ∈ lw_all := lw_g (lw_at lw_m3 215 rfl) rfl
theorem q737 : (Jvm.Cond.code ({ cls := "LayeredCharters$Charter", name := "reason", desc := "(III)I" } : Jvm.MethodName) prog_2_method_9_code (4 : Nat) (Option.some Jvm.ClassFile.FieldType.int)) ∈ lw_all := lw_g (lw_at lw_m3 216 rfl) rfl
theorem q738 : (Jvm.Cond.methodLink "LayeredCharters$Charter" (75 : Nat) ({ cls := "LayeredCharters$Charter", name := "ban", desc := "(III)I" } : Jvm.MethodName)) ∈ lw_all := lw_g (lw_at lw_m3 217 rfl) rfl
theorem q739 : (Jvm.Cond.instanceMethod ({ cls := "LayeredCharters$Charter", name := "ban", desc := "(III)I" } : Jvm.MethodName)) ∈ lw_all := lw_g (lw_at lw_m3 218 rfl) rfl
theorem q740 : (Jvm.Cond.selects "LayeredCharters$Charter" ({ cls := "LayeredCharters$Charter", name := "ban", desc := "(III)I" } : Jvm.MethodName) ({ cls := "LayeredCharters$Charter", name := "ban", desc := "(III)I" } : Jvm.MethodName)) ∈ lw_all := lw_g (lw_at lw_m3 219 rfl) rfl
theorem q741 : (Jvm.Cond.code ({ cls := "LayeredCharters$Charter", name := "ban", desc := "(III)I" } : Jvm.MethodName) prog_2_method_8_code (7 : Nat) (Option.some Jvm.ClassFile.FieldType.int)) ∈ lw_all := lw_g (lw_at lw_m3 220 rfl) rfl
theorem q742 : (Jvm.Cond.methodLink "LayeredCharters$Charter" (66 : Nat) ({ cls := "LayeredCharters$Charter", name := "holds", desc := "(LLayeredCharters$Rule;III)Z" } : Jvm.MethodName)) ∈ lw_all := lw_g (lw_at lw_m3 221 rfl) rfl
theorem q743 : (Jvm.Cond.instanceMethod ({ cls := "LayeredCharters$Charter", name := "holds", desc := "(LLayeredCharters$Rule;III)Z" } : Jvm.MethodName)) ∈ lw_all := lw_g (lw_at lw_m3 222 rfl) rfl
theorem q744 : (Jvm.Cond.selects "LayeredCharters$Charter" ({ cls := "LayeredCharters$Charter", name := "holds", desc := "(LLayeredCharters$Rule;III)Z" } : Jvm.MethodName) ({ cls := "LayeredCharters$Charter", name := "holds", desc := "(LLayeredCharters$Rule;III)Z" } : Jvm.MethodName)) ∈ lw_all := lw_g (lw_at lw_m3 223 rfl) rfl
theorem q745 : (Jvm.Cond.code ({ cls := "LayeredCharters$Charter", name := "holds", desc := "(LLayeredCharters$Rule;III)Z" } : Jvm.MethodName) prog_2_method_7_code (5 : Nat) (Option.some Jvm.ClassFile.FieldType.boolean)) ∈ lw_all := lw_g (lw_at lw_m3 224 rfl) rfl
theorem q746 : (Jvm.Cond.methodLink "LayeredCharters$Charter" (63 : Nat) ({ cls := "LayeredCharters$Charter", name := "isLifted", desc := "(LLayeredCharters$Rule;II)Z" } : Jvm.MethodName)) ∈ lw_all := lw_g (lw_at lw_m3 225 rfl) rfl
theorem q747 : (Jvm.Cond.instanceMethod ({ cls := "LayeredCharters$Charter", name := "isLifted", desc := "(LLayeredCharters$Rule;II)Z" } : Jvm.MethodName)) ∈ lw_all := lw_g (lw_at lw_m3 226 rfl) rfl
theorem q748 : (Jvm.Cond.selects "LayeredCharters$Charter" ({ cls := "LayeredCharters$Charter", name := "isLifted", desc := "(LLayeredCharters$Rule;II)Z" } : Jvm.MethodName) ({ cls := "LayeredCharters$Charter", name := "isLifted", desc := "(LLayeredCharters$Rule;II)Z" } : Jvm.MethodName)) ∈ lw_all := lw_g (lw_at lw_m3 227 rfl) rfl
theorem q749 : (Jvm.Cond.code ({ cls := "LayeredCharters$Charter", name := "isLifted", desc := "(LLayeredCharters$Rule;II)Z" } : Jvm.MethodName) prog_2_method_6_code (6 : Nat) (Option.some Jvm.ClassFile.FieldType.boolean)) ∈ lw_all := lw_g (lw_at lw_m3 228 rfl) rfl
theorem q750 : (Jvm.Cond.methodLink "LayeredCharters$Charter" (56 : Nat) ({ cls := "LayeredCharters$Rule", name := "lifts", desc := "(LLayeredCharters$Rule;II)Z" } : Jvm.MethodName)) ∈ lw_all := lw_g (lw_at lw_m3 229 rfl) rfl
theorem q763 : (Jvm.Cond.instanceMethod ({ cls := "LayeredCharters$Charter", name := "odds", desc := "(I)I" } : Jvm.MethodName)) ∈ lw_all := lw_g (lw_at lw_m4 2 rfl) rfl
theorem q764 : (Jvm.Cond.selects "LayeredCharters$Charter" ({ cls := "LayeredCharters$Charter", name := "odds", desc := "(I)I" } : Jvm.MethodName) ({ cls := "LayeredCharters$Charter", name := "odds", desc := "(I)I" } : Jvm.MethodName)) ∈ lw_all := lw_g (lw_at lw_m4 3 rfl) rfl
theorem q765 : (Jvm.Cond.code ({ cls := "LayeredCharters$Charter", name := "odds", desc := "(I)I" } : Jvm.MethodName) prog_2_method_18_code (2 : Nat) (Option.some Jvm.ClassFile.FieldType.int)) ∈ lw_all := lw_g (lw_at lw_m4 4 rfl) rfl
theorem q766 : (Jvm.Cond.privateMethod ({ cls := "LayeredCharters$Charter", name := "lambda$odds$0", desc := "(II)Z" } : Jvm.MethodName)) ∈ lw_tbl := lw_at lw_m4 5 rfl
theorem q767 : (Jvm.Cond.instanceMethod ({ cls := "LayeredCharters$Charter", name := "lambda$odds$0", desc := "(II)Z" } : Jvm.MethodName)) ∈ lw_all := lw_g (lw_at lw_m4 6 rfl) rfl
theorem q768 : (Jvm.Cond.code ({ cls := "LayeredCharters$Charter", name := "lambda$odds$0", desc := "(II)Z" } : Jvm.MethodName) prog_2_method_19_code (3 : Nat) (Option.some Jvm.ClassFile.FieldType.boolean)) ∈ lw_all := lw_g (lw_at lw_m4 7 rfl) rfl
theorem q769 : (Jvm.Cond.methodLink "LayeredCharters$Charter" (116 : Nat) ({ cls := "LayeredCharters$Rule", name := "isAtOdds", desc := "(LLayeredCharters$Rule;)Z" } : Jvm.MethodName)) ∈ lw_all := lw_g (lw_at lw_m4 8 rfl) rfl
theorem q777 : (Jvm.Cond.methodLink "LayeredCharters$Charter" (112 : Nat) ({ cls := "LayeredCharters$Charter", name := "count", desc := "(LLayeredCharters$Test;)I" } : Jvm.MethodName)) ∈ lw_all := lw_g (lw_at lw_m4 16 rfl) rfl
theorem q778 : (Jvm.Cond.instanceMethod ({ cls := "LayeredCharters$Charter", name := "count", desc := "(LLayeredCharters$Test;)I" } : Jvm.MethodName)) ∈ lw_all := lw_g (lw_at lw_m4 17 rfl) rfl
theorem q779 : (Jvm.Cond.selects "LayeredCharters$Charter" ({ cls := "LayeredCharters$Charter", name := "count", desc := "(LLayeredCharters$Test;)I" } : Jvm.MethodName) ({ cls := "LayeredCharters$Charter", name := "count", desc := "(LLayeredCharters$Test;)I" } : Jvm.MethodName)) ∈ lw_all := lw_g (lw_at lw_m4 18 rfl) rfl
theorem q780 : (Jvm.Cond.code ({ cls := "LayeredCharters$Charter", name := "count", desc := "(LLayeredCharters$Test;)I" } : Jvm.MethodName) prog_2_method_17_code (4 : Nat) (Option.some Jvm.ClassFile.FieldType.int)) ∈ lw_all := lw_g (lw_at lw_m4 19 rfl) rfl
theorem q781 : (Jvm.Cond.interfaceEntry "LayeredCharters$Charter" (104 : Nat)) ∈ lw_tbl := lw_at lw_m4 20 rfl
theorem q782 : (Jvm.Cond.methodLink "LayeredCharters$Charter" (104 : Nat) ({ cls := "LayeredCharters$Test", name := "of", desc := "(I)Z" } : Jvm.MethodName)) ∈ lw_all := lw_g (lw_at lw_m4 21 rfl) rfl
theorem q803 : (Jvm.Cond.instanceMethod ({ cls := "LayeredCharters$Charter", name := "isAllowedByLayers", desc := "(III)Z" } : Jvm.MethodName)) ∈ lw_all := lw_g (lw_at lw_m4 42 rfl) rfl
theorem q804 : (Jvm.Cond.selects "LayeredCharters$Charter" ({ cls := "LayeredCharters$Charter", name := "isAllowedByLayers", desc := "(III)Z" } : Jvm.MethodName) ({ cls := "LayeredCharters$Charter", name := "isAllowedByLayers", desc := "(III)Z" } : Jvm.MethodName)) ∈ lw_all := lw_g (lw_at lw_m4 43 rfl) rfl
theorem q805 : (Jvm.Cond.code ({ cls := "LayeredCharters$Charter", name := "isAllowedByLayers", desc := "(III)Z" } : Jvm.MethodName) prog_2_method_11_code (8 : Nat) (Option.some Jvm.ClassFile.FieldType.boolean)) ∈ lw_all := lw_g (lw_at lw_m4 44 rfl) rfl
theorem q825 : (Jvm.Cond.instanceMethod ({ cls := "LayeredCharters$Charter", name := "triples", desc := "()I" } : Jvm.MethodName)) ∈ lw_all := lw_g (lw_at lw_m4 64 rfl) rfl
theorem q826 : (Jvm.Cond.selects "LayeredCharters$Charter" ({ cls := "LayeredCharters$Charter", name := "triples", desc := "()I" } : Jvm.MethodName) ({ cls := "LayeredCharters$Charter", name := "triples", desc := "()I" } : Jvm.MethodName)) ∈ lw_all := lw_g (lw_at lw_m4 65 rfl) rfl
theorem q827 : (Jvm.Cond.code ({ cls := "LayeredCharters$Charter", name := "triples", desc := "()I" } : Jvm.MethodName) prog_2_method_13_code (4 : Nat) (Option.some Jvm.ClassFile.FieldType.int)) ∈ lw_all := lw_g (lw_at lw_m4 66 rfl) rfl
theorem q1277 : (Jvm.Cond.castable "LayeredCharters$Charter" "java/lang/Object") ∈ lw_tbl := lw_at lw_m6 36 rfl
theorem in_X2 : ∀ w ∈ wsX20, w ∈ lw_all := lw_in wsX20 [114] (by decide +kernel) (by decide +kernel)

/-! LayeredCharters$Ranges -/
set_option maxRecDepth 100000
def RX4 : String := "LayeredCharters$Ranges"
abbrev cX4_isLayer : ByteArray := prog_5_method_2_code
def yX4_isLayer : MethodName := ⟨RX4, "isLayer", "(I)Z"⟩
def dkwX4_isLayer_0 : List UInt8 := [26, 3, 7, 184, 0, 3, 172]
abbrev dktX4_isLayer_0 : List UInt8 := dkwX4_isLayer_0 ++ []
theorem dksX4_isLayer_0 : cX4_isLayer.data.toList.drop 0 = dktX4_isLayer_0 := by decide +kernel
theorem dX4_isLayer_0 : decode cX4_isLayer 0 = .ok (.iload_n 0, 1) := dk_26 (dk_at dksX4_isLayer_0 0 rfl rfl)
theorem dX4_isLayer_1 : decode cX4_isLayer 1 = .ok (.iconst 0, 1) := dk_3 (dk_at dksX4_isLayer_0 1 rfl rfl)
theorem dX4_isLayer_2 : decode cX4_isLayer 2 = .ok (.iconst 4, 1) := dk_7 (dk_at dksX4_isLayer_0 2 rfl rfl)
theorem dX4_isLayer_3 : decode cX4_isLayer 3 = .ok (.invokestatic 3, 3) := dk_184 0 3 (dk_at dksX4_isLayer_0 3 rfl rfl)
theorem dX4_isLayer_6 : decode cX4_isLayer 6 = .ok (.ireturn, 1) := dk_172 (dk_at dksX4_isLayer_0 6 rfl rfl)
abbrev cX4_holds : ByteArray := prog_5_method_1_code
def yX4_holds : MethodName := ⟨RX4, "holds", "(III)Z"⟩
def dkwX4_holds_0 : List UInt8 := [26, 27, 161, 0, 12, 26, 28, 163, 0, 7, 4, 167, 0, 4, 3, 172]
abbrev dktX4_holds_0 : List UInt8 := dkwX4_holds_0 ++ []
theorem dksX4_holds_0 : cX4_holds.data.toList.drop 0 = dktX4_holds_0 := by decide +kernel
theorem dX4_holds_0 : decode cX4_holds 0 = .ok (.iload_n 0, 1) := dk_26 (dk_at dksX4_holds_0 0 rfl rfl)
theorem dX4_holds_1 : decode cX4_holds 1 = .ok (.iload_n 1, 1) := dk_27 (dk_at dksX4_holds_0 1 rfl rfl)
theorem dX4_holds_2 : decode cX4_holds 2 = .ok (.if_icmp .lt 12, 3) := dk_161 0 12 (dk_at dksX4_holds_0 2 rfl rfl)
theorem dX4_holds_5 : decode cX4_holds 5 = .ok (.iload_n 0, 1) := dk_26 (dk_at dksX4_holds_0 5 rfl rfl)
theorem dX4_holds_6 : decode cX4_holds 6 = .ok (.iload_n 2, 1) := dk_28 (dk_at dksX4_holds_0 6 rfl rfl)
theorem dX4_holds_7 : decode cX4_holds 7 = .ok (.if_icmp .gt 7, 3) := dk_163 0 7 (dk_at dksX4_holds_0 7 rfl rfl)
theorem dX4_holds_10 : decode cX4_holds 10 = .ok (.iconst 1, 1) := dk_4 (dk_at dksX4_holds_0 10 rfl rfl)
theorem dX4_holds_11 : decode cX4_holds 11 = .ok (.goto 4, 3) := dk_167 0 4 (dk_at dksX4_holds_0 11 rfl rfl)
theorem dX4_holds_14 : decode cX4_holds 14 = .ok (.iconst 0, 1) := dk_3 (dk_at dksX4_holds_0 14 rfl rfl)
theorem dX4_holds_15 : decode cX4_holds 15 = .ok (.ireturn, 1) := dk_172 (dk_at dksX4_holds_0 15 rfl rfl)
abbrev cX4_isSeal : ByteArray := prog_5_method_5_code
def yX4_isSeal : MethodName := ⟨RX4, "isSeal", "(I)Z"⟩
def dkwX4_isSeal_0 : List UInt8 := [26, 4, 16, 9, 184, 0, 3, 172]
abbrev dktX4_isSeal_0 : List UInt8 := dkwX4_isSeal_0 ++ []
theorem dksX4_isSeal_0 : cX4_isSeal.data.toList.drop 0 = dktX4_isSeal_0 := by decide +kernel
theorem dX4_isSeal_0 : decode cX4_isSeal 0 = .ok (.iload_n 0, 1) := dk_26 (dk_at dksX4_isSeal_0 0 rfl rfl)
theorem dX4_isSeal_1 : decode cX4_isSeal 1 = .ok (.iconst 1, 1) := dk_4 (dk_at dksX4_isSeal_0 1 rfl rfl)
theorem dX4_isSeal_2 : decode cX4_isSeal 2 = .ok (.bipush 9, 2) := dk_16 9 (dk_at dksX4_isSeal_0 2 rfl rfl)
theorem dX4_isSeal_4 : decode cX4_isSeal 4 = .ok (.invokestatic 3, 3) := dk_184 0 3 (dk_at dksX4_isSeal_0 4 rfl rfl)
theorem dX4_isSeal_7 : decode cX4_isSeal 7 = .ok (.ireturn, 1) := dk_172 (dk_at dksX4_isSeal_0 7 rfl rfl)
abbrev cX4_isCraft : ByteArray := prog_5_method_3_code
def yX4_isCraft : MethodName := ⟨RX4, "isCraft", "(I)Z"⟩
def dkwX4_isCraft_0 : List UInt8 := [26, 3, 7, 184, 0, 3, 172]
abbrev dktX4_isCraft_0 : List UInt8 := dkwX4_isCraft_0 ++ []
theorem dksX4_isCraft_0 : cX4_isCraft.data.toList.drop 0 = dktX4_isCraft_0 := by decide +kernel
theorem dX4_isCraft_0 : decode cX4_isCraft 0 = .ok (.iload_n 0, 1) := dk_26 (dk_at dksX4_isCraft_0 0 rfl rfl)
theorem dX4_isCraft_1 : decode cX4_isCraft 1 = .ok (.iconst 0, 1) := dk_3 (dk_at dksX4_isCraft_0 1 rfl rfl)
theorem dX4_isCraft_2 : decode cX4_isCraft 2 = .ok (.iconst 4, 1) := dk_7 (dk_at dksX4_isCraft_0 2 rfl rfl)
theorem dX4_isCraft_3 : decode cX4_isCraft 3 = .ok (.invokestatic 3, 3) := dk_184 0 3 (dk_at dksX4_isCraft_0 3 rfl rfl)
theorem dX4_isCraft_6 : decode cX4_isCraft 6 = .ok (.ireturn, 1) := dk_172 (dk_at dksX4_isCraft_0 6 rfl rfl)
abbrev cX4_isRank : ByteArray := prog_5_method_6_code
def yX4_isRank : MethodName := ⟨RX4, "isRank", "(I)Z"⟩
def dkwX4_isRank_0 : List UInt8 := [26, 3, 16, 9, 184, 0, 3, 172]
abbrev dktX4_isRank_0 : List UInt8 := dkwX4_isRank_0 ++ []
theorem dksX4_isRank_0 : cX4_isRank.data.toList.drop 0 = dktX4_isRank_0 := by decide +kernel
theorem dX4_isRank_0 : decode cX4_isRank 0 = .ok (.iload_n 0, 1) := dk_26 (dk_at dksX4_isRank_0 0 rfl rfl)
theorem dX4_isRank_1 : decode cX4_isRank 1 = .ok (.iconst 0, 1) := dk_3 (dk_at dksX4_isRank_0 1 rfl rfl)
theorem dX4_isRank_2 : decode cX4_isRank 2 = .ok (.bipush 9, 2) := dk_16 9 (dk_at dksX4_isRank_0 2 rfl rfl)
theorem dX4_isRank_4 : decode cX4_isRank 4 = .ok (.invokestatic 3, 3) := dk_184 0 3 (dk_at dksX4_isRank_0 4 rfl rfl)
theorem dX4_isRank_7 : decode cX4_isRank 7 = .ok (.ireturn, 1) := dk_172 (dk_at dksX4_isRank_0 7 rfl rfl)
abbrev cX4_isDeed : ByteArray := prog_5_method_4_code
def yX4_isDeed : MethodName := ⟨RX4, "isDeed", "(I)Z"⟩
def dkwX4_isDeed_0 : List UInt8 := [26, 3, 8, 184, 0, 3, 172]
abbrev dktX4_isDeed_0 : List UInt8 := dkwX4_isDeed_0 ++ []
theorem dksX4_isDeed_0 : cX4_isDeed.data.toList.drop 0 = dktX4_isDeed_0 := by decide +kernel
theorem dX4_isDeed_0 : decode cX4_isDeed 0 = .ok (.iload_n 0, 1) := dk_26 (dk_at dksX4_isDeed_0 0 rfl rfl)
theorem dX4_isDeed_1 : decode cX4_isDeed 1 = .ok (.iconst 0, 1) := dk_3 (dk_at dksX4_isDeed_0 1 rfl rfl)
theorem dX4_isDeed_2 : decode cX4_isDeed 2 = .ok (.iconst 5, 1) := dk_8 (dk_at dksX4_isDeed_0 2 rfl rfl)
theorem dX4_isDeed_3 : decode cX4_isDeed 3 = .ok (.invokestatic 3, 3) := dk_184 0 3 (dk_at dksX4_isDeed_0 3 rfl rfl)
theorem dX4_isDeed_6 : decode cX4_isDeed 6 = .ok (.ireturn, 1) := dk_172 (dk_at dksX4_isDeed_0 6 rfl rfl)
theorem q53 : (Jvm.Cond.initialized "LayeredCharters$Ranges") ∈ lw_all := lw_g (lw_at lw_m1 12 rfl) rfl
theorem q201 : (Jvm.Cond.static ({ cls := "LayeredCharters$Ranges", name := "isLayer", desc := "(I)Z" } : Jvm.MethodName)) ∈ lw_all := lw_g (lw_at lw_m1 160 rfl) rfl
theorem q202 : (Jvm.Cond.code ({ cls := "LayeredCharters$Ranges", name := "isLayer", desc := "(I)Z" } : Jvm.MethodName) prog_5_method_2_code (1 : Nat) (Option.some Jvm.ClassFile.FieldType.boolean)) ∈ lw_all := lw_g (lw_at lw_m1 161 rfl) rfl
theorem q203 : (Jvm.Cond.methodLink "LayeredCharters$Ranges" (3 : Nat) ({ cls := "LayeredCharters$Ranges", name := "holds", desc := "(III)Z" } : Jvm.MethodName)) ∈ lw_all := lw_g (lw_at lw_m1 162 rfl) rfl
theorem q204 : (Jvm.Cond.static ({ cls := "LayeredCharters$Ranges", name := "holds", desc := "(III)Z" } : Jvm.MethodName)) ∈ lw_all := lw_g (lw_at lw_m1 163 rfl) rfl
theorem q205 : (Jvm.Cond.code ({ cls := "LayeredCharters$Ranges", name := "holds", desc := "(III)Z" } : Jvm.MethodName) prog_5_method_1_code (3 : Nat) (Option.some Jvm.ClassFile.FieldType.boolean)) ∈ lw_all := lw_g (lw_at lw_m1 164 rfl) rfl
theorem q208 : (Jvm.Cond.static ({ cls := "LayeredCharters$Ranges", name := "isSeal", desc := "(I)Z" } : Jvm.MethodName)) ∈ lw_all := lw_g (lw_at lw_m1 167 rfl) rfl
theorem q209 : (Jvm.Cond.code ({ cls := "LayeredCharters$Ranges", name := "isSeal", desc := "(I)Z" } : Jvm.MethodName) prog_5_method_5_code (1 : Nat) (Option.some Jvm.ClassFile.FieldType.boolean)) ∈ lw_all := lw_g (lw_at lw_m1 168 rfl) rfl
theorem q703 : (Jvm.Cond.static ({ cls := "LayeredCharters$Ranges", name := "isCraft", desc := "(I)Z" } : Jvm.MethodName)) ∈ lw_all := lw_g (lw_at lw_m3 182 rfl) rfl
theorem q704 : (Jvm.Cond.code ({ cls := "LayeredCharters$Ranges", name := "isCraft", desc := "(I)Z" } : Jvm.MethodName) prog_5_method_3_code (1 : Nat) (Option.some Jvm.ClassFile.FieldType.boolean)) ∈ lw_all := lw_g (lw_at lw_m3 183 rfl) rfl
theorem q706 : (Jvm.Cond.static ({ cls := "LayeredCharters$Ranges", name := "isRank", desc := "(I)Z" } : Jvm.MethodName)) ∈ lw_all := lw_g (lw_at lw_m3 185 rfl) rfl
theorem q707 : (Jvm.Cond.code ({ cls := "LayeredCharters$Ranges", name := "isRank", desc := "(I)Z" } : Jvm.MethodName) prog_5_method_6_code (1 : Nat) (Option.some Jvm.ClassFile.FieldType.boolean)) ∈ lw_all := lw_g (lw_at lw_m3 186 rfl) rfl
theorem q728 : (Jvm.Cond.static ({ cls := "LayeredCharters$Ranges", name := "isDeed", desc := "(I)Z" } : Jvm.MethodName)) ∈ lw_all := lw_g (lw_at lw_m3 207 rfl) rfl
theorem q729 : (Jvm.Cond.code ({ cls := "LayeredCharters$Ranges", name := "isDeed", desc := "(I)Z" } : Jvm.MethodName) prog_5_method_4_code (1 : Nat) (Option.some Jvm.ClassFile.FieldType.boolean)) ∈ lw_all := lw_g (lw_at lw_m3 208 rfl) rfl

/-! LayeredCharters$Member -/
set_option maxRecDepth 100000
def RX5 : String := "LayeredCharters$Member"
def TX5 : u_T := fun k => match k with
  | 0 => ("LayeredCharters$Member", "craft", "I", true)
  | 1 => ("LayeredCharters$Member", "rank", "I", false)
  | 2 => ("LayeredCharters$Member", "done", "I", false)
  | _ => ("LayeredCharters$Member", "refused", "I", false)
def tyX5 : Nat → FieldType := fun k => match k with
  | 0 => .int
  | 1 => .int
  | 2 => .int
  | _ => .int
abbrev wsX50 : List Cond := u_ws RX5 TX5 4
theorem nmX5 : ∀ a, a < 4 → ∀ b, b < 4 → a ≠ b → (TX5 a).2.1 ≠ (TX5 b).2.1 := by decide +kernel
theorem tyX5_ok : ∀ k, k < 4 → parseFieldDescriptor (TX5 k).2.2.1 = some (tyX5 k) := by decide +kernel
abbrev cX5_copy : ByteArray := prog_4_method_2_code
def yX5_copy : MethodName := ⟨RX5, "copy", "()LLayeredCharters$Member;"⟩
def dkwX5_copy_1 : List UInt8 := [43, 42, 180, 0, 22, 181, 0, 22, 43, 176]
abbrev dktX5_copy_1 : List UInt8 := dkwX5_copy_1 ++ []
def dkwX5_copy_0 : List UInt8 := [187, 0, 8, 89, 42, 180, 0, 7, 42, 180, 0, 13, 183, 0, 16, 76, 43, 42, 180, 0, 19, 181, 0, 19]
abbrev dktX5_copy_0 : List UInt8 := dkwX5_copy_0 ++ dktX5_copy_1
theorem dksX5_copy_0 : cX5_copy.data.toList.drop 0 = dktX5_copy_0 := by decide +kernel
theorem dksX5_copy_1 : cX5_copy.data.toList.drop 24 = dktX5_copy_1 := dk_seg dksX5_copy_0 24 rfl rfl
theorem dX5_copy_0 : decode cX5_copy 0 = .ok (.new 8, 3) := dk_187 0 8 (dk_at dksX5_copy_0 0 rfl rfl)
theorem dX5_copy_3 : decode cX5_copy 3 = .ok (.dup, 1) := dk_89 (dk_at dksX5_copy_0 3 rfl rfl)
theorem dX5_copy_4 : decode cX5_copy 4 = .ok (.aload_n 0, 1) := dk_42 (dk_at dksX5_copy_0 4 rfl rfl)
theorem dX5_copy_5 : decode cX5_copy 5 = .ok (.getfield 7, 3) := dk_180 0 7 (dk_at dksX5_copy_0 5 rfl rfl)
theorem dX5_copy_8 : decode cX5_copy 8 = .ok (.aload_n 0, 1) := dk_42 (dk_at dksX5_copy_0 8 rfl rfl)
theorem dX5_copy_9 : decode cX5_copy 9 = .ok (.getfield 13, 3) := dk_180 0 13 (dk_at dksX5_copy_0 9 rfl rfl)
theorem dX5_copy_12 : decode cX5_copy 12 = .ok (.invokespecial 16, 3) := dk_183 0 16 (dk_at dksX5_copy_0 12 rfl rfl)
theorem dX5_copy_15 : decode cX5_copy 15 = .ok (.astore_n 1, 1) := dk_76 (dk_at dksX5_copy_0 15 rfl rfl)
theorem dX5_copy_16 : decode cX5_copy 16 = .ok (.aload_n 1, 1) := dk_43 (dk_at dksX5_copy_0 16 rfl rfl)
theorem dX5_copy_17 : decode cX5_copy 17 = .ok (.aload_n 0, 1) := dk_42 (dk_at dksX5_copy_0 17 rfl rfl)
theorem dX5_copy_18 : decode cX5_copy 18 = .ok (.getfield 19, 3) := dk_180 0 19 (dk_at dksX5_copy_0 18 rfl rfl)
theorem dX5_copy_21 : decode cX5_copy 21 = .ok (.putfield 19, 3) := dk_181 0 19 (dk_at dksX5_copy_0 21 rfl rfl)
theorem dX5_copy_24 : decode cX5_copy 24 = .ok (.aload_n 1, 1) := dk_43 (dk_at dksX5_copy_1 0 rfl rfl)
theorem dX5_copy_25 : decode cX5_copy 25 = .ok (.aload_n 0, 1) := dk_42 (dk_at dksX5_copy_1 1 rfl rfl)
theorem dX5_copy_26 : decode cX5_copy 26 = .ok (.getfield 22, 3) := dk_180 0 22 (dk_at dksX5_copy_1 2 rfl rfl)
theorem dX5_copy_29 : decode cX5_copy 29 = .ok (.putfield 22, 3) := dk_181 0 22 (dk_at dksX5_copy_1 5 rfl rfl)
theorem dX5_copy_32 : decode cX5_copy 32 = .ok (.aload_n 1, 1) := dk_43 (dk_at dksX5_copy_1 8 rfl rfl)
theorem dX5_copy_33 : decode cX5_copy 33 = .ok (.areturn, 1) := dk_176 (dk_at dksX5_copy_1 9 rfl rfl)
abbrev cX5_init : ByteArray := prog_4_method_1_code
def yX5_init : MethodName := ⟨RX5, "<init>", "(II)V"⟩
def dkwX5_init_0 : List UInt8 := [42, 183, 0, 1, 42, 27, 181, 0, 7, 42, 28, 181, 0, 13, 177]
abbrev dktX5_init_0 : List UInt8 := dkwX5_init_0 ++ []
theorem dksX5_init_0 : cX5_init.data.toList.drop 0 = dktX5_init_0 := by decide +kernel
theorem dX5_init_0 : decode cX5_init 0 = .ok (.aload_n 0, 1) := dk_42 (dk_at dksX5_init_0 0 rfl rfl)
theorem dX5_init_1 : decode cX5_init 1 = .ok (.invokespecial 1, 3) := dk_183 0 1 (dk_at dksX5_init_0 1 rfl rfl)
theorem dX5_init_4 : decode cX5_init 4 = .ok (.aload_n 0, 1) := dk_42 (dk_at dksX5_init_0 4 rfl rfl)
theorem dX5_init_5 : decode cX5_init 5 = .ok (.iload_n 1, 1) := dk_27 (dk_at dksX5_init_0 5 rfl rfl)
theorem dX5_init_6 : decode cX5_init 6 = .ok (.putfield 7, 3) := dk_181 0 7 (dk_at dksX5_init_0 6 rfl rfl)
theorem dX5_init_9 : decode cX5_init 9 = .ok (.aload_n 0, 1) := dk_42 (dk_at dksX5_init_0 9 rfl rfl)
theorem dX5_init_10 : decode cX5_init 10 = .ok (.iload_n 2, 1) := dk_28 (dk_at dksX5_init_0 10 rfl rfl)
theorem dX5_init_11 : decode cX5_init 11 = .ok (.putfield 13, 3) := dk_181 0 13 (dk_at dksX5_init_0 11 rfl rfl)
theorem dX5_init_14 : decode cX5_init 14 = .ok (.return_, 1) := dk_177 (dk_at dksX5_init_0 14 rfl rfl)
theorem q60 : (Jvm.Cond.initialized "LayeredCharters$Member") ∈ lw_all := lw_g (lw_at lw_m1 19 rfl) rfl
theorem q264 : (Jvm.Cond.selects "LayeredCharters$Member" ({ cls := "java/lang/Object", name := "getClass", desc := "()Ljava/lang/Class;" } : Jvm.MethodName) ({ cls := "java/lang/Object", name := "getClass", desc := "()Ljava/lang/Class;" } : Jvm.MethodName)) ∈ lw_all := lw_g (lw_at lw_m1 223 rfl) rfl
theorem q324 : (Jvm.Cond.instanceMethod ({ cls := "LayeredCharters$Member", name := "copy", desc := "()LLayeredCharters$Member;" } : Jvm.MethodName)) ∈ lw_all := lw_g (lw_at lw_m2 43 rfl) rfl
theorem q325 : (Jvm.Cond.selects "LayeredCharters$Member" ({ cls := "LayeredCharters$Member", name := "copy", desc := "()LLayeredCharters$Member;" } : Jvm.MethodName) ({ cls := "LayeredCharters$Member", name := "copy", desc := "()LLayeredCharters$Member;" } : Jvm.MethodName)) ∈ lw_all := lw_g (lw_at lw_m2 44 rfl) rfl
theorem q326 : (Jvm.Cond.code ({ cls := "LayeredCharters$Member", name := "copy", desc := "()LLayeredCharters$Member;" } : Jvm.MethodName) prog_4_method_2_code (2 : Nat) (Option.some (Jvm.ClassFile.FieldType.object "LayeredCharters$Member"))) ∈ lw_all := lw_g (lw_at lw_m2 45 rfl) rfl
theorem q327 : (Jvm.Cond.classLink "LayeredCharters$Member" (8 : Nat) "LayeredCharters$Member") ∈ lw_all := lw_g (lw_at lw_m2 46 rfl) rfl
theorem q328 : (Jvm.Cond.instantiable "LayeredCharters$Member" (4 : Nat)) ∈ lw_all := lw_g (lw_at lw_m2 47 rfl) rfl
theorem q329 : (Jvm.Cond.methodLink "LayeredCharters$Member" (16 : Nat) ({ cls := "LayeredCharters$Member", name := "<init>", desc := "(II)V" } : Jvm.MethodName)) ∈ lw_all := lw_g (lw_at lw_m2 48 rfl) rfl
theorem q330 : (Jvm.Cond.instanceMethod ({ cls := "LayeredCharters$Member", name := "<init>", desc := "(II)V" } : Jvm.MethodName)) ∈ lw_all := lw_g (lw_at lw_m2 49 rfl) rfl
theorem q331 : (Jvm.Cond.code ({ cls := "LayeredCharters$Member", name := "<init>", desc := "(II)V" } : Jvm.MethodName) prog_4_method_1_code (3 : Nat) (Option.none : Option Jvm.ClassFile.FieldType)) ∈ lw_all := lw_g (lw_at lw_m2 50 rfl) rfl
theorem q332 : (Jvm.Cond.methodLink "LayeredCharters$Member" (1 : Nat) ({ cls := "java/lang/Object", name := "<init>", desc := "()V" } : Jvm.MethodName)) ∈ lw_all := lw_g (lw_at lw_m2 51 rfl) rfl
theorem q333 : (Jvm.Cond.fieldLink "LayeredCharters$Member" (7 : Nat) "LayeredCharters$Member" "craft" "I") ∈ lw_all := lw_g (lw_at lw_m2 52 rfl) rfl
theorem q336 : (Jvm.Cond.fieldLink "LayeredCharters$Member" (13 : Nat) "LayeredCharters$Member" "rank" "I") ∈ lw_all := lw_g (lw_at lw_m2 55 rfl) rfl
theorem q339 : (Jvm.Cond.fieldLink "LayeredCharters$Member" (19 : Nat) "LayeredCharters$Member" "done" "I") ∈ lw_all := lw_g (lw_at lw_m2 58 rfl) rfl
theorem q342 : (Jvm.Cond.fieldLink "LayeredCharters$Member" (22 : Nat) "LayeredCharters$Member" "refused" "I") ∈ lw_all := lw_g (lw_at lw_m2 61 rfl) rfl
theorem q345 : (Jvm.Cond.laysFinal "LayeredCharters$Member" "LayeredCharters$Member" "craft" "I") ∈ lw_all := lw_g (lw_at lw_m2 64 rfl) rfl
theorem q346 : (Jvm.Cond.soleField "LayeredCharters$Member" "craft") ∈ lw_all := lw_g (lw_at lw_m2 65 rfl) rfl
theorem q347 : (Jvm.Cond.lays "LayeredCharters$Member" "LayeredCharters$Member" "rank" "I") ∈ lw_all := lw_g (lw_at lw_m2 66 rfl) rfl
theorem q348 : (Jvm.Cond.soleField "LayeredCharters$Member" "rank") ∈ lw_all := lw_g (lw_at lw_m2 67 rfl) rfl
theorem q349 : (Jvm.Cond.lays "LayeredCharters$Member" "LayeredCharters$Member" "done" "I") ∈ lw_all := lw_g (lw_at lw_m2 68 rfl) rfl
theorem q350 : (Jvm.Cond.soleField "LayeredCharters$Member" "done") ∈ lw_all := lw_g (lw_at lw_m2 69 rfl) rfl
theorem q351 : (Jvm.Cond.lays "LayeredCharters$Member" "LayeredCharters$Member" "refused" "I") ∈ lw_all := lw_g (lw_at lw_m2 70 rfl) rfl
theorem q352 : (Jvm.Cond.soleField "LayeredCharters$Member" "refused") ∈ lw_all := lw_g (lw_at lw_m2 71 rfl) rfl
theorem q353 : (Jvm.Cond.superclass "LayeredCharters$Member" "java/lang/Object") ∈ lw_all := lw_g (lw_at lw_m2 72 rfl) rfl
theorem q1281 : (Jvm.Cond.castable "LayeredCharters$Member" "java/lang/Object") ∈ lw_tbl := lw_at lw_m6 40 rfl
theorem in_X5 : ∀ w ∈ wsX50, w ∈ lw_all := lw_in wsX50 [345, 347, 349, 351] (by decide +kernel) (by decide +kernel)

/-! LayeredCharters$Rule -/
set_option maxRecDepth 100000
def RX6 : String := "LayeredCharters$Rule"
def TX6 : u_T := fun k => match k with
  | 0 => ("LayeredCharters$Rule", "layer", "I", true)
  | 1 => ("LayeredCharters$Rule", "kind", "I", true)
  | 2 => ("LayeredCharters$Rule", "craft", "I", true)
  | 3 => ("LayeredCharters$Rule", "deed", "I", true)
  | _ => ("LayeredCharters$Rule", "seal", "I", true)
def tyX6 : Nat → FieldType := fun k => match k with
  | 0 => .int
  | 1 => .int
  | 2 => .int
  | 3 => .int
  | _ => .int
abbrev wsX60 : List Cond := u_ws RX6 TX6 5
theorem nmX6 : ∀ a, a < 5 → ∀ b, b < 5 → a ≠ b → (TX6 a).2.1 ≠ (TX6 b).2.1 := by decide +kernel
theorem tyX6_ok : ∀ k, k < 5 → parseFieldDescriptor (TX6 k).2.2.1 = some (tyX6 k) := by decide +kernel
abbrev cX6_init : ByteArray := prog_6_method_1_code
def yX6_init : MethodName := ⟨RX6, "<init>", "(IIIII)V"⟩
def dkwX6_init_1 : List UInt8 := [181, 0, 21, 42, 21, 5, 181, 0, 24, 177]
abbrev dktX6_init_1 : List UInt8 := dkwX6_init_1 ++ []
def dkwX6_init_0 : List UInt8 := [42, 183, 0, 3, 42, 27, 181, 0, 9, 42, 28, 181, 0, 15, 42, 29, 181, 0, 18, 42, 21, 4]
abbrev dktX6_init_0 : List UInt8 := dkwX6_init_0 ++ dktX6_init_1
theorem dksX6_init_0 : cX6_init.data.toList.drop 0 = dktX6_init_0 := by decide +kernel
theorem dksX6_init_1 : cX6_init.data.toList.drop 22 = dktX6_init_1 := dk_seg dksX6_init_0 22 rfl rfl
theorem dX6_init_0 : decode cX6_init 0 = .ok (.aload_n 0, 1) := dk_42 (dk_at dksX6_init_0 0 rfl rfl)
theorem dX6_init_1 : decode cX6_init 1 = .ok (.invokespecial 3, 3) := dk_183 0 3 (dk_at dksX6_init_0 1 rfl rfl)
theorem dX6_init_4 : decode cX6_init 4 = .ok (.aload_n 0, 1) := dk_42 (dk_at dksX6_init_0 4 rfl rfl)
theorem dX6_init_5 : decode cX6_init 5 = .ok (.iload_n 1, 1) := dk_27 (dk_at dksX6_init_0 5 rfl rfl)
theorem dX6_init_6 : decode cX6_init 6 = .ok (.putfield 9, 3) := dk_181 0 9 (dk_at dksX6_init_0 6 rfl rfl)
theorem dX6_init_9 : decode cX6_init 9 = .ok (.aload_n 0, 1) := dk_42 (dk_at dksX6_init_0 9 rfl rfl)
theorem dX6_init_10 : decode cX6_init 10 = .ok (.iload_n 2, 1) := dk_28 (dk_at dksX6_init_0 10 rfl rfl)
theorem dX6_init_11 : decode cX6_init 11 = .ok (.putfield 15, 3) := dk_181 0 15 (dk_at dksX6_init_0 11 rfl rfl)
theorem dX6_init_14 : decode cX6_init 14 = .ok (.aload_n 0, 1) := dk_42 (dk_at dksX6_init_0 14 rfl rfl)
theorem dX6_init_15 : decode cX6_init 15 = .ok (.iload_n 3, 1) := dk_29 (dk_at dksX6_init_0 15 rfl rfl)
theorem dX6_init_16 : decode cX6_init 16 = .ok (.putfield 18, 3) := dk_181 0 18 (dk_at dksX6_init_0 16 rfl rfl)
theorem dX6_init_19 : decode cX6_init 19 = .ok (.aload_n 0, 1) := dk_42 (dk_at dksX6_init_0 19 rfl rfl)
theorem dX6_init_20 : decode cX6_init 20 = .ok (.iload 4, 2) := dk_21 4 (dk_at dksX6_init_0 20 rfl rfl)
theorem dX6_init_22 : decode cX6_init 22 = .ok (.putfield 21, 3) := dk_181 0 21 (dk_at dksX6_init_1 0 rfl rfl)
theorem dX6_init_25 : decode cX6_init 25 = .ok (.aload_n 0, 1) := dk_42 (dk_at dksX6_init_1 3 rfl rfl)
theorem dX6_init_26 : decode cX6_init 26 = .ok (.iload 5, 2) := dk_21 5 (dk_at dksX6_init_1 4 rfl rfl)
theorem dX6_init_28 : decode cX6_init 28 = .ok (.putfield 24, 3) := dk_181 0 24 (dk_at dksX6_init_1 6 rfl rfl)
theorem dX6_init_31 : decode cX6_init 31 = .ok (.return_, 1) := dk_177 (dk_at dksX6_init_1 9 rfl rfl)
abbrev cX6_fits : ByteArray := prog_6_method_2_code
def yX6_fits : MethodName := ⟨RX6, "fits", "(II)Z"⟩
def dkwX6_fits_1 : List UInt8 := [159, 0, 11, 42, 180, 0, 21, 28, 160, 0, 7, 4, 167, 0, 4, 3, 172]
abbrev dktX6_fits_1 : List UInt8 := dkwX6_fits_1 ++ []
def dkwX6_fits_0 : List UInt8 := [42, 180, 0, 18, 8, 159, 0, 11, 42, 180, 0, 18, 27, 160, 0, 24, 42, 180, 0, 21, 16, 6]
abbrev dktX6_fits_0 : List UInt8 := dkwX6_fits_0 ++ dktX6_fits_1
theorem dksX6_fits_0 : cX6_fits.data.toList.drop 0 = dktX6_fits_0 := by decide +kernel
theorem dksX6_fits_1 : cX6_fits.data.toList.drop 22 = dktX6_fits_1 := dk_seg dksX6_fits_0 22 rfl rfl
theorem dX6_fits_0 : decode cX6_fits 0 = .ok (.aload_n 0, 1) := dk_42 (dk_at dksX6_fits_0 0 rfl rfl)
theorem dX6_fits_1 : decode cX6_fits 1 = .ok (.getfield 18, 3) := dk_180 0 18 (dk_at dksX6_fits_0 1 rfl rfl)
theorem dX6_fits_4 : decode cX6_fits 4 = .ok (.iconst 5, 1) := dk_8 (dk_at dksX6_fits_0 4 rfl rfl)
theorem dX6_fits_5 : decode cX6_fits 5 = .ok (.if_icmp .eq 11, 3) := dk_159 0 11 (dk_at dksX6_fits_0 5 rfl rfl)
theorem dX6_fits_8 : decode cX6_fits 8 = .ok (.aload_n 0, 1) := dk_42 (dk_at dksX6_fits_0 8 rfl rfl)
theorem dX6_fits_9 : decode cX6_fits 9 = .ok (.getfield 18, 3) := dk_180 0 18 (dk_at dksX6_fits_0 9 rfl rfl)
theorem dX6_fits_12 : decode cX6_fits 12 = .ok (.iload_n 1, 1) := dk_27 (dk_at dksX6_fits_0 12 rfl rfl)
theorem dX6_fits_13 : decode cX6_fits 13 = .ok (.if_icmp .ne 24, 3) := dk_160 0 24 (dk_at dksX6_fits_0 13 rfl rfl)
theorem dX6_fits_16 : decode cX6_fits 16 = .ok (.aload_n 0, 1) := dk_42 (dk_at dksX6_fits_0 16 rfl rfl)
theorem dX6_fits_17 : decode cX6_fits 17 = .ok (.getfield 21, 3) := dk_180 0 21 (dk_at dksX6_fits_0 17 rfl rfl)
theorem dX6_fits_20 : decode cX6_fits 20 = .ok (.bipush 6, 2) := dk_16 6 (dk_at dksX6_fits_0 20 rfl rfl)
theorem dX6_fits_22 : decode cX6_fits 22 = .ok (.if_icmp .eq 11, 3) := dk_159 0 11 (dk_at dksX6_fits_1 0 rfl rfl)
theorem dX6_fits_25 : decode cX6_fits 25 = .ok (.aload_n 0, 1) := dk_42 (dk_at dksX6_fits_1 3 rfl rfl)
theorem dX6_fits_26 : decode cX6_fits 26 = .ok (.getfield 21, 3) := dk_180 0 21 (dk_at dksX6_fits_1 4 rfl rfl)
theorem dX6_fits_29 : decode cX6_fits 29 = .ok (.iload_n 2, 1) := dk_28 (dk_at dksX6_fits_1 7 rfl rfl)
theorem dX6_fits_30 : decode cX6_fits 30 = .ok (.if_icmp .ne 7, 3) := dk_160 0 7 (dk_at dksX6_fits_1 8 rfl rfl)
theorem dX6_fits_33 : decode cX6_fits 33 = .ok (.iconst 1, 1) := dk_4 (dk_at dksX6_fits_1 11 rfl rfl)
theorem dX6_fits_34 : decode cX6_fits 34 = .ok (.goto 4, 3) := dk_167 0 4 (dk_at dksX6_fits_1 12 rfl rfl)
theorem dX6_fits_37 : decode cX6_fits 37 = .ok (.iconst 0, 1) := dk_3 (dk_at dksX6_fits_1 15 rfl rfl)
theorem dX6_fits_38 : decode cX6_fits 38 = .ok (.ireturn, 1) := dk_172 (dk_at dksX6_fits_1 16 rfl rfl)
abbrev cX6_lifts : ByteArray := prog_6_method_5_code
def yX6_lifts : MethodName := ⟨RX6, "lifts", "(LLayeredCharters$Rule;II)Z"⟩
def dkwX6_lifts_1 : List UInt8 := [180, 0, 9, 163, 0, 18, 42, 180, 0, 24, 43, 180, 0, 24, 161, 0, 7, 4, 167, 0, 4, 3, 172]
abbrev dktX6_lifts_1 : List UInt8 := dkwX6_lifts_1 ++ []
def dkwX6_lifts_0 : List UInt8 := [42, 180, 0, 15, 5, 160, 0, 38, 42, 28, 29, 182, 0, 31, 153, 0, 29, 42, 180, 0, 9, 43]
abbrev dktX6_lifts_0 : List UInt8 := dkwX6_lifts_0 ++ dktX6_lifts_1
theorem dksX6_lifts_0 : cX6_lifts.data.toList.drop 0 = dktX6_lifts_0 := by decide +kernel
theorem dksX6_lifts_1 : cX6_lifts.data.toList.drop 22 = dktX6_lifts_1 := dk_seg dksX6_lifts_0 22 rfl rfl
theorem dX6_lifts_0 : decode cX6_lifts 0 = .ok (.aload_n 0, 1) := dk_42 (dk_at dksX6_lifts_0 0 rfl rfl)
theorem dX6_lifts_1 : decode cX6_lifts 1 = .ok (.getfield 15, 3) := dk_180 0 15 (dk_at dksX6_lifts_0 1 rfl rfl)
theorem dX6_lifts_4 : decode cX6_lifts 4 = .ok (.iconst 2, 1) := dk_5 (dk_at dksX6_lifts_0 4 rfl rfl)
theorem dX6_lifts_5 : decode cX6_lifts 5 = .ok (.if_icmp .ne 38, 3) := dk_160 0 38 (dk_at dksX6_lifts_0 5 rfl rfl)
theorem dX6_lifts_8 : decode cX6_lifts 8 = .ok (.aload_n 0, 1) := dk_42 (dk_at dksX6_lifts_0 8 rfl rfl)
theorem dX6_lifts_9 : decode cX6_lifts 9 = .ok (.iload_n 2, 1) := dk_28 (dk_at dksX6_lifts_0 9 rfl rfl)
theorem dX6_lifts_10 : decode cX6_lifts 10 = .ok (.iload_n 3, 1) := dk_29 (dk_at dksX6_lifts_0 10 rfl rfl)
theorem dX6_lifts_11 : decode cX6_lifts 11 = .ok (.invokevirtual 31, 3) := dk_182 0 31 (dk_at dksX6_lifts_0 11 rfl rfl)
theorem dX6_lifts_14 : decode cX6_lifts 14 = .ok (.ifCond .eq 29, 3) := dk_153 0 29 (dk_at dksX6_lifts_0 14 rfl rfl)
theorem dX6_lifts_17 : decode cX6_lifts 17 = .ok (.aload_n 0, 1) := dk_42 (dk_at dksX6_lifts_0 17 rfl rfl)
theorem dX6_lifts_18 : decode cX6_lifts 18 = .ok (.getfield 9, 3) := dk_180 0 9 (dk_at dksX6_lifts_0 18 rfl rfl)
theorem dX6_lifts_21 : decode cX6_lifts 21 = .ok (.aload_n 1, 1) := dk_43 (dk_at dksX6_lifts_0 21 rfl rfl)
theorem dX6_lifts_22 : decode cX6_lifts 22 = .ok (.getfield 9, 3) := dk_180 0 9 (dk_at dksX6_lifts_1 0 rfl rfl)
theorem dX6_lifts_25 : decode cX6_lifts 25 = .ok (.if_icmp .gt 18, 3) := dk_163 0 18 (dk_at dksX6_lifts_1 3 rfl rfl)
theorem dX6_lifts_28 : decode cX6_lifts 28 = .ok (.aload_n 0, 1) := dk_42 (dk_at dksX6_lifts_1 6 rfl rfl)
theorem dX6_lifts_29 : decode cX6_lifts 29 = .ok (.getfield 24, 3) := dk_180 0 24 (dk_at dksX6_lifts_1 7 rfl rfl)
theorem dX6_lifts_32 : decode cX6_lifts 32 = .ok (.aload_n 1, 1) := dk_43 (dk_at dksX6_lifts_1 10 rfl rfl)
theorem dX6_lifts_33 : decode cX6_lifts 33 = .ok (.getfield 24, 3) := dk_180 0 24 (dk_at dksX6_lifts_1 11 rfl rfl)
theorem dX6_lifts_36 : decode cX6_lifts 36 = .ok (.if_icmp .lt 7, 3) := dk_161 0 7 (dk_at dksX6_lifts_1 14 rfl rfl)
theorem dX6_lifts_39 : decode cX6_lifts 39 = .ok (.iconst 1, 1) := dk_4 (dk_at dksX6_lifts_1 17 rfl rfl)
theorem dX6_lifts_40 : decode cX6_lifts 40 = .ok (.goto 4, 3) := dk_167 0 4 (dk_at dksX6_lifts_1 18 rfl rfl)
theorem dX6_lifts_43 : decode cX6_lifts 43 = .ok (.iconst 0, 1) := dk_3 (dk_at dksX6_lifts_1 21 rfl rfl)
theorem dX6_lifts_44 : decode cX6_lifts 44 = .ok (.ireturn, 1) := dk_172 (dk_at dksX6_lifts_1 22 rfl rfl)
abbrev cX6_isAtOdds : ByteArray := prog_6_method_4_code
def yX6_isAtOdds : MethodName := ⟨RX6, "isAtOdds", "(LLayeredCharters$Rule;)Z"⟩
def dkwX6_isAtOdds_1 : List UInt8 := [167, 0, 4, 3, 159, 0, 15, 42, 43, 182, 0, 27, 153, 0, 7, 4, 167, 0, 4, 3, 172]
abbrev dktX6_isAtOdds_1 : List UInt8 := dkwX6_isAtOdds_1 ++ []
def dkwX6_isAtOdds_0 : List UInt8 := [42, 180, 0, 15, 4, 160, 0, 7, 4, 167, 0, 4, 3, 43, 180, 0, 15, 4, 160, 0, 7, 4]
abbrev dktX6_isAtOdds_0 : List UInt8 := dkwX6_isAtOdds_0 ++ dktX6_isAtOdds_1
theorem dksX6_isAtOdds_0 : cX6_isAtOdds.data.toList.drop 0 = dktX6_isAtOdds_0 := by decide +kernel
theorem dksX6_isAtOdds_1 : cX6_isAtOdds.data.toList.drop 22 = dktX6_isAtOdds_1 := dk_seg dksX6_isAtOdds_0 22 rfl rfl
theorem dX6_isAtOdds_0 : decode cX6_isAtOdds 0 = .ok (.aload_n 0, 1) := dk_42 (dk_at dksX6_isAtOdds_0 0 rfl rfl)
theorem dX6_isAtOdds_1 : decode cX6_isAtOdds 1 = .ok (.getfield 15, 3) := dk_180 0 15 (dk_at dksX6_isAtOdds_0 1 rfl rfl)
theorem dX6_isAtOdds_4 : decode cX6_isAtOdds 4 = .ok (.iconst 1, 1) := dk_4 (dk_at dksX6_isAtOdds_0 4 rfl rfl)
theorem dX6_isAtOdds_5 : decode cX6_isAtOdds 5 = .ok (.if_icmp .ne 7, 3) := dk_160 0 7 (dk_at dksX6_isAtOdds_0 5 rfl rfl)
theorem dX6_isAtOdds_8 : decode cX6_isAtOdds 8 = .ok (.iconst 1, 1) := dk_4 (dk_at dksX6_isAtOdds_0 8 rfl rfl)
theorem dX6_isAtOdds_9 : decode cX6_isAtOdds 9 = .ok (.goto 4, 3) := dk_167 0 4 (dk_at dksX6_isAtOdds_0 9 rfl rfl)
theorem dX6_isAtOdds_12 : decode cX6_isAtOdds 12 = .ok (.iconst 0, 1) := dk_3 (dk_at dksX6_isAtOdds_0 12 rfl rfl)
theorem dX6_isAtOdds_13 : decode cX6_isAtOdds 13 = .ok (.aload_n 1, 1) := dk_43 (dk_at dksX6_isAtOdds_0 13 rfl rfl)
theorem dX6_isAtOdds_14 : decode cX6_isAtOdds 14 = .ok (.getfield 15, 3) := dk_180 0 15 (dk_at dksX6_isAtOdds_0 14 rfl rfl)
theorem dX6_isAtOdds_17 : decode cX6_isAtOdds 17 = .ok (.iconst 1, 1) := dk_4 (dk_at dksX6_isAtOdds_0 17 rfl rfl)
theorem dX6_isAtOdds_18 : decode cX6_isAtOdds 18 = .ok (.if_icmp .ne 7, 3) := dk_160 0 7 (dk_at dksX6_isAtOdds_0 18 rfl rfl)
theorem dX6_isAtOdds_21 : decode cX6_isAtOdds 21 = .ok (.iconst 1, 1) := dk_4 (dk_at dksX6_isAtOdds_0 21 rfl rfl)
theorem dX6_isAtOdds_22 : decode cX6_isAtOdds 22 = .ok (.goto 4, 3) := dk_167 0 4 (dk_at dksX6_isAtOdds_1 0 rfl rfl)
theorem dX6_isAtOdds_25 : decode cX6_isAtOdds 25 = .ok (.iconst 0, 1) := dk_3 (dk_at dksX6_isAtOdds_1 3 rfl rfl)
theorem dX6_isAtOdds_26 : decode cX6_isAtOdds 26 = .ok (.if_icmp .eq 15, 3) := dk_159 0 15 (dk_at dksX6_isAtOdds_1 4 rfl rfl)
theorem dX6_isAtOdds_29 : decode cX6_isAtOdds 29 = .ok (.aload_n 0, 1) := dk_42 (dk_at dksX6_isAtOdds_1 7 rfl rfl)
theorem dX6_isAtOdds_30 : decode cX6_isAtOdds 30 = .ok (.aload_n 1, 1) := dk_43 (dk_at dksX6_isAtOdds_1 8 rfl rfl)
theorem dX6_isAtOdds_31 : decode cX6_isAtOdds 31 = .ok (.invokevirtual 27, 3) := dk_182 0 27 (dk_at dksX6_isAtOdds_1 9 rfl rfl)
theorem dX6_isAtOdds_34 : decode cX6_isAtOdds 34 = .ok (.ifCond .eq 7, 3) := dk_153 0 7 (dk_at dksX6_isAtOdds_1 12 rfl rfl)
theorem dX6_isAtOdds_37 : decode cX6_isAtOdds 37 = .ok (.iconst 1, 1) := dk_4 (dk_at dksX6_isAtOdds_1 15 rfl rfl)
theorem dX6_isAtOdds_38 : decode cX6_isAtOdds 38 = .ok (.goto 4, 3) := dk_167 0 4 (dk_at dksX6_isAtOdds_1 16 rfl rfl)
theorem dX6_isAtOdds_41 : decode cX6_isAtOdds 41 = .ok (.iconst 0, 1) := dk_3 (dk_at dksX6_isAtOdds_1 19 rfl rfl)
theorem dX6_isAtOdds_42 : decode cX6_isAtOdds 42 = .ok (.ireturn, 1) := dk_172 (dk_at dksX6_isAtOdds_1 20 rfl rfl)
abbrev cX6_meets : ByteArray := prog_6_method_3_code
def yX6_meets : MethodName := ⟨RX6, "meets", "(LLayeredCharters$Rule;)Z"⟩
def dkwX6_meets_3 : List UInt8 := [172]
abbrev dktX6_meets_3 : List UInt8 := dkwX6_meets_3 ++ []
def dkwX6_meets_2 : List UInt8 := [180, 0, 21, 16, 6, 159, 0, 14, 42, 180, 0, 21, 43, 180, 0, 21, 160, 0, 7, 4, 167, 0, 4, 3]
abbrev dktX6_meets_2 : List UInt8 := dkwX6_meets_2 ++ dktX6_meets_3
def dkwX6_meets_1 : List UInt8 := [160, 0, 7, 4, 167, 0, 4, 3, 61, 28, 153, 0, 36, 42, 180, 0, 21, 16, 6, 159, 0, 23, 43]
abbrev dktX6_meets_1 : List UInt8 := dkwX6_meets_1 ++ dktX6_meets_2
def dkwX6_meets_0 : List UInt8 := [42, 180, 0, 18, 8, 159, 0, 22, 43, 180, 0, 18, 8, 159, 0, 14, 42, 180, 0, 18, 43, 180, 0, 18]
abbrev dktX6_meets_0 : List UInt8 := dkwX6_meets_0 ++ dktX6_meets_1
theorem dksX6_meets_0 : cX6_meets.data.toList.drop 0 = dktX6_meets_0 := by decide +kernel
theorem dksX6_meets_1 : cX6_meets.data.toList.drop 24 = dktX6_meets_1 := dk_seg dksX6_meets_0 24 rfl rfl
theorem dksX6_meets_2 : cX6_meets.data.toList.drop 47 = dktX6_meets_2 := dk_seg dksX6_meets_1 23 rfl rfl
theorem dksX6_meets_3 : cX6_meets.data.toList.drop 71 = dktX6_meets_3 := dk_seg dksX6_meets_2 24 rfl rfl
theorem dX6_meets_0 : decode cX6_meets 0 = .ok (.aload_n 0, 1) := dk_42 (dk_at dksX6_meets_0 0 rfl rfl)
theorem dX6_meets_1 : decode cX6_meets 1 = .ok (.getfield 18, 3) := dk_180 0 18 (dk_at dksX6_meets_0 1 rfl rfl)
theorem dX6_meets_4 : decode cX6_meets 4 = .ok (.iconst 5, 1) := dk_8 (dk_at dksX6_meets_0 4 rfl rfl)
theorem dX6_meets_5 : decode cX6_meets 5 = .ok (.if_icmp .eq 22, 3) := dk_159 0 22 (dk_at dksX6_meets_0 5 rfl rfl)
theorem dX6_meets_8 : decode cX6_meets 8 = .ok (.aload_n 1, 1) := dk_43 (dk_at dksX6_meets_0 8 rfl rfl)
theorem dX6_meets_9 : decode cX6_meets 9 = .ok (.getfield 18, 3) := dk_180 0 18 (dk_at dksX6_meets_0 9 rfl rfl)
theorem dX6_meets_12 : decode cX6_meets 12 = .ok (.iconst 5, 1) := dk_8 (dk_at dksX6_meets_0 12 rfl rfl)
theorem dX6_meets_13 : decode cX6_meets 13 = .ok (.if_icmp .eq 14, 3) := dk_159 0 14 (dk_at dksX6_meets_0 13 rfl rfl)
theorem dX6_meets_16 : decode cX6_meets 16 = .ok (.aload_n 0, 1) := dk_42 (dk_at dksX6_meets_0 16 rfl rfl)
theorem dX6_meets_17 : decode cX6_meets 17 = .ok (.getfield 18, 3) := dk_180 0 18 (dk_at dksX6_meets_0 17 rfl rfl)
theorem dX6_meets_20 : decode cX6_meets 20 = .ok (.aload_n 1, 1) := dk_43 (dk_at dksX6_meets_0 20 rfl rfl)
theorem dX6_meets_21 : decode cX6_meets 21 = .ok (.getfield 18, 3) := dk_180 0 18 (dk_at dksX6_meets_0 21 rfl rfl)
theorem dX6_meets_24 : decode cX6_meets 24 = .ok (.if_icmp .ne 7, 3) := dk_160 0 7 (dk_at dksX6_meets_1 0 rfl rfl)
theorem dX6_meets_27 : decode cX6_meets 27 = .ok (.iconst 1, 1) := dk_4 (dk_at dksX6_meets_1 3 rfl rfl)
theorem dX6_meets_28 : decode cX6_meets 28 = .ok (.goto 4, 3) := dk_167 0 4 (dk_at dksX6_meets_1 4 rfl rfl)
theorem dX6_meets_31 : decode cX6_meets 31 = .ok (.iconst 0, 1) := dk_3 (dk_at dksX6_meets_1 7 rfl rfl)
theorem dX6_meets_32 : decode cX6_meets 32 = .ok (.istore_n 2, 1) := dk_61 (dk_at dksX6_meets_1 8 rfl rfl)
theorem dX6_meets_33 : decode cX6_meets 33 = .ok (.iload_n 2, 1) := dk_28 (dk_at dksX6_meets_1 9 rfl rfl)
theorem dX6_meets_34 : decode cX6_meets 34 = .ok (.ifCond .eq 36, 3) := dk_153 0 36 (dk_at dksX6_meets_1 10 rfl rfl)
theorem dX6_meets_37 : decode cX6_meets 37 = .ok (.aload_n 0, 1) := dk_42 (dk_at dksX6_meets_1 13 rfl rfl)
theorem dX6_meets_38 : decode cX6_meets 38 = .ok (.getfield 21, 3) := dk_180 0 21 (dk_at dksX6_meets_1 14 rfl rfl)
theorem dX6_meets_41 : decode cX6_meets 41 = .ok (.bipush 6, 2) := dk_16 6 (dk_at dksX6_meets_1 17 rfl rfl)
theorem dX6_meets_43 : decode cX6_meets 43 = .ok (.if_icmp .eq 23, 3) := dk_159 0 23 (dk_at dksX6_meets_1 19 rfl rfl)
theorem dX6_meets_46 : decode cX6_meets 46 = .ok (.aload_n 1, 1) := dk_43 (dk_at dksX6_meets_1 22 rfl rfl)
theorem dX6_meets_47 : decode cX6_meets 47 = .ok (.getfield 21, 3) := dk_180 0 21 (dk_at dksX6_meets_2 0 rfl rfl)
theorem dX6_meets_50 : decode cX6_meets 50 = .ok (.bipush 6, 2) := dk_16 6 (dk_at dksX6_meets_2 3 rfl rfl)
theorem dX6_meets_52 : decode cX6_meets 52 = .ok (.if_icmp .eq 14, 3) := dk_159 0 14 (dk_at dksX6_meets_2 5 rfl rfl)
theorem dX6_meets_55 : decode cX6_meets 55 = .ok (.aload_n 0, 1) := dk_42 (dk_at dksX6_meets_2 8 rfl rfl)
theorem dX6_meets_56 : decode cX6_meets 56 = .ok (.getfield 21, 3) := dk_180 0 21 (dk_at dksX6_meets_2 9 rfl rfl)
theorem dX6_meets_59 : decode cX6_meets 59 = .ok (.aload_n 1, 1) := dk_43 (dk_at dksX6_meets_2 12 rfl rfl)
theorem dX6_meets_60 : decode cX6_meets 60 = .ok (.getfield 21, 3) := dk_180 0 21 (dk_at dksX6_meets_2 13 rfl rfl)
theorem dX6_meets_63 : decode cX6_meets 63 = .ok (.if_icmp .ne 7, 3) := dk_160 0 7 (dk_at dksX6_meets_2 16 rfl rfl)
theorem dX6_meets_66 : decode cX6_meets 66 = .ok (.iconst 1, 1) := dk_4 (dk_at dksX6_meets_2 19 rfl rfl)
theorem dX6_meets_67 : decode cX6_meets 67 = .ok (.goto 4, 3) := dk_167 0 4 (dk_at dksX6_meets_2 20 rfl rfl)
theorem dX6_meets_70 : decode cX6_meets 70 = .ok (.iconst 0, 1) := dk_3 (dk_at dksX6_meets_2 23 rfl rfl)
theorem dX6_meets_71 : decode cX6_meets 71 = .ok (.ireturn, 1) := dk_172 (dk_at dksX6_meets_3 0 rfl rfl)
abbrev cX6_pairs : ByteArray := prog_6_method_6_code
def yX6_pairs : MethodName := ⟨RX6, "pairs", "()I"⟩
def dkwX6_pairs_1 : List UInt8 := [167, 0, 4, 4, 104, 172]
abbrev dktX6_pairs_1 : List UInt8 := dkwX6_pairs_1 ++ []
def dkwX6_pairs_0 : List UInt8 := [42, 180, 0, 18, 8, 160, 0, 7, 8, 167, 0, 4, 4, 42, 180, 0, 21, 16, 6, 160, 0, 8, 16, 6]
abbrev dktX6_pairs_0 : List UInt8 := dkwX6_pairs_0 ++ dktX6_pairs_1
theorem dksX6_pairs_0 : cX6_pairs.data.toList.drop 0 = dktX6_pairs_0 := by decide +kernel
theorem dksX6_pairs_1 : cX6_pairs.data.toList.drop 24 = dktX6_pairs_1 := dk_seg dksX6_pairs_0 24 rfl rfl
theorem dX6_pairs_0 : decode cX6_pairs 0 = .ok (.aload_n 0, 1) := dk_42 (dk_at dksX6_pairs_0 0 rfl rfl)
theorem dX6_pairs_1 : decode cX6_pairs 1 = .ok (.getfield 18, 3) := dk_180 0 18 (dk_at dksX6_pairs_0 1 rfl rfl)
theorem dX6_pairs_4 : decode cX6_pairs 4 = .ok (.iconst 5, 1) := dk_8 (dk_at dksX6_pairs_0 4 rfl rfl)
theorem dX6_pairs_5 : decode cX6_pairs 5 = .ok (.if_icmp .ne 7, 3) := dk_160 0 7 (dk_at dksX6_pairs_0 5 rfl rfl)
theorem dX6_pairs_8 : decode cX6_pairs 8 = .ok (.iconst 5, 1) := dk_8 (dk_at dksX6_pairs_0 8 rfl rfl)
theorem dX6_pairs_9 : decode cX6_pairs 9 = .ok (.goto 4, 3) := dk_167 0 4 (dk_at dksX6_pairs_0 9 rfl rfl)
theorem dX6_pairs_12 : decode cX6_pairs 12 = .ok (.iconst 1, 1) := dk_4 (dk_at dksX6_pairs_0 12 rfl rfl)
theorem dX6_pairs_13 : decode cX6_pairs 13 = .ok (.aload_n 0, 1) := dk_42 (dk_at dksX6_pairs_0 13 rfl rfl)
theorem dX6_pairs_14 : decode cX6_pairs 14 = .ok (.getfield 21, 3) := dk_180 0 21 (dk_at dksX6_pairs_0 14 rfl rfl)
theorem dX6_pairs_17 : decode cX6_pairs 17 = .ok (.bipush 6, 2) := dk_16 6 (dk_at dksX6_pairs_0 17 rfl rfl)
theorem dX6_pairs_19 : decode cX6_pairs 19 = .ok (.if_icmp .ne 8, 3) := dk_160 0 8 (dk_at dksX6_pairs_0 19 rfl rfl)
theorem dX6_pairs_22 : decode cX6_pairs 22 = .ok (.bipush 6, 2) := dk_16 6 (dk_at dksX6_pairs_0 22 rfl rfl)
theorem dX6_pairs_24 : decode cX6_pairs 24 = .ok (.goto 4, 3) := dk_167 0 4 (dk_at dksX6_pairs_1 0 rfl rfl)
theorem dX6_pairs_27 : decode cX6_pairs 27 = .ok (.iconst 1, 1) := dk_4 (dk_at dksX6_pairs_1 3 rfl rfl)
theorem dX6_pairs_28 : decode cX6_pairs 28 = .ok (.imul, 1) := dk_104 (dk_at dksX6_pairs_1 4 rfl rfl)
theorem dX6_pairs_29 : decode cX6_pairs 29 = .ok (.ireturn, 1) := dk_172 (dk_at dksX6_pairs_1 5 rfl rfl)
theorem q61 : (Jvm.Cond.initialized "LayeredCharters$Rule") ∈ lw_all := lw_g (lw_at lw_m1 20 rfl) rfl
theorem q265 : (Jvm.Cond.selects "LayeredCharters$Rule" ({ cls := "java/lang/Object", name := "getClass", desc := "()Ljava/lang/Class;" } : Jvm.MethodName) ({ cls := "java/lang/Object", name := "getClass", desc := "()Ljava/lang/Class;" } : Jvm.MethodName)) ∈ lw_all := lw_g (lw_at lw_m1 224 rfl) rfl
theorem q387 : (Jvm.Cond.instantiable "LayeredCharters$Rule" (5 : Nat)) ∈ lw_all := lw_g (lw_at lw_m2 106 rfl) rfl
theorem q389 : (Jvm.Cond.instanceMethod ({ cls := "LayeredCharters$Rule", name := "<init>", desc := "(IIIII)V" } : Jvm.MethodName)) ∈ lw_all := lw_g (lw_at lw_m2 108 rfl) rfl
theorem q390 : (Jvm.Cond.code ({ cls := "LayeredCharters$Rule", name := "<init>", desc := "(IIIII)V" } : Jvm.MethodName) prog_6_method_1_code (6 : Nat) (Option.none : Option Jvm.ClassFile.FieldType)) ∈ lw_all := lw_g (lw_at lw_m2 109 rfl) rfl
theorem q391 : (Jvm.Cond.methodLink "LayeredCharters$Rule" (3 : Nat) ({ cls := "java/lang/Object", name := "<init>", desc := "()V" } : Jvm.MethodName)) ∈ lw_all := lw_g (lw_at lw_m2 110 rfl) rfl
theorem q392 : (Jvm.Cond.fieldLink "LayeredCharters$Rule" (9 : Nat) "LayeredCharters$Rule" "layer" "I") ∈ lw_all := lw_g (lw_at lw_m2 111 rfl) rfl
theorem q396 : (Jvm.Cond.fieldLink "LayeredCharters$Rule" (15 : Nat) "LayeredCharters$Rule" "kind" "I") ∈ lw_all := lw_g (lw_at lw_m2 115 rfl) rfl
theorem q399 : (Jvm.Cond.fieldLink "LayeredCharters$Rule" (18 : Nat) "LayeredCharters$Rule" "craft" "I") ∈ lw_all := lw_g (lw_at lw_m2 118 rfl) rfl
theorem q401 : (Jvm.Cond.fieldLink "LayeredCharters$Rule" (21 : Nat) "LayeredCharters$Rule" "deed" "I") ∈ lw_all := lw_g (lw_at lw_m2 120 rfl) rfl
theorem q403 : (Jvm.Cond.fieldLink "LayeredCharters$Rule" (24 : Nat) "LayeredCharters$Rule" "seal" "I") ∈ lw_all := lw_g (lw_at lw_m2 122 rfl) rfl
theorem q406 : (Jvm.Cond.laysFinal "LayeredCharters$Rule" "LayeredCharters$Rule" "layer" "I") ∈ lw_all := lw_g (lw_at lw_m2 125 rfl) rfl
theorem q407 : (Jvm.Cond.soleField "LayeredCharters$Rule" "layer") ∈ lw_all := lw_g (lw_at lw_m2 126 rfl) rfl
theorem q408 : (Jvm.Cond.laysFinal "LayeredCharters$Rule" "LayeredCharters$Rule" "kind" "I") ∈ lw_all := lw_g (lw_at lw_m2 127 rfl) rfl
theorem q409 : (Jvm.Cond.soleField "LayeredCharters$Rule" "kind") ∈ lw_all := lw_g (lw_at lw_m2 128 rfl) rfl
theorem q410 : (Jvm.Cond.laysFinal "LayeredCharters$Rule" "LayeredCharters$Rule" "craft" "I") ∈ lw_all := lw_g (lw_at lw_m2 129 rfl) rfl
theorem q411 : (Jvm.Cond.soleField "LayeredCharters$Rule" "craft") ∈ lw_all := lw_g (lw_at lw_m2 130 rfl) rfl
theorem q412 : (Jvm.Cond.laysFinal "LayeredCharters$Rule" "LayeredCharters$Rule" "deed" "I") ∈ lw_all := lw_g (lw_at lw_m2 131 rfl) rfl
theorem q413 : (Jvm.Cond.soleField "LayeredCharters$Rule" "deed") ∈ lw_all := lw_g (lw_at lw_m2 132 rfl) rfl
theorem q414 : (Jvm.Cond.laysFinal "LayeredCharters$Rule" "LayeredCharters$Rule" "seal" "I") ∈ lw_all := lw_g (lw_at lw_m2 133 rfl) rfl
theorem q415 : (Jvm.Cond.soleField "LayeredCharters$Rule" "seal") ∈ lw_all := lw_g (lw_at lw_m2 134 rfl) rfl
theorem q416 : (Jvm.Cond.superclass "LayeredCharters$Rule" "java/lang/Object") ∈ lw_all := lw_g (lw_at lw_m2 135 rfl) rfl
theorem q690 : (Jvm.Cond.instanceMethod ({ cls := "LayeredCharters$Rule", name := "fits", desc := "(II)Z" } : Jvm.MethodName)) ∈ lw_all := lw_g (lw_at lw_m3 169 rfl) rfl
theorem q691 : (Jvm.Cond.selects "LayeredCharters$Rule" ({ cls := "LayeredCharters$Rule", name := "fits", desc := "(II)Z" } : Jvm.MethodName) ({ cls := "LayeredCharters$Rule", name := "fits", desc := "(II)Z" } : Jvm.MethodName)) ∈ lw_all := lw_g (lw_at lw_m3 170 rfl) rfl
theorem q692 : (Jvm.Cond.code ({ cls := "LayeredCharters$Rule", name := "fits", desc := "(II)Z" } : Jvm.MethodName) prog_6_method_2_code (3 : Nat) (Option.some Jvm.ClassFile.FieldType.boolean)) ∈ lw_all := lw_g (lw_at lw_m3 171 rfl) rfl
theorem q751 : (Jvm.Cond.instanceMethod ({ cls := "LayeredCharters$Rule", name := "lifts", desc := "(LLayeredCharters$Rule;II)Z" } : Jvm.MethodName)) ∈ lw_all := lw_g (lw_at lw_m3 230 rfl) rfl
theorem q752 : (Jvm.Cond.selects "LayeredCharters$Rule" ({ cls := "LayeredCharters$Rule", name := "lifts", desc := "(LLayeredCharters$Rule;II)Z" } : Jvm.MethodName) ({ cls := "LayeredCharters$Rule", name := "lifts", desc := "(LLayeredCharters$Rule;II)Z" } : Jvm.MethodName)) ∈ lw_all := lw_g (lw_at lw_m3 231 rfl) rfl
theorem q753 : (Jvm.Cond.code ({ cls := "LayeredCharters$Rule", name := "lifts", desc := "(LLayeredCharters$Rule;II)Z" } : Jvm.MethodName) prog_6_method_5_code (4 : Nat) (Option.some Jvm.ClassFile.FieldType.boolean)) ∈ lw_all := lw_g (lw_at lw_m3 232 rfl) rfl
theorem q754 : (Jvm.Cond.methodLink "LayeredCharters$Rule" (31 : Nat) ({ cls := "LayeredCharters$Rule", name := "fits", desc := "(II)Z" } : Jvm.MethodName)) ∈ lw_all := lw_g (lw_at lw_m3 233 rfl) rfl
theorem q770 : (Jvm.Cond.instanceMethod ({ cls := "LayeredCharters$Rule", name := "isAtOdds", desc := "(LLayeredCharters$Rule;)Z" } : Jvm.MethodName)) ∈ lw_all := lw_g (lw_at lw_m4 9 rfl) rfl
theorem q771 : (Jvm.Cond.selects "LayeredCharters$Rule" ({ cls := "LayeredCharters$Rule", name := "isAtOdds", desc := "(LLayeredCharters$Rule;)Z" } : Jvm.MethodName) ({ cls := "LayeredCharters$Rule", name := "isAtOdds", desc := "(LLayeredCharters$Rule;)Z" } : Jvm.MethodName)) ∈ lw_all := lw_g (lw_at lw_m4 10 rfl) rfl
theorem q772 : (Jvm.Cond.code ({ cls := "LayeredCharters$Rule", name := "isAtOdds", desc := "(LLayeredCharters$Rule;)Z" } : Jvm.MethodName) prog_6_method_4_code (2 : Nat) (Option.some Jvm.ClassFile.FieldType.boolean)) ∈ lw_all := lw_g (lw_at lw_m4 11 rfl) rfl
theorem q773 : (Jvm.Cond.methodLink "LayeredCharters$Rule" (27 : Nat) ({ cls := "LayeredCharters$Rule", name := "meets", desc := "(LLayeredCharters$Rule;)Z" } : Jvm.MethodName)) ∈ lw_all := lw_g (lw_at lw_m4 12 rfl) rfl
theorem q774 : (Jvm.Cond.instanceMethod ({ cls := "LayeredCharters$Rule", name := "meets", desc := "(LLayeredCharters$Rule;)Z" } : Jvm.MethodName)) ∈ lw_all := lw_g (lw_at lw_m4 13 rfl) rfl
theorem q775 : (Jvm.Cond.selects "LayeredCharters$Rule" ({ cls := "LayeredCharters$Rule", name := "meets", desc := "(LLayeredCharters$Rule;)Z" } : Jvm.MethodName) ({ cls := "LayeredCharters$Rule", name := "meets", desc := "(LLayeredCharters$Rule;)Z" } : Jvm.MethodName)) ∈ lw_all := lw_g (lw_at lw_m4 14 rfl) rfl
theorem q776 : (Jvm.Cond.code ({ cls := "LayeredCharters$Rule", name := "meets", desc := "(LLayeredCharters$Rule;)Z" } : Jvm.MethodName) prog_6_method_3_code (3 : Nat) (Option.some Jvm.ClassFile.FieldType.boolean)) ∈ lw_all := lw_g (lw_at lw_m4 15 rfl) rfl
theorem q786 : (Jvm.Cond.instanceMethod ({ cls := "LayeredCharters$Rule", name := "pairs", desc := "()I" } : Jvm.MethodName)) ∈ lw_all := lw_g (lw_at lw_m4 25 rfl) rfl
theorem q787 : (Jvm.Cond.selects "LayeredCharters$Rule" ({ cls := "LayeredCharters$Rule", name := "pairs", desc := "()I" } : Jvm.MethodName) ({ cls := "LayeredCharters$Rule", name := "pairs", desc := "()I" } : Jvm.MethodName)) ∈ lw_all := lw_g (lw_at lw_m4 26 rfl) rfl
theorem q788 : (Jvm.Cond.code ({ cls := "LayeredCharters$Rule", name := "pairs", desc := "()I" } : Jvm.MethodName) prog_6_method_6_code (1 : Nat) (Option.some Jvm.ClassFile.FieldType.int)) ∈ lw_all := lw_g (lw_at lw_m4 27 rfl) rfl
theorem q1282 : (Jvm.Cond.castable "LayeredCharters$Rule" "java/lang/Object") ∈ lw_tbl := lw_at lw_m6 41 rfl
theorem in_X6 : ∀ w ∈ wsX60, w ∈ lw_all := lw_in wsX60 [406, 408, 410, 412, 414] (by decide +kernel) (by decide +kernel)

theorem q41 : (Jvm.Cond.initialized "LayeredChartersLaw") ∈ lw_all := lw_g (lw_at lw_m1 0 rfl) rfl
set_option maxRecDepth 100000
theorem q65 : (Jvm.Cond.classLink "LayeredChartersLaw" (7 : Nat) "LayeredCharters") ∈ lw_all := lw_g (lw_at lw_m1 24 rfl) rfl
theorem q67 : (Jvm.Cond.methodLink "LayeredChartersLaw" (9 : Nat) ({ cls := "LayeredCharters", name := "<init>", desc := "()V" } : Jvm.MethodName)) ∈ lw_all := lw_g (lw_at lw_m1 26 rfl) rfl
theorem q196 : (Jvm.Cond.methodLink "LayeredChartersLaw" (13 : Nat) ({ cls := "LayeredCharters", name := "add", desc := "(IIIII)I" } : Jvm.MethodName)) ∈ lw_all := lw_g (lw_at lw_m1 155 rfl) rfl
theorem q417 : (Jvm.Cond.methodLink "LayeredChartersLaw" (18 : Nat) ({ cls := "LayeredCharters", name := "strike", desc := "(I)I" } : Jvm.MethodName)) ∈ lw_all := lw_g (lw_at lw_m2 136 rfl) rfl
theorem q428 : (Jvm.Cond.methodLink "LayeredChartersLaw" (23 : Nat) ({ cls := "LayeredCharters", name := "seal", desc := "(II)I" } : Jvm.MethodName)) ∈ lw_all := lw_g (lw_at lw_m2 147 rfl) rfl
theorem q447 : (Jvm.Cond.methodLink "LayeredChartersLaw" (28 : Nat) ({ cls := "LayeredCharters", name := "move", desc := "(II)I" } : Jvm.MethodName)) ∈ lw_all := lw_g (lw_at lw_m2 166 rfl) rfl
theorem q451 : (Jvm.Cond.methodLink "LayeredChartersLaw" (32 : Nat) ({ cls := "LayeredCharters", name := "read", desc := "()I" } : Jvm.MethodName)) ∈ lw_all := lw_g (lw_at lw_m2 170 rfl) rfl
theorem q655 : (Jvm.Cond.methodLink "LayeredChartersLaw" (37 : Nat) ({ cls := "LayeredCharters", name := "tidy", desc := "()I" } : Jvm.MethodName)) ∈ lw_all := lw_g (lw_at lw_m3 134 rfl) rfl
theorem q698 : (Jvm.Cond.methodLink "LayeredChartersLaw" (41 : Nat) ({ cls := "LayeredCharters", name := "join", desc := "(II)I" } : Jvm.MethodName)) ∈ lw_all := lw_g (lw_at lw_m3 177 rfl) rfl
theorem q710 : (Jvm.Cond.methodLink "LayeredChartersLaw" (45 : Nat) ({ cls := "LayeredCharters", name := "leave", desc := "(I)I" } : Jvm.MethodName)) ∈ lw_all := lw_g (lw_at lw_m3 189 rfl) rfl
theorem q719 : (Jvm.Cond.methodLink "LayeredChartersLaw" (49 : Nat) ({ cls := "LayeredCharters", name := "rank", desc := "(II)I" } : Jvm.MethodName)) ∈ lw_all := lw_g (lw_at lw_m3 198 rfl) rfl
theorem q723 : (Jvm.Cond.methodLink "LayeredChartersLaw" (53 : Nat) ({ cls := "LayeredCharters", name := "act", desc := "(II)I" } : Jvm.MethodName)) ∈ lw_all := lw_g (lw_at lw_m3 202 rfl) rfl
theorem q757 : (Jvm.Cond.methodLink "LayeredChartersLaw" (57 : Nat) ({ cls := "LayeredCharters", name := "rule", desc := "(II)I" } : Jvm.MethodName)) ∈ lw_all := lw_g (lw_at lw_m3 236 rfl) rfl
theorem q789 : (Jvm.Cond.methodLink "LayeredChartersLaw" (61 : Nat) ({ cls := "LayeredCharters", name := "member", desc := "(II)I" } : Jvm.MethodName)) ∈ lw_all := lw_g (lw_at lw_m4 28 rfl) rfl
theorem q798 : (Jvm.Cond.methodLink "LayeredChartersLaw" (65 : Nat) ({ cls := "LayeredCharters", name := "allowed", desc := "(IIII)I" } : Jvm.MethodName)) ∈ lw_all := lw_g (lw_at lw_m4 37 rfl) rfl
theorem q807 : (Jvm.Cond.methodLink "LayeredChartersLaw" (70 : Nat) ({ cls := "LayeredCharters", name := "why", desc := "(III)I" } : Jvm.MethodName)) ∈ lw_all := lw_g (lw_at lw_m4 46 rfl) rfl
theorem q811 : (Jvm.Cond.methodLink "LayeredChartersLaw" (75 : Nat) ({ cls := "LayeredCharters", name := "count", desc := "(I)I" } : Jvm.MethodName)) ∈ lw_all := lw_g (lw_at lw_m4 50 rfl) rfl
theorem q828 : (Jvm.Cond.methodLink "LayeredChartersLaw" (79 : Nat) ({ cls := "LayeredCharters", name := "leastRank", desc := "(II)I" } : Jvm.MethodName)) ∈ lw_all := lw_g (lw_at lw_m4 67 rfl) rfl
theorem q832 : (Jvm.Cond.methodLink "LayeredChartersLaw" (83 : Nat) ({ cls := "LayeredCharters", name := "ifStruck", desc := "(I)I" } : Jvm.MethodName)) ∈ lw_all := lw_g (lw_at lw_m4 71 rfl) rfl
theorem q841 : (Jvm.Cond.methodLink "LayeredChartersLaw" (87 : Nat) ({ cls := "LayeredCharters", name := "worstBan", desc := "()I" } : Jvm.MethodName)) ∈ lw_all := lw_g (lw_at lw_m4 80 rfl) rfl
theorem q845 : (Jvm.Cond.methodLink "LayeredChartersLaw" (91 : Nat) ({ cls := "LayeredCharters", name := "bestWaiver", desc := "(I)I" } : Jvm.MethodName)) ∈ lw_all := lw_g (lw_at lw_m4 84 rfl) rfl
theorem q851 : (Jvm.Cond.methodLink "LayeredChartersLaw" (97 : Nat) ({ cls := "LayeredCharters", name := "put", desc := "(J)I" } : Jvm.MethodName)) ∈ lw_all := lw_g (lw_at lw_m4 90 rfl) rfl
theorem q981 : (Jvm.Cond.methodLink "LayeredChartersLaw" (102 : Nat) ({ cls := "LayeredCharters", name := "wipe", desc := "()I" } : Jvm.MethodName)) ∈ lw_all := lw_g (lw_at lw_m4 220 rfl) rfl
theorem q985 : (Jvm.Cond.methodLink "LayeredChartersLaw" (106 : Nat) ({ cls := "LayeredCharters", name := "fault", desc := "()I" } : Jvm.MethodName)) ∈ lw_all := lw_g (lw_at lw_m4 224 rfl) rfl
theorem q989 : (Jvm.Cond.methodLink "LayeredChartersLaw" (110 : Nat) ({ cls := "LayeredCharters", name := "undo", desc := "()I" } : Jvm.MethodName)) ∈ lw_all := lw_g (lw_at lw_m4 228 rfl) rfl
theorem q1002 : (Jvm.Cond.methodLink "LayeredChartersLaw" (114 : Nat) ({ cls := "LayeredCharters", name := "save", desc := "(I)I" } : Jvm.MethodName)) ∈ lw_all := lw_g (lw_at lw_m5 1 rfl) rfl
theorem q1006 : (Jvm.Cond.methodLink "LayeredChartersLaw" (118 : Nat) ({ cls := "LayeredCharters", name := "restore", desc := "(I)I" } : Jvm.MethodName)) ∈ lw_all := lw_g (lw_at lw_m5 5 rfl) rfl
theorem q1010 : (Jvm.Cond.classLink "LayeredChartersLaw" (10 : Nat) "LayeredChartersModel") ∈ lw_all := lw_g (lw_at lw_m5 9 rfl) rfl
theorem q1012 : (Jvm.Cond.methodLink "LayeredChartersLaw" (12 : Nat) ({ cls := "LayeredChartersModel", name := "<init>", desc := "()V" } : Jvm.MethodName)) ∈ lw_all := lw_g (lw_at lw_m5 11 rfl) rfl
theorem q1045 : (Jvm.Cond.methodLink "LayeredChartersLaw" (17 : Nat) ({ cls := "LayeredChartersModel", name := "add", desc := "(IIIII)I" } : Jvm.MethodName)) ∈ lw_all := lw_g (lw_at lw_m5 44 rfl) rfl
theorem q1063 : (Jvm.Cond.methodLink "LayeredChartersLaw" (22 : Nat) ({ cls := "LayeredChartersModel", name := "strike", desc := "(I)I" } : Jvm.MethodName)) ∈ lw_all := lw_g (lw_at lw_m5 62 rfl) rfl
theorem q1075 : (Jvm.Cond.methodLink "LayeredChartersLaw" (27 : Nat) ({ cls := "LayeredChartersModel", name := "seal", desc := "(II)I" } : Jvm.MethodName)) ∈ lw_all := lw_g (lw_at lw_m5 74 rfl) rfl
theorem q1083 : (Jvm.Cond.methodLink "LayeredChartersLaw" (31 : Nat) ({ cls := "LayeredChartersModel", name := "move", desc := "(II)I" } : Jvm.MethodName)) ∈ lw_all := lw_g (lw_at lw_m5 82 rfl) rfl
theorem q1091 : (Jvm.Cond.methodLink "LayeredChartersLaw" (40 : Nat) ({ cls := "LayeredChartersModel", name := "tidy", desc := "()I" } : Jvm.MethodName)) ∈ lw_all := lw_g (lw_at lw_m5 90 rfl) rfl
theorem q1123 : (Jvm.Cond.methodLink "LayeredChartersLaw" (44 : Nat) ({ cls := "LayeredChartersModel", name := "join", desc := "(II)I" } : Jvm.MethodName)) ∈ lw_all := lw_g (lw_at lw_m5 122 rfl) rfl
theorem q1130 : (Jvm.Cond.methodLink "LayeredChartersLaw" (48 : Nat) ({ cls := "LayeredChartersModel", name := "leave", desc := "(I)I" } : Jvm.MethodName)) ∈ lw_all := lw_g (lw_at lw_m5 129 rfl) rfl
theorem q1138 : (Jvm.Cond.methodLink "LayeredChartersLaw" (52 : Nat) ({ cls := "LayeredChartersModel", name := "rank", desc := "(II)I" } : Jvm.MethodName)) ∈ lw_all := lw_g (lw_at lw_m5 137 rfl) rfl
theorem q1142 : (Jvm.Cond.methodLink "LayeredChartersLaw" (56 : Nat) ({ cls := "LayeredChartersModel", name := "act", desc := "(II)I" } : Jvm.MethodName)) ∈ lw_all := lw_g (lw_at lw_m5 141 rfl) rfl
theorem q1150 : (Jvm.Cond.methodLink "LayeredChartersLaw" (60 : Nat) ({ cls := "LayeredChartersModel", name := "rule", desc := "(II)I" } : Jvm.MethodName)) ∈ lw_all := lw_g (lw_at lw_m5 149 rfl) rfl
theorem q1162 : (Jvm.Cond.methodLink "LayeredChartersLaw" (64 : Nat) ({ cls := "LayeredChartersModel", name := "member", desc := "(II)I" } : Jvm.MethodName)) ∈ lw_all := lw_g (lw_at lw_m5 161 rfl) rfl
theorem q1170 : (Jvm.Cond.methodLink "LayeredChartersLaw" (69 : Nat) ({ cls := "LayeredChartersModel", name := "allowed", desc := "(IIII)I" } : Jvm.MethodName)) ∈ lw_all := lw_g (lw_at lw_m5 169 rfl) rfl
theorem q1177 : (Jvm.Cond.methodLink "LayeredChartersLaw" (74 : Nat) ({ cls := "LayeredChartersModel", name := "why", desc := "(III)I" } : Jvm.MethodName)) ∈ lw_all := lw_g (lw_at lw_m5 176 rfl) rfl
theorem q1181 : (Jvm.Cond.methodLink "LayeredChartersLaw" (78 : Nat) ({ cls := "LayeredChartersModel", name := "count", desc := "(I)I" } : Jvm.MethodName)) ∈ lw_all := lw_g (lw_at lw_m5 180 rfl) rfl
theorem q1197 : (Jvm.Cond.methodLink "LayeredChartersLaw" (82 : Nat) ({ cls := "LayeredChartersModel", name := "leastRank", desc := "(II)I" } : Jvm.MethodName)) ∈ lw_all := lw_g (lw_at lw_m5 196 rfl) rfl
theorem q1201 : (Jvm.Cond.methodLink "LayeredChartersLaw" (86 : Nat) ({ cls := "LayeredChartersModel", name := "ifStruck", desc := "(I)I" } : Jvm.MethodName)) ∈ lw_all := lw_g (lw_at lw_m5 200 rfl) rfl
theorem q1205 : (Jvm.Cond.methodLink "LayeredChartersLaw" (90 : Nat) ({ cls := "LayeredChartersModel", name := "worstBan", desc := "()I" } : Jvm.MethodName)) ∈ lw_all := lw_g (lw_at lw_m5 204 rfl) rfl
theorem q1209 : (Jvm.Cond.methodLink "LayeredChartersLaw" (94 : Nat) ({ cls := "LayeredChartersModel", name := "bestWaiver", desc := "(I)I" } : Jvm.MethodName)) ∈ lw_all := lw_g (lw_at lw_m5 208 rfl) rfl
theorem q1213 : (Jvm.Cond.methodLink "LayeredChartersLaw" (101 : Nat) ({ cls := "LayeredChartersModel", name := "put", desc := "(J)I" } : Jvm.MethodName)) ∈ lw_all := lw_g (lw_at lw_m5 212 rfl) rfl
theorem q1218 : (Jvm.Cond.methodLink "LayeredChartersLaw" (105 : Nat) ({ cls := "LayeredChartersModel", name := "wipe", desc := "()I" } : Jvm.MethodName)) ∈ lw_all := lw_g (lw_at lw_m5 217 rfl) rfl
theorem q1222 : (Jvm.Cond.methodLink "LayeredChartersLaw" (109 : Nat) ({ cls := "LayeredChartersModel", name := "fault", desc := "()I" } : Jvm.MethodName)) ∈ lw_all := lw_g (lw_at lw_m5 221 rfl) rfl
theorem q1245 : (Jvm.Cond.methodLink "LayeredChartersLaw" (36 : Nat) ({ cls := "LayeredChartersModel", name := "read", desc := "()I" } : Jvm.MethodName)) ∈ lw_all := lw_g (lw_at lw_m6 4 rfl) rfl
theorem q1249 : (Jvm.Cond.methodLink "LayeredChartersLaw" (113 : Nat) ({ cls := "LayeredChartersModel", name := "undo", desc := "()I" } : Jvm.MethodName)) ∈ lw_all := lw_g (lw_at lw_m6 8 rfl) rfl
theorem q1253 : (Jvm.Cond.methodLink "LayeredChartersLaw" (117 : Nat) ({ cls := "LayeredChartersModel", name := "save", desc := "(I)I" } : Jvm.MethodName)) ∈ lw_all := lw_g (lw_at lw_m6 12 rfl) rfl
theorem q1257 : (Jvm.Cond.methodLink "LayeredChartersLaw" (121 : Nat) ({ cls := "LayeredChartersModel", name := "restore", desc := "(I)I" } : Jvm.MethodName)) ∈ lw_all := lw_g (lw_at lw_m6 16 rfl) rfl
theorem q1261 : (Jvm.Cond.constantLong "LayeredChartersLaw" (95 : Nat) (4294967295 : Int64)) ∈ lw_all := lw_g (lw_at lw_m6 20 rfl) rfl

theorem q783 : (Jvm.Cond.interfaceMethod "LayeredCharters$Test" "LayeredCharters$Test" "of" "(I)Z") ∈ lw_tbl := lw_at lw_m4 22 rfl
set_option maxRecDepth 100000
theorem q784 : (Jvm.Cond.declares ({ cls := "LayeredCharters$Test", name := "of", desc := "(I)Z" } : Jvm.MethodName)) ∈ lw_tbl := lw_at lw_m4 23 rfl

theorem q631 : (Jvm.Cond.sameMethod "[B" "java/lang/Object" "clone" "()Ljava/lang/Object;") ∈ lw_all := lw_g (lw_at lw_m3 110 rfl) rfl
set_option maxRecDepth 100000
theorem q634 : (Jvm.Cond.selects "[B" ({ cls := "[B", name := "clone", desc := "()Ljava/lang/Object;" } : Jvm.MethodName) ({ cls := "java/lang/Object", name := "clone", desc := "()Ljava/lang/Object;" } : Jvm.MethodName)) ∈ lw_all := lw_g (lw_at lw_m3 113 rfl) rfl
theorem q635 : (Jvm.Cond.castable "[B" "java/lang/Cloneable") ∈ lw_tbl := lw_at lw_m3 114 rfl
theorem q1290 : (Jvm.Cond.castable "[B" "java/lang/Object") ∈ lw_tbl := lw_at lw_m6 49 rfl

theorem q1288 : (Jvm.Cond.castable "[I" "java/lang/Object") ∈ lw_tbl := lw_at lw_m6 47 rfl
set_option maxRecDepth 100000

theorem q1289 : (Jvm.Cond.castable "[LLayeredCharters$Guild;" "java/lang/Object") ∈ lw_tbl := lw_at lw_m6 48 rfl
set_option maxRecDepth 100000

theorem q1285 : (Jvm.Cond.sameMethod "[Ljava/lang/Object;" "java/lang/Object" "getClass" "()Ljava/lang/Class;") ∈ lw_all := lw_g (lw_at lw_m6 44 rfl) rfl
set_option maxRecDepth 100000
theorem q1286 : (Jvm.Cond.selects "[Ljava/lang/Object;" ({ cls := "java/lang/Object", name := "getClass", desc := "()Ljava/lang/Class;" } : Jvm.MethodName) ({ cls := "java/lang/Object", name := "getClass", desc := "()Ljava/lang/Class;" } : Jvm.MethodName)) ∈ lw_all := lw_g (lw_at lw_m6 45 rfl) rfl
theorem q1291 : (Jvm.Cond.castable "[Ljava/lang/Object;" "java/lang/Object") ∈ lw_tbl := lw_at lw_m6 50 rfl

theorem q1292 : (Jvm.Cond.castable "[Z" "java/lang/Object") ∈ lw_tbl := lw_at lw_m6 51 rfl
set_option maxRecDepth 100000

theorem q56 : (Jvm.Cond.initialized "java/lang/System") ∈ lw_all := lw_g (lw_at lw_m1 15 rfl) rfl
set_option maxRecDepth 100000
theorem q282 : (Jvm.Cond.static ({ cls := "java/lang/System", name := "arraycopy", desc := "(Ljava/lang/Object;ILjava/lang/Object;II)V" } : Jvm.MethodName)) ∈ lw_all := lw_g (lw_at lw_m2 1 rfl) rfl
theorem q283 : (Jvm.Cond.native ({ cls := "java/lang/System", name := "arraycopy", desc := "(Ljava/lang/Object;ILjava/lang/Object;II)V" } : Jvm.MethodName)) ∈ lw_all := lw_g (lw_at lw_m2 2 rfl) rfl

theorem q247 : (Jvm.Cond.interfaceMethod "java/util/Collection" "java/util/Collection" "toArray" "()[Ljava/lang/Object;") ∈ lw_tbl := lw_at lw_m1 206 rfl
set_option maxRecDepth 100000
theorem q248 : (Jvm.Cond.declares ({ cls := "java/util/Collection", name := "toArray", desc := "()[Ljava/lang/Object;" } : Jvm.MethodName)) ∈ lw_tbl := lw_at lw_m1 207 rfl

theorem q212 : (Jvm.Cond.interfaceMethod "java/util/List" "java/util/List" "size" "()I") ∈ lw_tbl := lw_at lw_m1 171 rfl
set_option maxRecDepth 100000
theorem q213 : (Jvm.Cond.declares ({ cls := "java/util/List", name := "size", desc := "()I" } : Jvm.MethodName)) ∈ lw_tbl := lw_at lw_m1 172 rfl
theorem q238 : (Jvm.Cond.interfaceMethod "java/util/List" "java/util/List" "addAll" "(Ljava/util/Collection;)Z") ∈ lw_tbl := lw_at lw_m1 197 rfl
theorem q239 : (Jvm.Cond.declares ({ cls := "java/util/List", name := "addAll", desc := "(Ljava/util/Collection;)Z" } : Jvm.MethodName)) ∈ lw_tbl := lw_at lw_m1 198 rfl
theorem q305 : (Jvm.Cond.interfaceMethod "java/util/List" "java/util/List" "get" "(I)Ljava/lang/Object;") ∈ lw_tbl := lw_at lw_m2 24 rfl
theorem q306 : (Jvm.Cond.declares ({ cls := "java/util/List", name := "get", desc := "(I)Ljava/lang/Object;" } : Jvm.MethodName)) ∈ lw_tbl := lw_at lw_m2 25 rfl
theorem q356 : (Jvm.Cond.interfaceMethod "java/util/List" "java/util/List" "add" "(Ljava/lang/Object;)Z") ∈ lw_tbl := lw_at lw_m2 75 rfl
theorem q357 : (Jvm.Cond.declares ({ cls := "java/util/List", name := "add", desc := "(Ljava/lang/Object;)Z" } : Jvm.MethodName)) ∈ lw_tbl := lw_at lw_m2 76 rfl
theorem q375 : (Jvm.Cond.interfaceMethod "java/util/List" "java/util/List" "remove" "(I)Ljava/lang/Object;") ∈ lw_tbl := lw_at lw_m2 94 rfl
theorem q376 : (Jvm.Cond.declares ({ cls := "java/util/List", name := "remove", desc := "(I)Ljava/lang/Object;" } : Jvm.MethodName)) ∈ lw_tbl := lw_at lw_m2 95 rfl
theorem q440 : (Jvm.Cond.interfaceMethod "java/util/List" "java/util/List" "set" "(ILjava/lang/Object;)Ljava/lang/Object;") ∈ lw_tbl := lw_at lw_m2 159 rfl
theorem q441 : (Jvm.Cond.declares ({ cls := "java/util/List", name := "set", desc := "(ILjava/lang/Object;)Ljava/lang/Object;" } : Jvm.MethodName)) ∈ lw_tbl := lw_at lw_m2 160 rfl
theorem q995 : (Jvm.Cond.interfaceMethod "java/util/List" "java/util/List" "isEmpty" "()Z") ∈ lw_tbl := lw_at lw_m4 234 rfl
theorem q996 : (Jvm.Cond.declares ({ cls := "java/util/List", name := "isEmpty", desc := "()Z" } : Jvm.MethodName)) ∈ lw_tbl := lw_at lw_m4 235 rfl

theorem q140 : (Jvm.Cond.arrayClass Jvm.ClassFile.FieldType.int) ∈ lw_all := lw_g (lw_at lw_m1 99 rfl) rfl
set_option maxRecDepth 100000
theorem q143 : (Jvm.Cond.arrayOver (Jvm.ClassFile.FieldType.object "LayeredCharters$Guild")) ∈ lw_tbl := lw_at lw_m1 102 rfl
theorem q176 : (Jvm.Cond.arrayClass Jvm.ClassFile.FieldType.byte) ∈ lw_all := lw_g (lw_at lw_m1 135 rfl) rfl
theorem q276 : (Jvm.Cond.arrayOver (Jvm.ClassFile.FieldType.object "java/lang/Object")) ∈ lw_tbl := lw_at lw_m1 235 rfl
theorem q1044 : (Jvm.Cond.arrayClass Jvm.ClassFile.FieldType.boolean) ∈ lw_all := lw_g (lw_at lw_m5 43 rfl) rfl
