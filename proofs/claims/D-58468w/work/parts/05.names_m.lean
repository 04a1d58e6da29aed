/-! LayeredChartersModel -/
set_option maxRecDepth 100000
def RX3 : String := "LayeredChartersModel"
def TX3 : u_T := fun k => match k with
  | 0 => ("LayeredChartersModel", "s", "[I", true)
  | 1 => ("LayeredChartersModel", "history", "[I", true)
  | 2 => ("LayeredChartersModel", "kept", "I", false)
  | 3 => ("LayeredChartersModel", "slots", "[I", true)
  | 4 => ("LayeredChartersModel", "isSaved", "[Z", true)
  | 5 => ("LayeredChartersModel", "pad", "[I", true)
  | 6 => ("LayeredChartersModel", "length", "I", false)
  | 7 => ("LayeredChartersModel", "strong", "[I", true)
  | _ => ("LayeredChartersModel", "told", "I", false)
def tyX3 : Nat → FieldType := fun k => match k with
  | 0 => .array .int
  | 1 => .array .int
  | 2 => .int
  | 3 => .array .int
  | 4 => .array .boolean
  | 5 => .array .int
  | 6 => .int
  | 7 => .array .int
  | _ => .int
abbrev wsX30 : List Cond := u_ws RX3 TX3 9
theorem nmX3 : ∀ a, a < 9 → ∀ b, b < 9 → a ≠ b → (TX3 a).2.1 ≠ (TX3 b).2.1 := by decide +kernel
theorem tyX3_ok : ∀ k, k < 9 → parseFieldDescriptor (TX3 k).2.2.1 = some (tyX3 k) := by decide +kernel
abbrev cX3_init : ByteArray := prog_9_method_1_code
def yX3_init : MethodName := ⟨RX3, "<init>", "()V"⟩
def dkwX3_init_2 : List UInt8 := [8, 188, 10, 181, 0, 26, 177]
abbrev dktX3_init_2 : List UInt8 := dkwX3_init_2 ++ []
def dkwX3_init_1 : List UInt8 := [17, 1, 82, 188, 10, 181, 0, 16, 42, 5, 188, 4, 181, 0, 19, 42, 16, 60, 188, 10, 181, 0, 23, 42]
abbrev dktX3_init_1 : List UInt8 := dkwX3_init_1 ++ dktX3_init_2
def dkwX3_init_0 : List UInt8 := [42, 183, 0, 1, 42, 17, 0, 169, 188, 10, 181, 0, 7, 42, 17, 3, 246, 188, 10, 181, 0, 13, 42]
abbrev dktX3_init_0 : List UInt8 := dkwX3_init_0 ++ dktX3_init_1
theorem dksX3_init_0 : cX3_init.data.toList.drop 0 = dktX3_init_0 := by decide +kernel
theorem dksX3_init_1 : cX3_init.data.toList.drop 23 = dktX3_init_1 := dk_seg dksX3_init_0 23 rfl rfl
theorem dksX3_init_2 : cX3_init.data.toList.drop 47 = dktX3_init_2 := dk_seg dksX3_init_1 24 rfl rfl
theorem dX3_init_0 : decode cX3_init 0 = .ok (.aload_n 0, 1) := dk_42 (dk_at dksX3_init_0 0 rfl rfl)
theorem dX3_init_1 : decode cX3_init 1 = .ok (.invokespecial 1, 3) := dk_183 0 1 (dk_at dksX3_init_0 1 rfl rfl)
theorem dX3_init_4 : decode cX3_init 4 = .ok (.aload_n 0, 1) := dk_42 (dk_at dksX3_init_0 4 rfl rfl)
theorem dX3_init_5 : decode cX3_init 5 = .ok (.sipush 169, 3) := dk_17 0 169 (dk_at dksX3_init_0 5 rfl rfl)
theorem dX3_init_8 : decode cX3_init 8 = .ok (.newarray .int, 2) := dk_188_10 (dk_at dksX3_init_0 8 rfl rfl)
theorem dX3_init_10 : decode cX3_init 10 = .ok (.putfield 7, 3) := dk_181 0 7 (dk_at dksX3_init_0 10 rfl rfl)
theorem dX3_init_13 : decode cX3_init 13 = .ok (.aload_n 0, 1) := dk_42 (dk_at dksX3_init_0 13 rfl rfl)
theorem dX3_init_14 : decode cX3_init 14 = .ok (.sipush 1014, 3) := dk_17 3 246 (dk_at dksX3_init_0 14 rfl rfl)
theorem dX3_init_17 : decode cX3_init 17 = .ok (.newarray .int, 2) := dk_188_10 (dk_at dksX3_init_0 17 rfl rfl)
theorem dX3_init_19 : decode cX3_init 19 = .ok (.putfield 13, 3) := dk_181 0 13 (dk_at dksX3_init_0 19 rfl rfl)
theorem dX3_init_22 : decode cX3_init 22 = .ok (.aload_n 0, 1) := dk_42 (dk_at dksX3_init_0 22 rfl rfl)
theorem dX3_init_23 : decode cX3_init 23 = .ok (.sipush 338, 3) := dk_17 1 82 (dk_at dksX3_init_1 0 rfl rfl)
theorem dX3_init_26 : decode cX3_init 26 = .ok (.newarray .int, 2) := dk_188_10 (dk_at dksX3_init_1 3 rfl rfl)
theorem dX3_init_28 : decode cX3_init 28 = .ok (.putfield 16, 3) := dk_181 0 16 (dk_at dksX3_init_1 5 rfl rfl)
theorem dX3_init_31 : decode cX3_init 31 = .ok (.aload_n 0, 1) := dk_42 (dk_at dksX3_init_1 8 rfl rfl)
theorem dX3_init_32 : decode cX3_init 32 = .ok (.iconst 2, 1) := dk_5 (dk_at dksX3_init_1 9 rfl rfl)
theorem dX3_init_33 : decode cX3_init 33 = .ok (.newarray .boolean, 2) := dk_188_4 (dk_at dksX3_init_1 10 rfl rfl)
theorem dX3_init_35 : decode cX3_init 35 = .ok (.putfield 19, 3) := dk_181 0 19 (dk_at dksX3_init_1 12 rfl rfl)
theorem dX3_init_38 : decode cX3_init 38 = .ok (.aload_n 0, 1) := dk_42 (dk_at dksX3_init_1 15 rfl rfl)
theorem dX3_init_39 : decode cX3_init 39 = .ok (.bipush 60, 2) := dk_16 60 (dk_at dksX3_init_1 16 rfl rfl)
theorem dX3_init_41 : decode cX3_init 41 = .ok (.newarray .int, 2) := dk_188_10 (dk_at dksX3_init_1 18 rfl rfl)
theorem dX3_init_43 : decode cX3_init 43 = .ok (.putfield 23, 3) := dk_181 0 23 (dk_at dksX3_init_1 20 rfl rfl)
theorem dX3_init_46 : decode cX3_init 46 = .ok (.aload_n 0, 1) := dk_42 (dk_at dksX3_init_1 23 rfl rfl)
theorem dX3_init_47 : decode cX3_init 47 = .ok (.iconst 5, 1) := dk_8 (dk_at dksX3_init_2 0 rfl rfl)
theorem dX3_init_48 : decode cX3_init 48 = .ok (.newarray .int, 2) := dk_188_10 (dk_at dksX3_init_2 1 rfl rfl)
theorem dX3_init_50 : decode cX3_init 50 = .ok (.putfield 26, 3) := dk_181 0 26 (dk_at dksX3_init_2 3 rfl rfl)
theorem dX3_init_53 : decode cX3_init 53 = .ok (.return_, 1) := dk_177 (dk_at dksX3_init_2 6 rfl rfl)
abbrev cX3_add : ByteArray := prog_9_method_23_code
def yX3_add : MethodName := ⟨RX3, "add", "(IIIII)I"⟩
def dkwX3_add_4 : List UInt8 := [182, 0, 68, 172]
abbrev dktX3_add_4 : List UInt8 := dkwX3_add_4 ++ []
def dkwX3_add_3 : List UInt8 := [3, 46, 16, 24, 160, 0, 6, 16, 252, 172, 42, 182, 0, 65, 42, 27, 28, 29, 21, 4, 21, 5]
abbrev dktX3_add_3 : List UInt8 := dkwX3_add_3 ++ dktX3_add_4
def dkwX3_add_2 : List UInt8 := [184, 0, 29, 154, 0, 6, 16, 254, 172, 28, 154, 0, 10, 27, 158, 0, 6, 16, 251, 172, 42, 180, 0, 7]
abbrev dktX3_add_2 : List UInt8 := dkwX3_add_2 ++ dktX3_add_3
def dkwX3_add_1 : List UInt8 := [184, 0, 29, 154, 0, 5, 2, 172, 28, 3, 5, 184, 0, 29, 153, 0, 14, 21, 5, 4, 16, 9]
abbrev dktX3_add_1 : List UInt8 := dkwX3_add_1 ++ dktX3_add_2
def dkwX3_add_0 : List UInt8 := [27, 3, 7, 184, 0, 29, 153, 0, 23, 29, 3, 8, 184, 0, 29, 153, 0, 14, 21, 4, 3, 16, 6]
abbrev dktX3_add_0 : List UInt8 := dkwX3_add_0 ++ dktX3_add_1
theorem dksX3_add_0 : cX3_add.data.toList.drop 0 = dktX3_add_0 := by decide +kernel
theorem dksX3_add_1 : cX3_add.data.toList.drop 23 = dktX3_add_1 := dk_seg dksX3_add_0 23 rfl rfl
theorem dksX3_add_2 : cX3_add.data.toList.drop 45 = dktX3_add_2 := dk_seg dksX3_add_1 22 rfl rfl
theorem dksX3_add_3 : cX3_add.data.toList.drop 69 = dktX3_add_3 := dk_seg dksX3_add_2 24 rfl rfl
theorem dksX3_add_4 : cX3_add.data.toList.drop 91 = dktX3_add_4 := dk_seg dksX3_add_3 22 rfl rfl
theorem dX3_add_0 : decode cX3_add 0 = .ok (.iload_n 1, 1) := dk_27 (dk_at dksX3_add_0 0 rfl rfl)
theorem dX3_add_1 : decode cX3_add 1 = .ok (.iconst 0, 1) := dk_3 (dk_at dksX3_add_0 1 rfl rfl)
theorem dX3_add_2 : decode cX3_add 2 = .ok (.iconst 4, 1) := dk_7 (dk_at dksX3_add_0 2 rfl rfl)
theorem dX3_add_3 : decode cX3_add 3 = .ok (.invokestatic 29, 3) := dk_184 0 29 (dk_at dksX3_add_0 3 rfl rfl)
theorem dX3_add_6 : decode cX3_add 6 = .ok (.ifCond .eq 23, 3) := dk_153 0 23 (dk_at dksX3_add_0 6 rfl rfl)
theorem dX3_add_9 : decode cX3_add 9 = .ok (.iload_n 3, 1) := dk_29 (dk_at dksX3_add_0 9 rfl rfl)
theorem dX3_add_10 : decode cX3_add 10 = .ok (.iconst 0, 1) := dk_3 (dk_at dksX3_add_0 10 rfl rfl)
theorem dX3_add_11 : decode cX3_add 11 = .ok (.iconst 5, 1) := dk_8 (dk_at dksX3_add_0 11 rfl rfl)
theorem dX3_add_12 : decode cX3_add 12 = .ok (.invokestatic 29, 3) := dk_184 0 29 (dk_at dksX3_add_0 12 rfl rfl)
theorem dX3_add_15 : decode cX3_add 15 = .ok (.ifCond .eq 14, 3) := dk_153 0 14 (dk_at dksX3_add_0 15 rfl rfl)
theorem dX3_add_18 : decode cX3_add 18 = .ok (.iload 4, 2) := dk_21 4 (dk_at dksX3_add_0 18 rfl rfl)
theorem dX3_add_20 : decode cX3_add 20 = .ok (.iconst 0, 1) := dk_3 (dk_at dksX3_add_0 20 rfl rfl)
theorem dX3_add_21 : decode cX3_add 21 = .ok (.bipush 6, 2) := dk_16 6 (dk_at dksX3_add_0 21 rfl rfl)
theorem dX3_add_23 : decode cX3_add 23 = .ok (.invokestatic 29, 3) := dk_184 0 29 (dk_at dksX3_add_1 0 rfl rfl)
theorem dX3_add_26 : decode cX3_add 26 = .ok (.ifCond .ne 5, 3) := dk_154 0 5 (dk_at dksX3_add_1 3 rfl rfl)
theorem dX3_add_29 : decode cX3_add 29 = .ok (.iconst (-1), 1) := dk_2 (dk_at dksX3_add_1 6 rfl rfl)
theorem dX3_add_30 : decode cX3_add 30 = .ok (.ireturn, 1) := dk_172 (dk_at dksX3_add_1 7 rfl rfl)
theorem dX3_add_31 : decode cX3_add 31 = .ok (.iload_n 2, 1) := dk_28 (dk_at dksX3_add_1 8 rfl rfl)
theorem dX3_add_32 : decode cX3_add 32 = .ok (.iconst 0, 1) := dk_3 (dk_at dksX3_add_1 9 rfl rfl)
theorem dX3_add_33 : decode cX3_add 33 = .ok (.iconst 2, 1) := dk_5 (dk_at dksX3_add_1 10 rfl rfl)
theorem dX3_add_34 : decode cX3_add 34 = .ok (.invokestatic 29, 3) := dk_184 0 29 (dk_at dksX3_add_1 11 rfl rfl)
theorem dX3_add_37 : decode cX3_add 37 = .ok (.ifCond .eq 14, 3) := dk_153 0 14 (dk_at dksX3_add_1 14 rfl rfl)
theorem dX3_add_40 : decode cX3_add 40 = .ok (.iload 5, 2) := dk_21 5 (dk_at dksX3_add_1 17 rfl rfl)
theorem dX3_add_42 : decode cX3_add 42 = .ok (.iconst 1, 1) := dk_4 (dk_at dksX3_add_1 19 rfl rfl)
theorem dX3_add_43 : decode cX3_add 43 = .ok (.bipush 9, 2) := dk_16 9 (dk_at dksX3_add_1 20 rfl rfl)
theorem dX3_add_45 : decode cX3_add 45 = .ok (.invokestatic 29, 3) := dk_184 0 29 (dk_at dksX3_add_2 0 rfl rfl)
theorem dX3_add_48 : decode cX3_add 48 = .ok (.ifCond .ne 6, 3) := dk_154 0 6 (dk_at dksX3_add_2 3 rfl rfl)
theorem dX3_add_51 : decode cX3_add 51 = .ok (.bipush (-2), 2) := dk_16 254 (dk_at dksX3_add_2 6 rfl rfl)
theorem dX3_add_53 : decode cX3_add 53 = .ok (.ireturn, 1) := dk_172 (dk_at dksX3_add_2 8 rfl rfl)
theorem dX3_add_54 : decode cX3_add 54 = .ok (.iload_n 2, 1) := dk_28 (dk_at dksX3_add_2 9 rfl rfl)
theorem dX3_add_55 : decode cX3_add 55 = .ok (.ifCond .ne 10, 3) := dk_154 0 10 (dk_at dksX3_add_2 10 rfl rfl)
theorem dX3_add_58 : decode cX3_add 58 = .ok (.iload_n 1, 1) := dk_27 (dk_at dksX3_add_2 13 rfl rfl)
theorem dX3_add_59 : decode cX3_add 59 = .ok (.ifCond .le 6, 3) := dk_158 0 6 (dk_at dksX3_add_2 14 rfl rfl)
theorem dX3_add_62 : decode cX3_add 62 = .ok (.bipush (-5), 2) := dk_16 251 (dk_at dksX3_add_2 17 rfl rfl)
theorem dX3_add_64 : decode cX3_add 64 = .ok (.ireturn, 1) := dk_172 (dk_at dksX3_add_2 19 rfl rfl)
theorem dX3_add_65 : decode cX3_add 65 = .ok (.aload_n 0, 1) := dk_42 (dk_at dksX3_add_2 20 rfl rfl)
theorem dX3_add_66 : decode cX3_add 66 = .ok (.getfield 7, 3) := dk_180 0 7 (dk_at dksX3_add_2 21 rfl rfl)
theorem dX3_add_69 : decode cX3_add 69 = .ok (.iconst 0, 1) := dk_3 (dk_at dksX3_add_3 0 rfl rfl)
theorem dX3_add_70 : decode cX3_add 70 = .ok (.iaload, 1) := dk_46 (dk_at dksX3_add_3 1 rfl rfl)
theorem dX3_add_71 : decode cX3_add 71 = .ok (.bipush 24, 2) := dk_16 24 (dk_at dksX3_add_3 2 rfl rfl)
theorem dX3_add_73 : decode cX3_add 73 = .ok (.if_icmp .ne 6, 3) := dk_160 0 6 (dk_at dksX3_add_3 4 rfl rfl)
theorem dX3_add_76 : decode cX3_add 76 = .ok (.bipush (-4), 2) := dk_16 252 (dk_at dksX3_add_3 7 rfl rfl)
theorem dX3_add_78 : decode cX3_add 78 = .ok (.ireturn, 1) := dk_172 (dk_at dksX3_add_3 9 rfl rfl)
theorem dX3_add_79 : decode cX3_add 79 = .ok (.aload_n 0, 1) := dk_42 (dk_at dksX3_add_3 10 rfl rfl)
theorem dX3_add_80 : decode cX3_add 80 = .ok (.invokevirtual 65, 3) := dk_182 0 65 (dk_at dksX3_add_3 11 rfl rfl)
theorem dX3_add_83 : decode cX3_add 83 = .ok (.aload_n 0, 1) := dk_42 (dk_at dksX3_add_3 14 rfl rfl)
theorem dX3_add_84 : decode cX3_add 84 = .ok (.iload_n 1, 1) := dk_27 (dk_at dksX3_add_3 15 rfl rfl)
theorem dX3_add_85 : decode cX3_add 85 = .ok (.iload_n 2, 1) := dk_28 (dk_at dksX3_add_3 16 rfl rfl)
theorem dX3_add_86 : decode cX3_add 86 = .ok (.iload_n 3, 1) := dk_29 (dk_at dksX3_add_3 17 rfl rfl)
theorem dX3_add_87 : decode cX3_add 87 = .ok (.iload 4, 2) := dk_21 4 (dk_at dksX3_add_3 18 rfl rfl)
theorem dX3_add_89 : decode cX3_add 89 = .ok (.iload 5, 2) := dk_21 5 (dk_at dksX3_add_3 20 rfl rfl)
theorem dX3_add_91 : decode cX3_add 91 = .ok (.invokevirtual 68, 3) := dk_182 0 68 (dk_at dksX3_add_4 0 rfl rfl)
theorem dX3_add_94 : decode cX3_add 94 = .ok (.ireturn, 1) := dk_172 (dk_at dksX3_add_4 3 rfl rfl)
abbrev cX3_in : ByteArray := prog_9_method_3_code
def yX3_in : MethodName := ⟨RX3, "in", "(III)Z"⟩
def dkwX3_in_0 : List UInt8 := [26, 27, 161, 0, 12, 26, 28, 163, 0, 7, 4, 167, 0, 4, 3, 172]
abbrev dktX3_in_0 : List UInt8 := dkwX3_in_0 ++ []
theorem dksX3_in_0 : cX3_in.data.toList.drop 0 = dktX3_in_0 := by decide +kernel
theorem dX3_in_0 : decode cX3_in 0 = .ok (.iload_n 0, 1) := dk_26 (dk_at dksX3_in_0 0 rfl rfl)
theorem dX3_in_1 : decode cX3_in 1 = .ok (.iload_n 1, 1) := dk_27 (dk_at dksX3_in_0 1 rfl rfl)
theorem dX3_in_2 : decode cX3_in 2 = .ok (.if_icmp .lt 12, 3) := dk_161 0 12 (dk_at dksX3_in_0 2 rfl rfl)
theorem dX3_in_5 : decode cX3_in 5 = .ok (.iload_n 0, 1) := dk_26 (dk_at dksX3_in_0 5 rfl rfl)
theorem dX3_in_6 : decode cX3_in 6 = .ok (.iload_n 2, 1) := dk_28 (dk_at dksX3_in_0 6 rfl rfl)
theorem dX3_in_7 : decode cX3_in 7 = .ok (.if_icmp .gt 7, 3) := dk_163 0 7 (dk_at dksX3_in_0 7 rfl rfl)
theorem dX3_in_10 : decode cX3_in 10 = .ok (.iconst 1, 1) := dk_4 (dk_at dksX3_in_0 10 rfl rfl)
theorem dX3_in_11 : decode cX3_in 11 = .ok (.goto 4, 3) := dk_167 0 4 (dk_at dksX3_in_0 11 rfl rfl)
theorem dX3_in_14 : decode cX3_in 14 = .ok (.iconst 0, 1) := dk_3 (dk_at dksX3_in_0 14 rfl rfl)
theorem dX3_in_15 : decode cX3_in 15 = .ok (.ireturn, 1) := dk_172 (dk_at dksX3_in_0 15 rfl rfl)
abbrev cX3_record : ByteArray := prog_9_method_10_code
def yX3_record : MethodName := ⟨RX3, "record", "()V"⟩
def dkwX3_record_4 : List UInt8 := [181, 0, 37, 177]
abbrev dktX3_record_4 : List UInt8 := dkwX3_record_4 ++ []
def dkwX3_record_3 : List UInt8 := [27, 96, 42, 180, 0, 7, 27, 46, 79, 132, 1, 1, 167, 255, 225, 42, 89, 180, 0, 37, 4, 96]
abbrev dktX3_record_3 : List UInt8 := dkwX3_record_3 ++ dktX3_record_4
def dkwX3_record_2 : List UInt8 := [181, 0, 37, 3, 60, 27, 17, 0, 169, 162, 0, 30, 42, 180, 0, 13, 17, 0, 169, 42, 180, 0, 37, 104]
abbrev dktX3_record_2 : List UInt8 := dkwX3_record_2 ++ dktX3_record_3
def dkwX3_record_1 : List UInt8 := [180, 0, 13, 27, 17, 0, 169, 96, 46, 79, 132, 1, 1, 167, 255, 230, 42, 89, 180, 0, 37, 4, 100]
abbrev dktX3_record_1 : List UInt8 := dkwX3_record_1 ++ dktX3_record_2
def dkwX3_record_0 : List UInt8 := [42, 180, 0, 37, 16, 6, 160, 0, 44, 3, 60, 27, 17, 3, 77, 162, 0, 25, 42, 180, 0, 13, 27, 42]
abbrev dktX3_record_0 : List UInt8 := dkwX3_record_0 ++ dktX3_record_1
theorem dksX3_record_0 : cX3_record.data.toList.drop 0 = dktX3_record_0 := by decide +kernel
theorem dksX3_record_1 : cX3_record.data.toList.drop 24 = dktX3_record_1 := dk_seg dksX3_record_0 24 rfl rfl
theorem dksX3_record_2 : cX3_record.data.toList.drop 47 = dktX3_record_2 := dk_seg dksX3_record_1 23 rfl rfl
theorem dksX3_record_3 : cX3_record.data.toList.drop 71 = dktX3_record_3 := dk_seg dksX3_record_2 24 rfl rfl
theorem dksX3_record_4 : cX3_record.data.toList.drop 93 = dktX3_record_4 := dk_seg dksX3_record_3 22 rfl rfl
theorem dX3_record_0 : decode cX3_record 0 = .ok (.aload_n 0, 1) := dk_42 (dk_at dksX3_record_0 0 rfl rfl)
theorem dX3_record_1 : decode cX3_record 1 = .ok (.getfield 37, 3) := dk_180 0 37 (dk_at dksX3_record_0 1 rfl rfl)
theorem dX3_record_4 : decode cX3_record 4 = .ok (.bipush 6, 2) := dk_16 6 (dk_at dksX3_record_0 4 rfl rfl)
theorem dX3_record_6 : decode cX3_record 6 = .ok (.if_icmp .ne 44, 3) := dk_160 0 44 (dk_at dksX3_record_0 6 rfl rfl)
theorem dX3_record_9 : decode cX3_record 9 = .ok (.iconst 0, 1) := dk_3 (dk_at dksX3_record_0 9 rfl rfl)
theorem dX3_record_10 : decode cX3_record 10 = .ok (.istore_n 1, 1) := dk_60 (dk_at dksX3_record_0 10 rfl rfl)
theorem dX3_record_11 : decode cX3_record 11 = .ok (.iload_n 1, 1) := dk_27 (dk_at dksX3_record_0 11 rfl rfl)
theorem dX3_record_12 : decode cX3_record 12 = .ok (.sipush 845, 3) := dk_17 3 77 (dk_at dksX3_record_0 12 rfl rfl)
theorem dX3_record_15 : decode cX3_record 15 = .ok (.if_icmp .ge 25, 3) := dk_162 0 25 (dk_at dksX3_record_0 15 rfl rfl)
theorem dX3_record_18 : decode cX3_record 18 = .ok (.aload_n 0, 1) := dk_42 (dk_at dksX3_record_0 18 rfl rfl)
theorem dX3_record_19 : decode cX3_record 19 = .ok (.getfield 13, 3) := dk_180 0 13 (dk_at dksX3_record_0 19 rfl rfl)
theorem dX3_record_22 : decode cX3_record 22 = .ok (.iload_n 1, 1) := dk_27 (dk_at dksX3_record_0 22 rfl rfl)
theorem dX3_record_23 : decode cX3_record 23 = .ok (.aload_n 0, 1) := dk_42 (dk_at dksX3_record_0 23 rfl rfl)
theorem dX3_record_24 : decode cX3_record 24 = .ok (.getfield 13, 3) := dk_180 0 13 (dk_at dksX3_record_1 0 rfl rfl)
theorem dX3_record_27 : decode cX3_record 27 = .ok (.iload_n 1, 1) := dk_27 (dk_at dksX3_record_1 3 rfl rfl)
theorem dX3_record_28 : decode cX3_record 28 = .ok (.sipush 169, 3) := dk_17 0 169 (dk_at dksX3_record_1 4 rfl rfl)
theorem dX3_record_31 : decode cX3_record 31 = .ok (.iadd, 1) := dk_96 (dk_at dksX3_record_1 7 rfl rfl)
theorem dX3_record_32 : decode cX3_record 32 = .ok (.iaload, 1) := dk_46 (dk_at dksX3_record_1 8 rfl rfl)
theorem dX3_record_33 : decode cX3_record 33 = .ok (.iastore, 1) := dk_79 (dk_at dksX3_record_1 9 rfl rfl)
theorem dX3_record_34 : decode cX3_record 34 = .ok (.iinc 1 1, 3) := dk_132 1 1 (dk_at dksX3_record_1 10 rfl rfl)
theorem dX3_record_37 : decode cX3_record 37 = .ok (.goto (-26), 3) := dk_167 255 230 (dk_at dksX3_record_1 13 rfl rfl)
theorem dX3_record_40 : decode cX3_record 40 = .ok (.aload_n 0, 1) := dk_42 (dk_at dksX3_record_1 16 rfl rfl)
theorem dX3_record_41 : decode cX3_record 41 = .ok (.dup, 1) := dk_89 (dk_at dksX3_record_1 17 rfl rfl)
theorem dX3_record_42 : decode cX3_record 42 = .ok (.getfield 37, 3) := dk_180 0 37 (dk_at dksX3_record_1 18 rfl rfl)
theorem dX3_record_45 : decode cX3_record 45 = .ok (.iconst 1, 1) := dk_4 (dk_at dksX3_record_1 21 rfl rfl)
theorem dX3_record_46 : decode cX3_record 46 = .ok (.isub, 1) := dk_100 (dk_at dksX3_record_1 22 rfl rfl)
theorem dX3_record_47 : decode cX3_record 47 = .ok (.putfield 37, 3) := dk_181 0 37 (dk_at dksX3_record_2 0 rfl rfl)
theorem dX3_record_50 : decode cX3_record 50 = .ok (.iconst 0, 1) := dk_3 (dk_at dksX3_record_2 3 rfl rfl)
theorem dX3_record_51 : decode cX3_record 51 = .ok (.istore_n 1, 1) := dk_60 (dk_at dksX3_record_2 4 rfl rfl)
theorem dX3_record_52 : decode cX3_record 52 = .ok (.iload_n 1, 1) := dk_27 (dk_at dksX3_record_2 5 rfl rfl)
theorem dX3_record_53 : decode cX3_record 53 = .ok (.sipush 169, 3) := dk_17 0 169 (dk_at dksX3_record_2 6 rfl rfl)
theorem dX3_record_56 : decode cX3_record 56 = .ok (.if_icmp .ge 30, 3) := dk_162 0 30 (dk_at dksX3_record_2 9 rfl rfl)
theorem dX3_record_59 : decode cX3_record 59 = .ok (.aload_n 0, 1) := dk_42 (dk_at dksX3_record_2 12 rfl rfl)
theorem dX3_record_60 : decode cX3_record 60 = .ok (.getfield 13, 3) := dk_180 0 13 (dk_at dksX3_record_2 13 rfl rfl)
theorem dX3_record_63 : decode cX3_record 63 = .ok (.sipush 169, 3) := dk_17 0 169 (dk_at dksX3_record_2 16 rfl rfl)
theorem dX3_record_66 : decode cX3_record 66 = .ok (.aload_n 0, 1) := dk_42 (dk_at dksX3_record_2 19 rfl rfl)
theorem dX3_record_67 : decode cX3_record 67 = .ok (.getfield 37, 3) := dk_180 0 37 (dk_at dksX3_record_2 20 rfl rfl)
theorem dX3_record_70 : decode cX3_record 70 = .ok (.imul, 1) := dk_104 (dk_at dksX3_record_2 23 rfl rfl)
theorem dX3_record_71 : decode cX3_record 71 = .ok (.iload_n 1, 1) := dk_27 (dk_at dksX3_record_3 0 rfl rfl)
theorem dX3_record_72 : decode cX3_record 72 = .ok (.iadd, 1) := dk_96 (dk_at dksX3_record_3 1 rfl rfl)
theorem dX3_record_73 : decode cX3_record 73 = .ok (.aload_n 0, 1) := dk_42 (dk_at dksX3_record_3 2 rfl rfl)
theorem dX3_record_74 : decode cX3_record 74 = .ok (.getfield 7, 3) := dk_180 0 7 (dk_at dksX3_record_3 3 rfl rfl)
theorem dX3_record_77 : decode cX3_record 77 = .ok (.iload_n 1, 1) := dk_27 (dk_at dksX3_record_3 6 rfl rfl)
theorem dX3_record_78 : decode cX3_record 78 = .ok (.iaload, 1) := dk_46 (dk_at dksX3_record_3 7 rfl rfl)
theorem dX3_record_79 : decode cX3_record 79 = .ok (.iastore, 1) := dk_79 (dk_at dksX3_record_3 8 rfl rfl)
theorem dX3_record_80 : decode cX3_record 80 = .ok (.iinc 1 1, 3) := dk_132 1 1 (dk_at dksX3_record_3 9 rfl rfl)
theorem dX3_record_83 : decode cX3_record 83 = .ok (.goto (-31), 3) := dk_167 255 225 (dk_at dksX3_record_3 12 rfl rfl)
theorem dX3_record_86 : decode cX3_record 86 = .ok (.aload_n 0, 1) := dk_42 (dk_at dksX3_record_3 15 rfl rfl)
theorem dX3_record_87 : decode cX3_record 87 = .ok (.dup, 1) := dk_89 (dk_at dksX3_record_3 16 rfl rfl)
theorem dX3_record_88 : decode cX3_record 88 = .ok (.getfield 37, 3) := dk_180 0 37 (dk_at dksX3_record_3 17 rfl rfl)
theorem dX3_record_91 : decode cX3_record 91 = .ok (.iconst 1, 1) := dk_4 (dk_at dksX3_record_3 20 rfl rfl)
theorem dX3_record_92 : decode cX3_record 92 = .ok (.iadd, 1) := dk_96 (dk_at dksX3_record_3 21 rfl rfl)
theorem dX3_record_93 : decode cX3_record 93 = .ok (.putfield 37, 3) := dk_181 0 37 (dk_at dksX3_record_4 0 rfl rfl)
theorem dX3_record_96 : decode cX3_record 96 = .ok (.return_, 1) := dk_177 (dk_at dksX3_record_4 3 rfl rfl)
abbrev cX3_adds : ByteArray := prog_9_method_21_code
def yX3_adds : MethodName := ⟨RX3, "adds", "(IIIII)I"⟩
def dkwX3_adds_3 : List UInt8 := [21, 6, 7, 184, 0, 33, 21, 5, 79, 21, 6, 172]
abbrev dktX3_adds_3 : List UInt8 := dkwX3_adds_3 ++ []
def dkwX3_adds_2 : List UInt8 := [5, 184, 0, 33, 29, 79, 42, 180, 0, 7, 21, 6, 6, 184, 0, 33, 21, 4, 79, 42, 180, 0, 7]
abbrev dktX3_adds_2 : List UInt8 := dkwX3_adds_2 ++ dktX3_adds_3
def dkwX3_adds_1 : List UInt8 := [3, 184, 0, 33, 27, 79, 42, 180, 0, 7, 21, 6, 4, 184, 0, 33, 28, 79, 42, 180, 0, 7, 21, 6]
abbrev dktX3_adds_1 : List UInt8 := dkwX3_adds_1 ++ dktX3_adds_2
def dkwX3_adds_0 : List UInt8 := [42, 180, 0, 7, 3, 46, 54, 6, 42, 180, 0, 7, 3, 92, 46, 4, 96, 79, 42, 180, 0, 7, 21, 6]
abbrev dktX3_adds_0 : List UInt8 := dkwX3_adds_0 ++ dktX3_adds_1
theorem dksX3_adds_0 : cX3_adds.data.toList.drop 0 = dktX3_adds_0 := by decide +kernel
theorem dksX3_adds_1 : cX3_adds.data.toList.drop 24 = dktX3_adds_1 := dk_seg dksX3_adds_0 24 rfl rfl
theorem dksX3_adds_2 : cX3_adds.data.toList.drop 48 = dktX3_adds_2 := dk_seg dksX3_adds_1 24 rfl rfl
theorem dksX3_adds_3 : cX3_adds.data.toList.drop 71 = dktX3_adds_3 := dk_seg dksX3_adds_2 23 rfl rfl
theorem dX3_adds_0 : decode cX3_adds 0 = .ok (.aload_n 0, 1) := dk_42 (dk_at dksX3_adds_0 0 rfl rfl)
theorem dX3_adds_1 : decode cX3_adds 1 = .ok (.getfield 7, 3) := dk_180 0 7 (dk_at dksX3_adds_0 1 rfl rfl)
theorem dX3_adds_4 : decode cX3_adds 4 = .ok (.iconst 0, 1) := dk_3 (dk_at dksX3_adds_0 4 rfl rfl)
theorem dX3_adds_5 : decode cX3_adds 5 = .ok (.iaload, 1) := dk_46 (dk_at dksX3_adds_0 5 rfl rfl)
theorem dX3_adds_6 : decode cX3_adds 6 = .ok (.istore 6, 2) := dk_54 6 (dk_at dksX3_adds_0 6 rfl rfl)
theorem dX3_adds_8 : decode cX3_adds 8 = .ok (.aload_n 0, 1) := dk_42 (dk_at dksX3_adds_0 8 rfl rfl)
theorem dX3_adds_9 : decode cX3_adds 9 = .ok (.getfield 7, 3) := dk_180 0 7 (dk_at dksX3_adds_0 9 rfl rfl)
theorem dX3_adds_12 : decode cX3_adds 12 = .ok (.iconst 0, 1) := dk_3 (dk_at dksX3_adds_0 12 rfl rfl)
theorem dX3_adds_13 : decode cX3_adds 13 = .ok (.dup2, 1) := dk_92 (dk_at dksX3_adds_0 13 rfl rfl)
theorem dX3_adds_14 : decode cX3_adds 14 = .ok (.iaload, 1) := dk_46 (dk_at dksX3_adds_0 14 rfl rfl)
theorem dX3_adds_15 : decode cX3_adds 15 = .ok (.iconst 1, 1) := dk_4 (dk_at dksX3_adds_0 15 rfl rfl)
theorem dX3_adds_16 : decode cX3_adds 16 = .ok (.iadd, 1) := dk_96 (dk_at dksX3_adds_0 16 rfl rfl)
theorem dX3_adds_17 : decode cX3_adds 17 = .ok (.iastore, 1) := dk_79 (dk_at dksX3_adds_0 17 rfl rfl)
theorem dX3_adds_18 : decode cX3_adds 18 = .ok (.aload_n 0, 1) := dk_42 (dk_at dksX3_adds_0 18 rfl rfl)
theorem dX3_adds_19 : decode cX3_adds 19 = .ok (.getfield 7, 3) := dk_180 0 7 (dk_at dksX3_adds_0 19 rfl rfl)
theorem dX3_adds_22 : decode cX3_adds 22 = .ok (.iload 6, 2) := dk_21 6 (dk_at dksX3_adds_0 22 rfl rfl)
theorem dX3_adds_24 : decode cX3_adds 24 = .ok (.iconst 0, 1) := dk_3 (dk_at dksX3_adds_1 0 rfl rfl)
theorem dX3_adds_25 : decode cX3_adds 25 = .ok (.invokestatic 33, 3) := dk_184 0 33 (dk_at dksX3_adds_1 1 rfl rfl)
theorem dX3_adds_28 : decode cX3_adds 28 = .ok (.iload_n 1, 1) := dk_27 (dk_at dksX3_adds_1 4 rfl rfl)
theorem dX3_adds_29 : decode cX3_adds 29 = .ok (.iastore, 1) := dk_79 (dk_at dksX3_adds_1 5 rfl rfl)
theorem dX3_adds_30 : decode cX3_adds 30 = .ok (.aload_n 0, 1) := dk_42 (dk_at dksX3_adds_1 6 rfl rfl)
theorem dX3_adds_31 : decode cX3_adds 31 = .ok (.getfield 7, 3) := dk_180 0 7 (dk_at dksX3_adds_1 7 rfl rfl)
theorem dX3_adds_34 : decode cX3_adds 34 = .ok (.iload 6, 2) := dk_21 6 (dk_at dksX3_adds_1 10 rfl rfl)
theorem dX3_adds_36 : decode cX3_adds 36 = .ok (.iconst 1, 1) := dk_4 (dk_at dksX3_adds_1 12 rfl rfl)
theorem dX3_adds_37 : decode cX3_adds 37 = .ok (.invokestatic 33, 3) := dk_184 0 33 (dk_at dksX3_adds_1 13 rfl rfl)
theorem dX3_adds_40 : decode cX3_adds 40 = .ok (.iload_n 2, 1) := dk_28 (dk_at dksX3_adds_1 16 rfl rfl)
theorem dX3_adds_41 : decode cX3_adds 41 = .ok (.iastore, 1) := dk_79 (dk_at dksX3_adds_1 17 rfl rfl)
theorem dX3_adds_42 : decode cX3_adds 42 = .ok (.aload_n 0, 1) := dk_42 (dk_at dksX3_adds_1 18 rfl rfl)
theorem dX3_adds_43 : decode cX3_adds 43 = .ok (.getfield 7, 3) := dk_180 0 7 (dk_at dksX3_adds_1 19 rfl rfl)
theorem dX3_adds_46 : decode cX3_adds 46 = .ok (.iload 6, 2) := dk_21 6 (dk_at dksX3_adds_1 22 rfl rfl)
theorem dX3_adds_48 : decode cX3_adds 48 = .ok (.iconst 2, 1) := dk_5 (dk_at dksX3_adds_2 0 rfl rfl)
theorem dX3_adds_49 : decode cX3_adds 49 = .ok (.invokestatic 33, 3) := dk_184 0 33 (dk_at dksX3_adds_2 1 rfl rfl)
theorem dX3_adds_52 : decode cX3_adds 52 = .ok (.iload_n 3, 1) := dk_29 (dk_at dksX3_adds_2 4 rfl rfl)
theorem dX3_adds_53 : decode cX3_adds 53 = .ok (.iastore, 1) := dk_79 (dk_at dksX3_adds_2 5 rfl rfl)
theorem dX3_adds_54 : decode cX3_adds 54 = .ok (.aload_n 0, 1) := dk_42 (dk_at dksX3_adds_2 6 rfl rfl)
theorem dX3_adds_55 : decode cX3_adds 55 = .ok (.getfield 7, 3) := dk_180 0 7 (dk_at dksX3_adds_2 7 rfl rfl)
theorem dX3_adds_58 : decode cX3_adds 58 = .ok (.iload 6, 2) := dk_21 6 (dk_at dksX3_adds_2 10 rfl rfl)
theorem dX3_adds_60 : decode cX3_adds 60 = .ok (.iconst 3, 1) := dk_6 (dk_at dksX3_adds_2 12 rfl rfl)
theorem dX3_adds_61 : decode cX3_adds 61 = .ok (.invokestatic 33, 3) := dk_184 0 33 (dk_at dksX3_adds_2 13 rfl rfl)
theorem dX3_adds_64 : decode cX3_adds 64 = .ok (.iload 4, 2) := dk_21 4 (dk_at dksX3_adds_2 16 rfl rfl)
theorem dX3_adds_66 : decode cX3_adds 66 = .ok (.iastore, 1) := dk_79 (dk_at dksX3_adds_2 18 rfl rfl)
theorem dX3_adds_67 : decode cX3_adds 67 = .ok (.aload_n 0, 1) := dk_42 (dk_at dksX3_adds_2 19 rfl rfl)
theorem dX3_adds_68 : decode cX3_adds 68 = .ok (.getfield 7, 3) := dk_180 0 7 (dk_at dksX3_adds_2 20 rfl rfl)
theorem dX3_adds_71 : decode cX3_adds 71 = .ok (.iload 6, 2) := dk_21 6 (dk_at dksX3_adds_3 0 rfl rfl)
theorem dX3_adds_73 : decode cX3_adds 73 = .ok (.iconst 4, 1) := dk_7 (dk_at dksX3_adds_3 2 rfl rfl)
theorem dX3_adds_74 : decode cX3_adds 74 = .ok (.invokestatic 33, 3) := dk_184 0 33 (dk_at dksX3_adds_3 3 rfl rfl)
theorem dX3_adds_77 : decode cX3_adds 77 = .ok (.iload 5, 2) := dk_21 5 (dk_at dksX3_adds_3 6 rfl rfl)
theorem dX3_adds_79 : decode cX3_adds 79 = .ok (.iastore, 1) := dk_79 (dk_at dksX3_adds_3 8 rfl rfl)
theorem dX3_adds_80 : decode cX3_adds 80 = .ok (.iload 6, 2) := dk_21 6 (dk_at dksX3_adds_3 9 rfl rfl)
theorem dX3_adds_82 : decode cX3_adds 82 = .ok (.ireturn, 1) := dk_172 (dk_at dksX3_adds_3 11 rfl rfl)
abbrev cX3_at : ByteArray := prog_9_method_7_code
def yX3_at : MethodName := ⟨RX3, "at", "(II)I"⟩
def dkwX3_at_0 : List UInt8 := [16, 9, 8, 26, 104, 96, 27, 96, 172]
abbrev dktX3_at_0 : List UInt8 := dkwX3_at_0 ++ []
theorem dksX3_at_0 : cX3_at.data.toList.drop 0 = dktX3_at_0 := by decide +kernel
theorem dX3_at_0 : decode cX3_at 0 = .ok (.bipush 9, 2) := dk_16 9 (dk_at dksX3_at_0 0 rfl rfl)
theorem dX3_at_2 : decode cX3_at 2 = .ok (.iconst 5, 1) := dk_8 (dk_at dksX3_at_0 2 rfl rfl)
theorem dX3_at_3 : decode cX3_at 3 = .ok (.iload_n 0, 1) := dk_26 (dk_at dksX3_at_0 3 rfl rfl)
theorem dX3_at_4 : decode cX3_at 4 = .ok (.imul, 1) := dk_104 (dk_at dksX3_at_0 4 rfl rfl)
theorem dX3_at_5 : decode cX3_at 5 = .ok (.iadd, 1) := dk_96 (dk_at dksX3_at_0 5 rfl rfl)
theorem dX3_at_6 : decode cX3_at 6 = .ok (.iload_n 1, 1) := dk_27 (dk_at dksX3_at_0 6 rfl rfl)
theorem dX3_at_7 : decode cX3_at 7 = .ok (.iadd, 1) := dk_96 (dk_at dksX3_at_0 7 rfl rfl)
theorem dX3_at_8 : decode cX3_at 8 = .ok (.ireturn, 1) := dk_172 (dk_at dksX3_at_0 8 rfl rfl)
abbrev cX3_strike : ByteArray := prog_9_method_24_code
def yX3_strike : MethodName := ⟨RX3, "strike", "(I)I"⟩
def dkwX3_strike_1 : List UInt8 := [46, 172]
abbrev dktX3_strike_1 : List UInt8 := dkwX3_strike_1 ++ []
def dkwX3_strike_0 : List UInt8 := [42, 27, 182, 0, 71, 154, 0, 5, 2, 172, 42, 182, 0, 65, 42, 27, 182, 0, 75, 42, 180, 0, 7, 3]
abbrev dktX3_strike_0 : List UInt8 := dkwX3_strike_0 ++ dktX3_strike_1
theorem dksX3_strike_0 : cX3_strike.data.toList.drop 0 = dktX3_strike_0 := by decide +kernel
theorem dksX3_strike_1 : cX3_strike.data.toList.drop 24 = dktX3_strike_1 := dk_seg dksX3_strike_0 24 rfl rfl
theorem dX3_strike_0 : decode cX3_strike 0 = .ok (.aload_n 0, 1) := dk_42 (dk_at dksX3_strike_0 0 rfl rfl)
theorem dX3_strike_1 : decode cX3_strike 1 = .ok (.iload_n 1, 1) := dk_27 (dk_at dksX3_strike_0 1 rfl rfl)
theorem dX3_strike_2 : decode cX3_strike 2 = .ok (.invokevirtual 71, 3) := dk_182 0 71 (dk_at dksX3_strike_0 2 rfl rfl)
theorem dX3_strike_5 : decode cX3_strike 5 = .ok (.ifCond .ne 5, 3) := dk_154 0 5 (dk_at dksX3_strike_0 5 rfl rfl)
theorem dX3_strike_8 : decode cX3_strike 8 = .ok (.iconst (-1), 1) := dk_2 (dk_at dksX3_strike_0 8 rfl rfl)
theorem dX3_strike_9 : decode cX3_strike 9 = .ok (.ireturn, 1) := dk_172 (dk_at dksX3_strike_0 9 rfl rfl)
theorem dX3_strike_10 : decode cX3_strike 10 = .ok (.aload_n 0, 1) := dk_42 (dk_at dksX3_strike_0 10 rfl rfl)
theorem dX3_strike_11 : decode cX3_strike 11 = .ok (.invokevirtual 65, 3) := dk_182 0 65 (dk_at dksX3_strike_0 11 rfl rfl)
theorem dX3_strike_14 : decode cX3_strike 14 = .ok (.aload_n 0, 1) := dk_42 (dk_at dksX3_strike_0 14 rfl rfl)
theorem dX3_strike_15 : decode cX3_strike 15 = .ok (.iload_n 1, 1) := dk_27 (dk_at dksX3_strike_0 15 rfl rfl)
theorem dX3_strike_16 : decode cX3_strike 16 = .ok (.invokevirtual 75, 3) := dk_182 0 75 (dk_at dksX3_strike_0 16 rfl rfl)
theorem dX3_strike_19 : decode cX3_strike 19 = .ok (.aload_n 0, 1) := dk_42 (dk_at dksX3_strike_0 19 rfl rfl)
theorem dX3_strike_20 : decode cX3_strike 20 = .ok (.getfield 7, 3) := dk_180 0 7 (dk_at dksX3_strike_0 20 rfl rfl)
theorem dX3_strike_23 : decode cX3_strike 23 = .ok (.iconst 0, 1) := dk_3 (dk_at dksX3_strike_0 23 rfl rfl)
theorem dX3_strike_24 : decode cX3_strike 24 = .ok (.iaload, 1) := dk_46 (dk_at dksX3_strike_1 0 rfl rfl)
theorem dX3_strike_25 : decode cX3_strike 25 = .ok (.ireturn, 1) := dk_172 (dk_at dksX3_strike_1 1 rfl rfl)
abbrev cX3_isRule : ByteArray := prog_9_method_4_code
def yX3_isRule : MethodName := ⟨RX3, "isRule", "(I)Z"⟩
def dkwX3_isRule_0 : List UInt8 := [27, 3, 42, 180, 0, 7, 3, 46, 4, 100, 184, 0, 29, 172]
abbrev dktX3_isRule_0 : List UInt8 := dkwX3_isRule_0 ++ []
theorem dksX3_isRule_0 : cX3_isRule.data.toList.drop 0 = dktX3_isRule_0 := by decide +kernel
theorem dX3_isRule_0 : decode cX3_isRule 0 = .ok (.iload_n 1, 1) := dk_27 (dk_at dksX3_isRule_0 0 rfl rfl)
theorem dX3_isRule_1 : decode cX3_isRule 1 = .ok (.iconst 0, 1) := dk_3 (dk_at dksX3_isRule_0 1 rfl rfl)
theorem dX3_isRule_2 : decode cX3_isRule 2 = .ok (.aload_n 0, 1) := dk_42 (dk_at dksX3_isRule_0 2 rfl rfl)
theorem dX3_isRule_3 : decode cX3_isRule 3 = .ok (.getfield 7, 3) := dk_180 0 7 (dk_at dksX3_isRule_0 3 rfl rfl)
theorem dX3_isRule_6 : decode cX3_isRule 6 = .ok (.iconst 0, 1) := dk_3 (dk_at dksX3_isRule_0 6 rfl rfl)
theorem dX3_isRule_7 : decode cX3_isRule 7 = .ok (.iaload, 1) := dk_46 (dk_at dksX3_isRule_0 7 rfl rfl)
theorem dX3_isRule_8 : decode cX3_isRule 8 = .ok (.iconst 1, 1) := dk_4 (dk_at dksX3_isRule_0 8 rfl rfl)
theorem dX3_isRule_9 : decode cX3_isRule 9 = .ok (.isub, 1) := dk_100 (dk_at dksX3_isRule_0 9 rfl rfl)
theorem dX3_isRule_10 : decode cX3_isRule 10 = .ok (.invokestatic 29, 3) := dk_184 0 29 (dk_at dksX3_isRule_0 10 rfl rfl)
theorem dX3_isRule_13 : decode cX3_isRule 13 = .ok (.ireturn, 1) := dk_172 (dk_at dksX3_isRule_0 13 rfl rfl)
abbrev cX3_strikes : ByteArray := prog_9_method_22_code
def yX3_strikes : MethodName := ⟨RX3, "strikes", "(I)V"⟩
def dkwX3_strikes_3 : List UInt8 := [3, 79, 132, 2, 1, 167, 255, 232, 177]
abbrev dktX3_strikes_3 : List UInt8 := dkwX3_strikes_3 ++ []
def dkwX3_strikes_2 : List UInt8 := [167, 255, 225, 3, 61, 28, 8, 162, 0, 25, 42, 180, 0, 7, 42, 180, 0, 7, 3, 46, 28, 184, 0, 33]
abbrev dktX3_strikes_2 : List UInt8 := dkwX3_strikes_2 ++ dktX3_strikes_3
def dkwX3_strikes_1 : List UInt8 := [184, 0, 33, 162, 0, 23, 42, 180, 0, 7, 28, 42, 180, 0, 7, 28, 8, 96, 46, 79, 132, 2, 1]
abbrev dktX3_strikes_1 : List UInt8 := dkwX3_strikes_1 ++ dktX3_strikes_2
def dkwX3_strikes_0 : List UInt8 := [42, 180, 0, 7, 3, 92, 46, 4, 100, 79, 27, 3, 184, 0, 33, 61, 28, 42, 180, 0, 7, 3, 46, 3]
abbrev dktX3_strikes_0 : List UInt8 := dkwX3_strikes_0 ++ dktX3_strikes_1
theorem dksX3_strikes_0 : cX3_strikes.data.toList.drop 0 = dktX3_strikes_0 := by decide +kernel
theorem dksX3_strikes_1 : cX3_strikes.data.toList.drop 24 = dktX3_strikes_1 := dk_seg dksX3_strikes_0 24 rfl rfl
theorem dksX3_strikes_2 : cX3_strikes.data.toList.drop 47 = dktX3_strikes_2 := dk_seg dksX3_strikes_1 23 rfl rfl
theorem dksX3_strikes_3 : cX3_strikes.data.toList.drop 71 = dktX3_strikes_3 := dk_seg dksX3_strikes_2 24 rfl rfl
theorem dX3_strikes_0 : decode cX3_strikes 0 = .ok (.aload_n 0, 1) := dk_42 (dk_at dksX3_strikes_0 0 rfl rfl)
theorem dX3_strikes_1 : decode cX3_strikes 1 = .ok (.getfield 7, 3) := dk_180 0 7 (dk_at dksX3_strikes_0 1 rfl rfl)
theorem dX3_strikes_4 : decode cX3_strikes 4 = .ok (.iconst 0, 1) := dk_3 (dk_at dksX3_strikes_0 4 rfl rfl)
theorem dX3_strikes_5 : decode cX3_strikes 5 = .ok (.dup2, 1) := dk_92 (dk_at dksX3_strikes_0 5 rfl rfl)
theorem dX3_strikes_6 : decode cX3_strikes 6 = .ok (.iaload, 1) := dk_46 (dk_at dksX3_strikes_0 6 rfl rfl)
theorem dX3_strikes_7 : decode cX3_strikes 7 = .ok (.iconst 1, 1) := dk_4 (dk_at dksX3_strikes_0 7 rfl rfl)
theorem dX3_strikes_8 : decode cX3_strikes 8 = .ok (.isub, 1) := dk_100 (dk_at dksX3_strikes_0 8 rfl rfl)
theorem dX3_strikes_9 : decode cX3_strikes 9 = .ok (.iastore, 1) := dk_79 (dk_at dksX3_strikes_0 9 rfl rfl)
theorem dX3_strikes_10 : decode cX3_strikes 10 = .ok (.iload_n 1, 1) := dk_27 (dk_at dksX3_strikes_0 10 rfl rfl)
theorem dX3_strikes_11 : decode cX3_strikes 11 = .ok (.iconst 0, 1) := dk_3 (dk_at dksX3_strikes_0 11 rfl rfl)
theorem dX3_strikes_12 : decode cX3_strikes 12 = .ok (.invokestatic 33, 3) := dk_184 0 33 (dk_at dksX3_strikes_0 12 rfl rfl)
theorem dX3_strikes_15 : decode cX3_strikes 15 = .ok (.istore_n 2, 1) := dk_61 (dk_at dksX3_strikes_0 15 rfl rfl)
theorem dX3_strikes_16 : decode cX3_strikes 16 = .ok (.iload_n 2, 1) := dk_28 (dk_at dksX3_strikes_0 16 rfl rfl)
theorem dX3_strikes_17 : decode cX3_strikes 17 = .ok (.aload_n 0, 1) := dk_42 (dk_at dksX3_strikes_0 17 rfl rfl)
theorem dX3_strikes_18 : decode cX3_strikes 18 = .ok (.getfield 7, 3) := dk_180 0 7 (dk_at dksX3_strikes_0 18 rfl rfl)
theorem dX3_strikes_21 : decode cX3_strikes 21 = .ok (.iconst 0, 1) := dk_3 (dk_at dksX3_strikes_0 21 rfl rfl)
theorem dX3_strikes_22 : decode cX3_strikes 22 = .ok (.iaload, 1) := dk_46 (dk_at dksX3_strikes_0 22 rfl rfl)
theorem dX3_strikes_23 : decode cX3_strikes 23 = .ok (.iconst 0, 1) := dk_3 (dk_at dksX3_strikes_0 23 rfl rfl)
theorem dX3_strikes_24 : decode cX3_strikes 24 = .ok (.invokestatic 33, 3) := dk_184 0 33 (dk_at dksX3_strikes_1 0 rfl rfl)
theorem dX3_strikes_27 : decode cX3_strikes 27 = .ok (.if_icmp .ge 23, 3) := dk_162 0 23 (dk_at dksX3_strikes_1 3 rfl rfl)
theorem dX3_strikes_30 : decode cX3_strikes 30 = .ok (.aload_n 0, 1) := dk_42 (dk_at dksX3_strikes_1 6 rfl rfl)
theorem dX3_strikes_31 : decode cX3_strikes 31 = .ok (.getfield 7, 3) := dk_180 0 7 (dk_at dksX3_strikes_1 7 rfl rfl)
theorem dX3_strikes_34 : decode cX3_strikes 34 = .ok (.iload_n 2, 1) := dk_28 (dk_at dksX3_strikes_1 10 rfl rfl)
theorem dX3_strikes_35 : decode cX3_strikes 35 = .ok (.aload_n 0, 1) := dk_42 (dk_at dksX3_strikes_1 11 rfl rfl)
theorem dX3_strikes_36 : decode cX3_strikes 36 = .ok (.getfield 7, 3) := dk_180 0 7 (dk_at dksX3_strikes_1 12 rfl rfl)
theorem dX3_strikes_39 : decode cX3_strikes 39 = .ok (.iload_n 2, 1) := dk_28 (dk_at dksX3_strikes_1 15 rfl rfl)
theorem dX3_strikes_40 : decode cX3_strikes 40 = .ok (.iconst 5, 1) := dk_8 (dk_at dksX3_strikes_1 16 rfl rfl)
theorem dX3_strikes_41 : decode cX3_strikes 41 = .ok (.iadd, 1) := dk_96 (dk_at dksX3_strikes_1 17 rfl rfl)
theorem dX3_strikes_42 : decode cX3_strikes 42 = .ok (.iaload, 1) := dk_46 (dk_at dksX3_strikes_1 18 rfl rfl)
theorem dX3_strikes_43 : decode cX3_strikes 43 = .ok (.iastore, 1) := dk_79 (dk_at dksX3_strikes_1 19 rfl rfl)
theorem dX3_strikes_44 : decode cX3_strikes 44 = .ok (.iinc 2 1, 3) := dk_132 2 1 (dk_at dksX3_strikes_1 20 rfl rfl)
theorem dX3_strikes_47 : decode cX3_strikes 47 = .ok (.goto (-31), 3) := dk_167 255 225 (dk_at dksX3_strikes_2 0 rfl rfl)
theorem dX3_strikes_50 : decode cX3_strikes 50 = .ok (.iconst 0, 1) := dk_3 (dk_at dksX3_strikes_2 3 rfl rfl)
theorem dX3_strikes_51 : decode cX3_strikes 51 = .ok (.istore_n 2, 1) := dk_61 (dk_at dksX3_strikes_2 4 rfl rfl)
theorem dX3_strikes_52 : decode cX3_strikes 52 = .ok (.iload_n 2, 1) := dk_28 (dk_at dksX3_strikes_2 5 rfl rfl)
theorem dX3_strikes_53 : decode cX3_strikes 53 = .ok (.iconst 5, 1) := dk_8 (dk_at dksX3_strikes_2 6 rfl rfl)
theorem dX3_strikes_54 : decode cX3_strikes 54 = .ok (.if_icmp .ge 25, 3) := dk_162 0 25 (dk_at dksX3_strikes_2 7 rfl rfl)
theorem dX3_strikes_57 : decode cX3_strikes 57 = .ok (.aload_n 0, 1) := dk_42 (dk_at dksX3_strikes_2 10 rfl rfl)
theorem dX3_strikes_58 : decode cX3_strikes 58 = .ok (.getfield 7, 3) := dk_180 0 7 (dk_at dksX3_strikes_2 11 rfl rfl)
theorem dX3_strikes_61 : decode cX3_strikes 61 = .ok (.aload_n 0, 1) := dk_42 (dk_at dksX3_strikes_2 14 rfl rfl)
theorem dX3_strikes_62 : decode cX3_strikes 62 = .ok (.getfield 7, 3) := dk_180 0 7 (dk_at dksX3_strikes_2 15 rfl rfl)
theorem dX3_strikes_65 : decode cX3_strikes 65 = .ok (.iconst 0, 1) := dk_3 (dk_at dksX3_strikes_2 18 rfl rfl)
theorem dX3_strikes_66 : decode cX3_strikes 66 = .ok (.iaload, 1) := dk_46 (dk_at dksX3_strikes_2 19 rfl rfl)
theorem dX3_strikes_67 : decode cX3_strikes 67 = .ok (.iload_n 2, 1) := dk_28 (dk_at dksX3_strikes_2 20 rfl rfl)
theorem dX3_strikes_68 : decode cX3_strikes 68 = .ok (.invokestatic 33, 3) := dk_184 0 33 (dk_at dksX3_strikes_2 21 rfl rfl)
theorem dX3_strikes_71 : decode cX3_strikes 71 = .ok (.iconst 0, 1) := dk_3 (dk_at dksX3_strikes_3 0 rfl rfl)
theorem dX3_strikes_72 : decode cX3_strikes 72 = .ok (.iastore, 1) := dk_79 (dk_at dksX3_strikes_3 1 rfl rfl)
theorem dX3_strikes_73 : decode cX3_strikes 73 = .ok (.iinc 2 1, 3) := dk_132 2 1 (dk_at dksX3_strikes_3 2 rfl rfl)
theorem dX3_strikes_76 : decode cX3_strikes 76 = .ok (.goto (-24), 3) := dk_167 255 232 (dk_at dksX3_strikes_3 5 rfl rfl)
theorem dX3_strikes_79 : decode cX3_strikes 79 = .ok (.return_, 1) := dk_177 (dk_at dksX3_strikes_3 8 rfl rfl)
abbrev cX3_seal : ByteArray := prog_9_method_26_code
def yX3_seal : MethodName := ⟨RX3, "seal", "(II)I"⟩
def dkwX3_seal_1 : List UInt8 := [184, 0, 33, 28, 182, 0, 79, 167, 0, 5, 16, 254, 172]
abbrev dktX3_seal_1 : List UInt8 := dkwX3_seal_1 ++ []
def dkwX3_seal_0 : List UInt8 := [42, 27, 182, 0, 71, 154, 0, 5, 2, 172, 28, 4, 16, 9, 184, 0, 29, 153, 0, 16, 42, 27, 7]
abbrev dktX3_seal_0 : List UInt8 := dkwX3_seal_0 ++ dktX3_seal_1
theorem dksX3_seal_0 : cX3_seal.data.toList.drop 0 = dktX3_seal_0 := by decide +kernel
theorem dksX3_seal_1 : cX3_seal.data.toList.drop 23 = dktX3_seal_1 := dk_seg dksX3_seal_0 23 rfl rfl
theorem dX3_seal_0 : decode cX3_seal 0 = .ok (.aload_n 0, 1) := dk_42 (dk_at dksX3_seal_0 0 rfl rfl)
theorem dX3_seal_1 : decode cX3_seal 1 = .ok (.iload_n 1, 1) := dk_27 (dk_at dksX3_seal_0 1 rfl rfl)
theorem dX3_seal_2 : decode cX3_seal 2 = .ok (.invokevirtual 71, 3) := dk_182 0 71 (dk_at dksX3_seal_0 2 rfl rfl)
theorem dX3_seal_5 : decode cX3_seal 5 = .ok (.ifCond .ne 5, 3) := dk_154 0 5 (dk_at dksX3_seal_0 5 rfl rfl)
theorem dX3_seal_8 : decode cX3_seal 8 = .ok (.iconst (-1), 1) := dk_2 (dk_at dksX3_seal_0 8 rfl rfl)
theorem dX3_seal_9 : decode cX3_seal 9 = .ok (.ireturn, 1) := dk_172 (dk_at dksX3_seal_0 9 rfl rfl)
theorem dX3_seal_10 : decode cX3_seal 10 = .ok (.iload_n 2, 1) := dk_28 (dk_at dksX3_seal_0 10 rfl rfl)
theorem dX3_seal_11 : decode cX3_seal 11 = .ok (.iconst 1, 1) := dk_4 (dk_at dksX3_seal_0 11 rfl rfl)
theorem dX3_seal_12 : decode cX3_seal 12 = .ok (.bipush 9, 2) := dk_16 9 (dk_at dksX3_seal_0 12 rfl rfl)
theorem dX3_seal_14 : decode cX3_seal 14 = .ok (.invokestatic 29, 3) := dk_184 0 29 (dk_at dksX3_seal_0 14 rfl rfl)
theorem dX3_seal_17 : decode cX3_seal 17 = .ok (.ifCond .eq 16, 3) := dk_153 0 16 (dk_at dksX3_seal_0 17 rfl rfl)
theorem dX3_seal_20 : decode cX3_seal 20 = .ok (.aload_n 0, 1) := dk_42 (dk_at dksX3_seal_0 20 rfl rfl)
theorem dX3_seal_21 : decode cX3_seal 21 = .ok (.iload_n 1, 1) := dk_27 (dk_at dksX3_seal_0 21 rfl rfl)
theorem dX3_seal_22 : decode cX3_seal 22 = .ok (.iconst 4, 1) := dk_7 (dk_at dksX3_seal_0 22 rfl rfl)
theorem dX3_seal_23 : decode cX3_seal 23 = .ok (.invokestatic 33, 3) := dk_184 0 33 (dk_at dksX3_seal_1 0 rfl rfl)
theorem dX3_seal_26 : decode cX3_seal 26 = .ok (.iload_n 2, 1) := dk_28 (dk_at dksX3_seal_1 3 rfl rfl)
theorem dX3_seal_27 : decode cX3_seal 27 = .ok (.invokevirtual 79, 3) := dk_182 0 79 (dk_at dksX3_seal_1 4 rfl rfl)
theorem dX3_seal_30 : decode cX3_seal 30 = .ok (.goto 5, 3) := dk_167 0 5 (dk_at dksX3_seal_1 7 rfl rfl)
theorem dX3_seal_33 : decode cX3_seal 33 = .ok (.bipush (-2), 2) := dk_16 254 (dk_at dksX3_seal_1 10 rfl rfl)
theorem dX3_seal_35 : decode cX3_seal 35 = .ok (.ireturn, 1) := dk_172 (dk_at dksX3_seal_1 12 rfl rfl)
abbrev cX3_lays : ByteArray := prog_9_method_25_code
def yX3_lays : MethodName := ⟨RX3, "lays", "(II)I"⟩
def dkwX3_lays_0 : List UInt8 := [42, 182, 0, 65, 42, 180, 0, 7, 27, 46, 62, 42, 180, 0, 7, 27, 28, 79, 29, 172]
abbrev dktX3_lays_0 : List UInt8 := dkwX3_lays_0 ++ []
theorem dksX3_lays_0 : cX3_lays.data.toList.drop 0 = dktX3_lays_0 := by decide +kernel
theorem dX3_lays_0 : decode cX3_lays 0 = .ok (.aload_n 0, 1) := dk_42 (dk_at dksX3_lays_0 0 rfl rfl)
theorem dX3_lays_1 : decode cX3_lays 1 = .ok (.invokevirtual 65, 3) := dk_182 0 65 (dk_at dksX3_lays_0 1 rfl rfl)
theorem dX3_lays_4 : decode cX3_lays 4 = .ok (.aload_n 0, 1) := dk_42 (dk_at dksX3_lays_0 4 rfl rfl)
theorem dX3_lays_5 : decode cX3_lays 5 = .ok (.getfield 7, 3) := dk_180 0 7 (dk_at dksX3_lays_0 5 rfl rfl)
theorem dX3_lays_8 : decode cX3_lays 8 = .ok (.iload_n 1, 1) := dk_27 (dk_at dksX3_lays_0 8 rfl rfl)
theorem dX3_lays_9 : decode cX3_lays 9 = .ok (.iaload, 1) := dk_46 (dk_at dksX3_lays_0 9 rfl rfl)
theorem dX3_lays_10 : decode cX3_lays 10 = .ok (.istore_n 3, 1) := dk_62 (dk_at dksX3_lays_0 10 rfl rfl)
theorem dX3_lays_11 : decode cX3_lays 11 = .ok (.aload_n 0, 1) := dk_42 (dk_at dksX3_lays_0 11 rfl rfl)
theorem dX3_lays_12 : decode cX3_lays 12 = .ok (.getfield 7, 3) := dk_180 0 7 (dk_at dksX3_lays_0 12 rfl rfl)
theorem dX3_lays_15 : decode cX3_lays 15 = .ok (.iload_n 1, 1) := dk_27 (dk_at dksX3_lays_0 15 rfl rfl)
theorem dX3_lays_16 : decode cX3_lays 16 = .ok (.iload_n 2, 1) := dk_28 (dk_at dksX3_lays_0 16 rfl rfl)
theorem dX3_lays_17 : decode cX3_lays 17 = .ok (.iastore, 1) := dk_79 (dk_at dksX3_lays_0 17 rfl rfl)
theorem dX3_lays_18 : decode cX3_lays 18 = .ok (.iload_n 3, 1) := dk_29 (dk_at dksX3_lays_0 18 rfl rfl)
theorem dX3_lays_19 : decode cX3_lays 19 = .ok (.ireturn, 1) := dk_172 (dk_at dksX3_lays_0 19 rfl rfl)
abbrev cX3_move : ByteArray := prog_9_method_27_code
def yX3_move : MethodName := ⟨RX3, "move", "(II)I"⟩
def dkwX3_move_2 : List UInt8 := [182, 0, 79, 172]
abbrev dktX3_move_2 : List UInt8 := dkwX3_move_2 ++ []
def dkwX3_move_1 : List UInt8 := [182, 0, 41, 154, 0, 12, 28, 158, 0, 8, 16, 251, 167, 0, 13, 42, 27, 3, 184, 0, 33, 28]
abbrev dktX3_move_1 : List UInt8 := dkwX3_move_1 ++ dktX3_move_2
def dkwX3_move_0 : List UInt8 := [42, 27, 182, 0, 71, 153, 0, 12, 28, 3, 7, 184, 0, 29, 154, 0, 5, 2, 172, 42, 27, 4]
abbrev dktX3_move_0 : List UInt8 := dkwX3_move_0 ++ dktX3_move_1
theorem dksX3_move_0 : cX3_move.data.toList.drop 0 = dktX3_move_0 := by decide +kernel
theorem dksX3_move_1 : cX3_move.data.toList.drop 22 = dktX3_move_1 := dk_seg dksX3_move_0 22 rfl rfl
theorem dksX3_move_2 : cX3_move.data.toList.drop 44 = dktX3_move_2 := dk_seg dksX3_move_1 22 rfl rfl
theorem dX3_move_0 : decode cX3_move 0 = .ok (.aload_n 0, 1) := dk_42 (dk_at dksX3_move_0 0 rfl rfl)
theorem dX3_move_1 : decode cX3_move 1 = .ok (.iload_n 1, 1) := dk_27 (dk_at dksX3_move_0 1 rfl rfl)
theorem dX3_move_2 : decode cX3_move 2 = .ok (.invokevirtual 71, 3) := dk_182 0 71 (dk_at dksX3_move_0 2 rfl rfl)
theorem dX3_move_5 : decode cX3_move 5 = .ok (.ifCond .eq 12, 3) := dk_153 0 12 (dk_at dksX3_move_0 5 rfl rfl)
theorem dX3_move_8 : decode cX3_move 8 = .ok (.iload_n 2, 1) := dk_28 (dk_at dksX3_move_0 8 rfl rfl)
theorem dX3_move_9 : decode cX3_move 9 = .ok (.iconst 0, 1) := dk_3 (dk_at dksX3_move_0 9 rfl rfl)
theorem dX3_move_10 : decode cX3_move 10 = .ok (.iconst 4, 1) := dk_7 (dk_at dksX3_move_0 10 rfl rfl)
theorem dX3_move_11 : decode cX3_move 11 = .ok (.invokestatic 29, 3) := dk_184 0 29 (dk_at dksX3_move_0 11 rfl rfl)
theorem dX3_move_14 : decode cX3_move 14 = .ok (.ifCond .ne 5, 3) := dk_154 0 5 (dk_at dksX3_move_0 14 rfl rfl)
theorem dX3_move_17 : decode cX3_move 17 = .ok (.iconst (-1), 1) := dk_2 (dk_at dksX3_move_0 17 rfl rfl)
theorem dX3_move_18 : decode cX3_move 18 = .ok (.ireturn, 1) := dk_172 (dk_at dksX3_move_0 18 rfl rfl)
theorem dX3_move_19 : decode cX3_move 19 = .ok (.aload_n 0, 1) := dk_42 (dk_at dksX3_move_0 19 rfl rfl)
theorem dX3_move_20 : decode cX3_move 20 = .ok (.iload_n 1, 1) := dk_27 (dk_at dksX3_move_0 20 rfl rfl)
theorem dX3_move_21 : decode cX3_move 21 = .ok (.iconst 1, 1) := dk_4 (dk_at dksX3_move_0 21 rfl rfl)
theorem dX3_move_22 : decode cX3_move 22 = .ok (.invokevirtual 41, 3) := dk_182 0 41 (dk_at dksX3_move_1 0 rfl rfl)
theorem dX3_move_25 : decode cX3_move 25 = .ok (.ifCond .ne 12, 3) := dk_154 0 12 (dk_at dksX3_move_1 3 rfl rfl)
theorem dX3_move_28 : decode cX3_move 28 = .ok (.iload_n 2, 1) := dk_28 (dk_at dksX3_move_1 6 rfl rfl)
theorem dX3_move_29 : decode cX3_move 29 = .ok (.ifCond .le 8, 3) := dk_158 0 8 (dk_at dksX3_move_1 7 rfl rfl)
theorem dX3_move_32 : decode cX3_move 32 = .ok (.bipush (-5), 2) := dk_16 251 (dk_at dksX3_move_1 10 rfl rfl)
theorem dX3_move_34 : decode cX3_move 34 = .ok (.goto 13, 3) := dk_167 0 13 (dk_at dksX3_move_1 12 rfl rfl)
theorem dX3_move_37 : decode cX3_move 37 = .ok (.aload_n 0, 1) := dk_42 (dk_at dksX3_move_1 15 rfl rfl)
theorem dX3_move_38 : decode cX3_move 38 = .ok (.iload_n 1, 1) := dk_27 (dk_at dksX3_move_1 16 rfl rfl)
theorem dX3_move_39 : decode cX3_move 39 = .ok (.iconst 0, 1) := dk_3 (dk_at dksX3_move_1 17 rfl rfl)
theorem dX3_move_40 : decode cX3_move 40 = .ok (.invokestatic 33, 3) := dk_184 0 33 (dk_at dksX3_move_1 18 rfl rfl)
theorem dX3_move_43 : decode cX3_move 43 = .ok (.iload_n 2, 1) := dk_28 (dk_at dksX3_move_1 21 rfl rfl)
theorem dX3_move_44 : decode cX3_move 44 = .ok (.invokevirtual 79, 3) := dk_182 0 79 (dk_at dksX3_move_2 0 rfl rfl)
theorem dX3_move_47 : decode cX3_move 47 = .ok (.ireturn, 1) := dk_172 (dk_at dksX3_move_2 3 rfl rfl)
abbrev cX3_of : ByteArray := prog_9_method_8_code
def yX3_of : MethodName := ⟨RX3, "of", "(II)I"⟩
def dkwX3_of_0 : List UInt8 := [42, 180, 0, 7, 27, 28, 184, 0, 33, 46, 172]
abbrev dktX3_of_0 : List UInt8 := dkwX3_of_0 ++ []
theorem dksX3_of_0 : cX3_of.data.toList.drop 0 = dktX3_of_0 := by decide +kernel
theorem dX3_of_0 : decode cX3_of 0 = .ok (.aload_n 0, 1) := dk_42 (dk_at dksX3_of_0 0 rfl rfl)
theorem dX3_of_1 : decode cX3_of 1 = .ok (.getfield 7, 3) := dk_180 0 7 (dk_at dksX3_of_0 1 rfl rfl)
theorem dX3_of_4 : decode cX3_of 4 = .ok (.iload_n 1, 1) := dk_27 (dk_at dksX3_of_0 4 rfl rfl)
theorem dX3_of_5 : decode cX3_of 5 = .ok (.iload_n 2, 1) := dk_28 (dk_at dksX3_of_0 5 rfl rfl)
theorem dX3_of_6 : decode cX3_of 6 = .ok (.invokestatic 33, 3) := dk_184 0 33 (dk_at dksX3_of_0 6 rfl rfl)
theorem dX3_of_9 : decode cX3_of 9 = .ok (.iaload, 1) := dk_46 (dk_at dksX3_of_0 9 rfl rfl)
theorem dX3_of_10 : decode cX3_of 10 = .ok (.ireturn, 1) := dk_172 (dk_at dksX3_of_0 10 rfl rfl)
abbrev cX3_tidy : ByteArray := prog_9_method_29_code
def yX3_tidy : MethodName := ⟨RX3, "tidy", "()I"⟩
def dkwX3_tidy_1 : List UInt8 := [132, 1, 1, 42, 182, 0, 85, 61, 167, 255, 237, 27, 172]
abbrev dktX3_tidy_1 : List UInt8 := dkwX3_tidy_1 ++ []
def dkwX3_tidy_0 : List UInt8 := [42, 182, 0, 65, 3, 60, 42, 182, 0, 85, 61, 28, 16, 250, 159, 0, 19, 42, 28, 182, 0, 75]
abbrev dktX3_tidy_0 : List UInt8 := dkwX3_tidy_0 ++ dktX3_tidy_1
theorem dksX3_tidy_0 : cX3_tidy.data.toList.drop 0 = dktX3_tidy_0 := by decide +kernel
theorem dksX3_tidy_1 : cX3_tidy.data.toList.drop 22 = dktX3_tidy_1 := dk_seg dksX3_tidy_0 22 rfl rfl
theorem dX3_tidy_0 : decode cX3_tidy 0 = .ok (.aload_n 0, 1) := dk_42 (dk_at dksX3_tidy_0 0 rfl rfl)
theorem dX3_tidy_1 : decode cX3_tidy 1 = .ok (.invokevirtual 65, 3) := dk_182 0 65 (dk_at dksX3_tidy_0 1 rfl rfl)
theorem dX3_tidy_4 : decode cX3_tidy 4 = .ok (.iconst 0, 1) := dk_3 (dk_at dksX3_tidy_0 4 rfl rfl)
theorem dX3_tidy_5 : decode cX3_tidy 5 = .ok (.istore_n 1, 1) := dk_60 (dk_at dksX3_tidy_0 5 rfl rfl)
theorem dX3_tidy_6 : decode cX3_tidy 6 = .ok (.aload_n 0, 1) := dk_42 (dk_at dksX3_tidy_0 6 rfl rfl)
theorem dX3_tidy_7 : decode cX3_tidy 7 = .ok (.invokevirtual 85, 3) := dk_182 0 85 (dk_at dksX3_tidy_0 7 rfl rfl)
theorem dX3_tidy_10 : decode cX3_tidy 10 = .ok (.istore_n 2, 1) := dk_61 (dk_at dksX3_tidy_0 10 rfl rfl)
theorem dX3_tidy_11 : decode cX3_tidy 11 = .ok (.iload_n 2, 1) := dk_28 (dk_at dksX3_tidy_0 11 rfl rfl)
theorem dX3_tidy_12 : decode cX3_tidy 12 = .ok (.bipush (-6), 2) := dk_16 250 (dk_at dksX3_tidy_0 12 rfl rfl)
theorem dX3_tidy_14 : decode cX3_tidy 14 = .ok (.if_icmp .eq 19, 3) := dk_159 0 19 (dk_at dksX3_tidy_0 14 rfl rfl)
theorem dX3_tidy_17 : decode cX3_tidy 17 = .ok (.aload_n 0, 1) := dk_42 (dk_at dksX3_tidy_0 17 rfl rfl)
theorem dX3_tidy_18 : decode cX3_tidy 18 = .ok (.iload_n 2, 1) := dk_28 (dk_at dksX3_tidy_0 18 rfl rfl)
theorem dX3_tidy_19 : decode cX3_tidy 19 = .ok (.invokevirtual 75, 3) := dk_182 0 75 (dk_at dksX3_tidy_0 19 rfl rfl)
theorem dX3_tidy_22 : decode cX3_tidy 22 = .ok (.iinc 1 1, 3) := dk_132 1 1 (dk_at dksX3_tidy_1 0 rfl rfl)
theorem dX3_tidy_25 : decode cX3_tidy 25 = .ok (.aload_n 0, 1) := dk_42 (dk_at dksX3_tidy_1 3 rfl rfl)
theorem dX3_tidy_26 : decode cX3_tidy 26 = .ok (.invokevirtual 85, 3) := dk_182 0 85 (dk_at dksX3_tidy_1 4 rfl rfl)
theorem dX3_tidy_29 : decode cX3_tidy 29 = .ok (.istore_n 2, 1) := dk_61 (dk_at dksX3_tidy_1 7 rfl rfl)
theorem dX3_tidy_30 : decode cX3_tidy 30 = .ok (.goto (-19), 3) := dk_167 255 237 (dk_at dksX3_tidy_1 8 rfl rfl)
theorem dX3_tidy_33 : decode cX3_tidy 33 = .ok (.iload_n 1, 1) := dk_27 (dk_at dksX3_tidy_1 11 rfl rfl)
theorem dX3_tidy_34 : decode cX3_tidy 34 = .ok (.ireturn, 1) := dk_172 (dk_at dksX3_tidy_1 12 rfl rfl)
abbrev cX3_firstIdle : ByteArray := prog_9_method_28_code
def yX3_firstIdle : MethodName := ⟨RX3, "firstIdle", "()I"⟩
def dkwX3_firstIdle_1 : List UInt8 := [132, 1, 1, 167, 255, 233, 16, 250, 172]
abbrev dktX3_firstIdle_1 : List UInt8 := dkwX3_firstIdle_1 ++ []
def dkwX3_firstIdle_0 : List UInt8 := [3, 60, 27, 42, 180, 0, 7, 3, 46, 162, 0, 19, 42, 27, 182, 0, 82, 153, 0, 5, 27, 172]
abbrev dktX3_firstIdle_0 : List UInt8 := dkwX3_firstIdle_0 ++ dktX3_firstIdle_1
theorem dksX3_firstIdle_0 : cX3_firstIdle.data.toList.drop 0 = dktX3_firstIdle_0 := by decide +kernel
theorem dksX3_firstIdle_1 : cX3_firstIdle.data.toList.drop 22 = dktX3_firstIdle_1 := dk_seg dksX3_firstIdle_0 22 rfl rfl
theorem dX3_firstIdle_0 : decode cX3_firstIdle 0 = .ok (.iconst 0, 1) := dk_3 (dk_at dksX3_firstIdle_0 0 rfl rfl)
theorem dX3_firstIdle_1 : decode cX3_firstIdle 1 = .ok (.istore_n 1, 1) := dk_60 (dk_at dksX3_firstIdle_0 1 rfl rfl)
theorem dX3_firstIdle_2 : decode cX3_firstIdle 2 = .ok (.iload_n 1, 1) := dk_27 (dk_at dksX3_firstIdle_0 2 rfl rfl)
theorem dX3_firstIdle_3 : decode cX3_firstIdle 3 = .ok (.aload_n 0, 1) := dk_42 (dk_at dksX3_firstIdle_0 3 rfl rfl)
theorem dX3_firstIdle_4 : decode cX3_firstIdle 4 = .ok (.getfield 7, 3) := dk_180 0 7 (dk_at dksX3_firstIdle_0 4 rfl rfl)
theorem dX3_firstIdle_7 : decode cX3_firstIdle 7 = .ok (.iconst 0, 1) := dk_3 (dk_at dksX3_firstIdle_0 7 rfl rfl)
theorem dX3_firstIdle_8 : decode cX3_firstIdle 8 = .ok (.iaload, 1) := dk_46 (dk_at dksX3_firstIdle_0 8 rfl rfl)
theorem dX3_firstIdle_9 : decode cX3_firstIdle 9 = .ok (.if_icmp .ge 19, 3) := dk_162 0 19 (dk_at dksX3_firstIdle_0 9 rfl rfl)
theorem dX3_firstIdle_12 : decode cX3_firstIdle 12 = .ok (.aload_n 0, 1) := dk_42 (dk_at dksX3_firstIdle_0 12 rfl rfl)
theorem dX3_firstIdle_13 : decode cX3_firstIdle 13 = .ok (.iload_n 1, 1) := dk_27 (dk_at dksX3_firstIdle_0 13 rfl rfl)
theorem dX3_firstIdle_14 : decode cX3_firstIdle 14 = .ok (.invokevirtual 82, 3) := dk_182 0 82 (dk_at dksX3_firstIdle_0 14 rfl rfl)
theorem dX3_firstIdle_17 : decode cX3_firstIdle 17 = .ok (.ifCond .eq 5, 3) := dk_153 0 5 (dk_at dksX3_firstIdle_0 17 rfl rfl)
theorem dX3_firstIdle_20 : decode cX3_firstIdle 20 = .ok (.iload_n 1, 1) := dk_27 (dk_at dksX3_firstIdle_0 20 rfl rfl)
theorem dX3_firstIdle_21 : decode cX3_firstIdle 21 = .ok (.ireturn, 1) := dk_172 (dk_at dksX3_firstIdle_0 21 rfl rfl)
theorem dX3_firstIdle_22 : decode cX3_firstIdle 22 = .ok (.iinc 1 1, 3) := dk_132 1 1 (dk_at dksX3_firstIdle_1 0 rfl rfl)
theorem dX3_firstIdle_25 : decode cX3_firstIdle 25 = .ok (.goto (-23), 3) := dk_167 255 233 (dk_at dksX3_firstIdle_1 3 rfl rfl)
theorem dX3_firstIdle_28 : decode cX3_firstIdle 28 = .ok (.bipush (-6), 2) := dk_16 250 (dk_at dksX3_firstIdle_1 6 rfl rfl)
theorem dX3_firstIdle_30 : decode cX3_firstIdle 30 = .ok (.ireturn, 1) := dk_172 (dk_at dksX3_firstIdle_1 8 rfl rfl)
abbrev cX3_isIdle : ByteArray := prog_9_method_19_code
def yX3_isIdle : MethodName := ⟨RX3, "isIdle", "(I)Z"⟩
def dkwX3_isIdle_2 : List UInt8 := [167, 0, 4, 3, 61, 132, 3, 1, 167, 255, 206, 28, 172]
abbrev dktX3_isIdle_2 : List UInt8 := dkwX3_isIdle_2 ++ []
def dkwX3_isIdle_1 : List UInt8 := [182, 0, 58, 42, 29, 16, 6, 108, 29, 16, 6, 112, 27, 16, 250, 3, 182, 0, 54, 160, 0, 7, 4]
abbrev dktX3_isIdle_1 : List UInt8 := dkwX3_isIdle_1 ++ dktX3_isIdle_2
def dkwX3_isIdle_0 : List UInt8 := [4, 61, 3, 62, 29, 16, 30, 162, 0, 50, 28, 153, 0, 46, 42, 29, 16, 6, 108, 29, 16, 6, 112]
abbrev dktX3_isIdle_0 : List UInt8 := dkwX3_isIdle_0 ++ dktX3_isIdle_1
theorem dksX3_isIdle_0 : cX3_isIdle.data.toList.drop 0 = dktX3_isIdle_0 := by decide +kernel
theorem dksX3_isIdle_1 : cX3_isIdle.data.toList.drop 23 = dktX3_isIdle_1 := dk_seg dksX3_isIdle_0 23 rfl rfl
theorem dksX3_isIdle_2 : cX3_isIdle.data.toList.drop 46 = dktX3_isIdle_2 := dk_seg dksX3_isIdle_1 23 rfl rfl
theorem dX3_isIdle_0 : decode cX3_isIdle 0 = .ok (.iconst 1, 1) := dk_4 (dk_at dksX3_isIdle_0 0 rfl rfl)
theorem dX3_isIdle_1 : decode cX3_isIdle 1 = .ok (.istore_n 2, 1) := dk_61 (dk_at dksX3_isIdle_0 1 rfl rfl)
theorem dX3_isIdle_2 : decode cX3_isIdle 2 = .ok (.iconst 0, 1) := dk_3 (dk_at dksX3_isIdle_0 2 rfl rfl)
theorem dX3_isIdle_3 : decode cX3_isIdle 3 = .ok (.istore_n 3, 1) := dk_62 (dk_at dksX3_isIdle_0 3 rfl rfl)
theorem dX3_isIdle_4 : decode cX3_isIdle 4 = .ok (.iload_n 3, 1) := dk_29 (dk_at dksX3_isIdle_0 4 rfl rfl)
theorem dX3_isIdle_5 : decode cX3_isIdle 5 = .ok (.bipush 30, 2) := dk_16 30 (dk_at dksX3_isIdle_0 5 rfl rfl)
theorem dX3_isIdle_7 : decode cX3_isIdle 7 = .ok (.if_icmp .ge 50, 3) := dk_162 0 50 (dk_at dksX3_isIdle_0 7 rfl rfl)
theorem dX3_isIdle_10 : decode cX3_isIdle 10 = .ok (.iload_n 2, 1) := dk_28 (dk_at dksX3_isIdle_0 10 rfl rfl)
theorem dX3_isIdle_11 : decode cX3_isIdle 11 = .ok (.ifCond .eq 46, 3) := dk_153 0 46 (dk_at dksX3_isIdle_0 11 rfl rfl)
theorem dX3_isIdle_14 : decode cX3_isIdle 14 = .ok (.aload_n 0, 1) := dk_42 (dk_at dksX3_isIdle_0 14 rfl rfl)
theorem dX3_isIdle_15 : decode cX3_isIdle 15 = .ok (.iload_n 3, 1) := dk_29 (dk_at dksX3_isIdle_0 15 rfl rfl)
theorem dX3_isIdle_16 : decode cX3_isIdle 16 = .ok (.bipush 6, 2) := dk_16 6 (dk_at dksX3_isIdle_0 16 rfl rfl)
theorem dX3_isIdle_18 : decode cX3_isIdle 18 = .ok (.idiv, 1) := dk_108 (dk_at dksX3_isIdle_0 18 rfl rfl)
theorem dX3_isIdle_19 : decode cX3_isIdle 19 = .ok (.iload_n 3, 1) := dk_29 (dk_at dksX3_isIdle_0 19 rfl rfl)
theorem dX3_isIdle_20 : decode cX3_isIdle 20 = .ok (.bipush 6, 2) := dk_16 6 (dk_at dksX3_isIdle_0 20 rfl rfl)
theorem dX3_isIdle_22 : decode cX3_isIdle 22 = .ok (.irem, 1) := dk_112 (dk_at dksX3_isIdle_0 22 rfl rfl)
theorem dX3_isIdle_23 : decode cX3_isIdle 23 = .ok (.invokevirtual 58, 3) := dk_182 0 58 (dk_at dksX3_isIdle_1 0 rfl rfl)
theorem dX3_isIdle_26 : decode cX3_isIdle 26 = .ok (.aload_n 0, 1) := dk_42 (dk_at dksX3_isIdle_1 3 rfl rfl)
theorem dX3_isIdle_27 : decode cX3_isIdle 27 = .ok (.iload_n 3, 1) := dk_29 (dk_at dksX3_isIdle_1 4 rfl rfl)
theorem dX3_isIdle_28 : decode cX3_isIdle 28 = .ok (.bipush 6, 2) := dk_16 6 (dk_at dksX3_isIdle_1 5 rfl rfl)
theorem dX3_isIdle_30 : decode cX3_isIdle 30 = .ok (.idiv, 1) := dk_108 (dk_at dksX3_isIdle_1 7 rfl rfl)
theorem dX3_isIdle_31 : decode cX3_isIdle 31 = .ok (.iload_n 3, 1) := dk_29 (dk_at dksX3_isIdle_1 8 rfl rfl)
theorem dX3_isIdle_32 : decode cX3_isIdle 32 = .ok (.bipush 6, 2) := dk_16 6 (dk_at dksX3_isIdle_1 9 rfl rfl)
theorem dX3_isIdle_34 : decode cX3_isIdle 34 = .ok (.irem, 1) := dk_112 (dk_at dksX3_isIdle_1 11 rfl rfl)
theorem dX3_isIdle_35 : decode cX3_isIdle 35 = .ok (.iload_n 1, 1) := dk_27 (dk_at dksX3_isIdle_1 12 rfl rfl)
theorem dX3_isIdle_36 : decode cX3_isIdle 36 = .ok (.bipush (-6), 2) := dk_16 250 (dk_at dksX3_isIdle_1 13 rfl rfl)
theorem dX3_isIdle_38 : decode cX3_isIdle 38 = .ok (.iconst 0, 1) := dk_3 (dk_at dksX3_isIdle_1 15 rfl rfl)
theorem dX3_isIdle_39 : decode cX3_isIdle 39 = .ok (.invokevirtual 54, 3) := dk_182 0 54 (dk_at dksX3_isIdle_1 16 rfl rfl)
theorem dX3_isIdle_42 : decode cX3_isIdle 42 = .ok (.if_icmp .ne 7, 3) := dk_160 0 7 (dk_at dksX3_isIdle_1 19 rfl rfl)
theorem dX3_isIdle_45 : decode cX3_isIdle 45 = .ok (.iconst 1, 1) := dk_4 (dk_at dksX3_isIdle_1 22 rfl rfl)
theorem dX3_isIdle_46 : decode cX3_isIdle 46 = .ok (.goto 4, 3) := dk_167 0 4 (dk_at dksX3_isIdle_2 0 rfl rfl)
theorem dX3_isIdle_49 : decode cX3_isIdle 49 = .ok (.iconst 0, 1) := dk_3 (dk_at dksX3_isIdle_2 3 rfl rfl)
theorem dX3_isIdle_50 : decode cX3_isIdle 50 = .ok (.istore_n 2, 1) := dk_61 (dk_at dksX3_isIdle_2 4 rfl rfl)
theorem dX3_isIdle_51 : decode cX3_isIdle 51 = .ok (.iinc 3 1, 3) := dk_132 3 1 (dk_at dksX3_isIdle_2 5 rfl rfl)
theorem dX3_isIdle_54 : decode cX3_isIdle 54 = .ok (.goto (-50), 3) := dk_167 255 206 (dk_at dksX3_isIdle_2 8 rfl rfl)
theorem dX3_isIdle_57 : decode cX3_isIdle 57 = .ok (.iload_n 2, 1) := dk_28 (dk_at dksX3_isIdle_2 11 rfl rfl)
theorem dX3_isIdle_58 : decode cX3_isIdle 58 = .ok (.ireturn, 1) := dk_172 (dk_at dksX3_isIdle_2 12 rfl rfl)
abbrev cX3_leastNow : ByteArray := prog_9_method_15_code
def yX3_leastNow : MethodName := ⟨RX3, "leastNow", "(II)I"⟩
def dkwX3_leastNow_0 : List UInt8 := [42, 27, 28, 16, 250, 16, 250, 3, 182, 0, 54, 172]
abbrev dktX3_leastNow_0 : List UInt8 := dkwX3_leastNow_0 ++ []
theorem dksX3_leastNow_0 : cX3_leastNow.data.toList.drop 0 = dktX3_leastNow_0 := by decide +kernel
theorem dX3_leastNow_0 : decode cX3_leastNow 0 = .ok (.aload_n 0, 1) := dk_42 (dk_at dksX3_leastNow_0 0 rfl rfl)
theorem dX3_leastNow_1 : decode cX3_leastNow 1 = .ok (.iload_n 1, 1) := dk_27 (dk_at dksX3_leastNow_0 1 rfl rfl)
theorem dX3_leastNow_2 : decode cX3_leastNow 2 = .ok (.iload_n 2, 1) := dk_28 (dk_at dksX3_leastNow_0 2 rfl rfl)
theorem dX3_leastNow_3 : decode cX3_leastNow 3 = .ok (.bipush (-6), 2) := dk_16 250 (dk_at dksX3_leastNow_0 3 rfl rfl)
theorem dX3_leastNow_5 : decode cX3_leastNow 5 = .ok (.bipush (-6), 2) := dk_16 250 (dk_at dksX3_leastNow_0 5 rfl rfl)
theorem dX3_leastNow_7 : decode cX3_leastNow 7 = .ok (.iconst 0, 1) := dk_3 (dk_at dksX3_leastNow_0 7 rfl rfl)
theorem dX3_leastNow_8 : decode cX3_leastNow 8 = .ok (.invokevirtual 54, 3) := dk_182 0 54 (dk_at dksX3_leastNow_0 8 rfl rfl)
theorem dX3_leastNow_11 : decode cX3_leastNow 11 = .ok (.ireturn, 1) := dk_172 (dk_at dksX3_leastNow_0 11 rfl rfl)
abbrev cX3_least : ByteArray := prog_9_method_14_code
def yX3_least : MethodName := ⟨RX3, "least", "(IIIII)I"⟩
def dkwX3_least_5 : List UInt8 := [21, 7, 7, 182, 0, 41, 167, 0, 5, 21, 6, 54, 6, 132, 7, 1, 167, 255, 154, 21, 6, 172]
abbrev dktX3_least_5 : List UInt8 := dkwX3_least_5 ++ []
def dkwX3_least_4 : List UInt8 := [167, 0, 4, 3, 54, 8, 21, 8, 153, 0, 25, 42, 21, 7, 7, 182, 0, 41, 21, 6, 164, 0, 13, 42]
abbrev dktX3_least_4 : List UInt8 := dkwX3_least_4 ++ dktX3_least_5
def dkwX3_least_3 : List UInt8 := [180, 0, 26, 42, 21, 7, 3, 182, 0, 41, 46, 42, 21, 7, 7, 182, 0, 41, 162, 0, 7, 4]
abbrev dktX3_least_3 : List UInt8 := dkwX3_least_3 ++ dktX3_least_4
def dkwX3_least_2 : List UInt8 := [21, 7, 4, 182, 0, 41, 4, 160, 0, 40, 42, 21, 7, 27, 28, 182, 0, 44, 153, 0, 29, 42]
abbrev dktX3_least_2 : List UInt8 := dkwX3_least_2 ++ dktX3_least_3
def dkwX3_least_1 : List UInt8 := [3, 54, 6, 3, 54, 7, 21, 7, 42, 180, 0, 7, 3, 46, 162, 0, 97, 21, 7, 29, 159, 0, 51, 42]
abbrev dktX3_least_1 : List UInt8 := dkwX3_least_1 ++ dktX3_least_2
def dkwX3_least_0 : List UInt8 := [42, 27, 28, 29, 182, 0, 47, 154, 0, 6, 16, 10, 172, 42, 27, 28, 29, 21, 4, 21, 5, 182, 0, 50]
abbrev dktX3_least_0 : List UInt8 := dkwX3_least_0 ++ dktX3_least_1
theorem dksX3_least_0 : cX3_least.data.toList.drop 0 = dktX3_least_0 := by decide +kernel
theorem dksX3_least_1 : cX3_least.data.toList.drop 24 = dktX3_least_1 := dk_seg dksX3_least_0 24 rfl rfl
theorem dksX3_least_2 : cX3_least.data.toList.drop 48 = dktX3_least_2 := dk_seg dksX3_least_1 24 rfl rfl
theorem dksX3_least_3 : cX3_least.data.toList.drop 70 = dktX3_least_3 := dk_seg dksX3_least_2 22 rfl rfl
theorem dksX3_least_4 : cX3_least.data.toList.drop 92 = dktX3_least_4 := dk_seg dksX3_least_3 22 rfl rfl
theorem dksX3_least_5 : cX3_least.data.toList.drop 116 = dktX3_least_5 := dk_seg dksX3_least_4 24 rfl rfl
theorem dX3_least_0 : decode cX3_least 0 = .ok (.aload_n 0, 1) := dk_42 (dk_at dksX3_least_0 0 rfl rfl)
theorem dX3_least_1 : decode cX3_least 1 = .ok (.iload_n 1, 1) := dk_27 (dk_at dksX3_least_0 1 rfl rfl)
theorem dX3_least_2 : decode cX3_least 2 = .ok (.iload_n 2, 1) := dk_28 (dk_at dksX3_least_0 2 rfl rfl)
theorem dX3_least_3 : decode cX3_least 3 = .ok (.iload_n 3, 1) := dk_29 (dk_at dksX3_least_0 3 rfl rfl)
theorem dX3_least_4 : decode cX3_least 4 = .ok (.invokevirtual 47, 3) := dk_182 0 47 (dk_at dksX3_least_0 4 rfl rfl)
theorem dX3_least_7 : decode cX3_least 7 = .ok (.ifCond .ne 6, 3) := dk_154 0 6 (dk_at dksX3_least_0 7 rfl rfl)
theorem dX3_least_10 : decode cX3_least 10 = .ok (.bipush 10, 2) := dk_16 10 (dk_at dksX3_least_0 10 rfl rfl)
theorem dX3_least_12 : decode cX3_least 12 = .ok (.ireturn, 1) := dk_172 (dk_at dksX3_least_0 12 rfl rfl)
theorem dX3_least_13 : decode cX3_least 13 = .ok (.aload_n 0, 1) := dk_42 (dk_at dksX3_least_0 13 rfl rfl)
theorem dX3_least_14 : decode cX3_least 14 = .ok (.iload_n 1, 1) := dk_27 (dk_at dksX3_least_0 14 rfl rfl)
theorem dX3_least_15 : decode cX3_least 15 = .ok (.iload_n 2, 1) := dk_28 (dk_at dksX3_least_0 15 rfl rfl)
theorem dX3_least_16 : decode cX3_least 16 = .ok (.iload_n 3, 1) := dk_29 (dk_at dksX3_least_0 16 rfl rfl)
theorem dX3_least_17 : decode cX3_least 17 = .ok (.iload 4, 2) := dk_21 4 (dk_at dksX3_least_0 17 rfl rfl)
theorem dX3_least_19 : decode cX3_least 19 = .ok (.iload 5, 2) := dk_21 5 (dk_at dksX3_least_0 19 rfl rfl)
theorem dX3_least_21 : decode cX3_least 21 = .ok (.invokevirtual 50, 3) := dk_182 0 50 (dk_at dksX3_least_0 21 rfl rfl)
theorem dX3_least_24 : decode cX3_least 24 = .ok (.iconst 0, 1) := dk_3 (dk_at dksX3_least_1 0 rfl rfl)
theorem dX3_least_25 : decode cX3_least 25 = .ok (.istore 6, 2) := dk_54 6 (dk_at dksX3_least_1 1 rfl rfl)
theorem dX3_least_27 : decode cX3_least 27 = .ok (.iconst 0, 1) := dk_3 (dk_at dksX3_least_1 3 rfl rfl)
theorem dX3_least_28 : decode cX3_least 28 = .ok (.istore 7, 2) := dk_54 7 (dk_at dksX3_least_1 4 rfl rfl)
theorem dX3_least_30 : decode cX3_least 30 = .ok (.iload 7, 2) := dk_21 7 (dk_at dksX3_least_1 6 rfl rfl)
theorem dX3_least_32 : decode cX3_least 32 = .ok (.aload_n 0, 1) := dk_42 (dk_at dksX3_least_1 8 rfl rfl)
theorem dX3_least_33 : decode cX3_least 33 = .ok (.getfield 7, 3) := dk_180 0 7 (dk_at dksX3_least_1 9 rfl rfl)
theorem dX3_least_36 : decode cX3_least 36 = .ok (.iconst 0, 1) := dk_3 (dk_at dksX3_least_1 12 rfl rfl)
theorem dX3_least_37 : decode cX3_least 37 = .ok (.iaload, 1) := dk_46 (dk_at dksX3_least_1 13 rfl rfl)
theorem dX3_least_38 : decode cX3_least 38 = .ok (.if_icmp .ge 97, 3) := dk_162 0 97 (dk_at dksX3_least_1 14 rfl rfl)
theorem dX3_least_41 : decode cX3_least 41 = .ok (.iload 7, 2) := dk_21 7 (dk_at dksX3_least_1 17 rfl rfl)
theorem dX3_least_43 : decode cX3_least 43 = .ok (.iload_n 3, 1) := dk_29 (dk_at dksX3_least_1 19 rfl rfl)
theorem dX3_least_44 : decode cX3_least 44 = .ok (.if_icmp .eq 51, 3) := dk_159 0 51 (dk_at dksX3_least_1 20 rfl rfl)
theorem dX3_least_47 : decode cX3_least 47 = .ok (.aload_n 0, 1) := dk_42 (dk_at dksX3_least_1 23 rfl rfl)
theorem dX3_least_48 : decode cX3_least 48 = .ok (.iload 7, 2) := dk_21 7 (dk_at dksX3_least_2 0 rfl rfl)
theorem dX3_least_50 : decode cX3_least 50 = .ok (.iconst 1, 1) := dk_4 (dk_at dksX3_least_2 2 rfl rfl)
theorem dX3_least_51 : decode cX3_least 51 = .ok (.invokevirtual 41, 3) := dk_182 0 41 (dk_at dksX3_least_2 3 rfl rfl)
theorem dX3_least_54 : decode cX3_least 54 = .ok (.iconst 1, 1) := dk_4 (dk_at dksX3_least_2 6 rfl rfl)
theorem dX3_least_55 : decode cX3_least 55 = .ok (.if_icmp .ne 40, 3) := dk_160 0 40 (dk_at dksX3_least_2 7 rfl rfl)
theorem dX3_least_58 : decode cX3_least 58 = .ok (.aload_n 0, 1) := dk_42 (dk_at dksX3_least_2 10 rfl rfl)
theorem dX3_least_59 : decode cX3_least 59 = .ok (.iload 7, 2) := dk_21 7 (dk_at dksX3_least_2 11 rfl rfl)
theorem dX3_least_61 : decode cX3_least 61 = .ok (.iload_n 1, 1) := dk_27 (dk_at dksX3_least_2 13 rfl rfl)
theorem dX3_least_62 : decode cX3_least 62 = .ok (.iload_n 2, 1) := dk_28 (dk_at dksX3_least_2 14 rfl rfl)
theorem dX3_least_63 : decode cX3_least 63 = .ok (.invokevirtual 44, 3) := dk_182 0 44 (dk_at dksX3_least_2 15 rfl rfl)
theorem dX3_least_66 : decode cX3_least 66 = .ok (.ifCond .eq 29, 3) := dk_153 0 29 (dk_at dksX3_least_2 18 rfl rfl)
theorem dX3_least_69 : decode cX3_least 69 = .ok (.aload_n 0, 1) := dk_42 (dk_at dksX3_least_2 21 rfl rfl)
theorem dX3_least_70 : decode cX3_least 70 = .ok (.getfield 26, 3) := dk_180 0 26 (dk_at dksX3_least_3 0 rfl rfl)
theorem dX3_least_73 : decode cX3_least 73 = .ok (.aload_n 0, 1) := dk_42 (dk_at dksX3_least_3 3 rfl rfl)
theorem dX3_least_74 : decode cX3_least 74 = .ok (.iload 7, 2) := dk_21 7 (dk_at dksX3_least_3 4 rfl rfl)
theorem dX3_least_76 : decode cX3_least 76 = .ok (.iconst 0, 1) := dk_3 (dk_at dksX3_least_3 6 rfl rfl)
theorem dX3_least_77 : decode cX3_least 77 = .ok (.invokevirtual 41, 3) := dk_182 0 41 (dk_at dksX3_least_3 7 rfl rfl)
theorem dX3_least_80 : decode cX3_least 80 = .ok (.iaload, 1) := dk_46 (dk_at dksX3_least_3 10 rfl rfl)
theorem dX3_least_81 : decode cX3_least 81 = .ok (.aload_n 0, 1) := dk_42 (dk_at dksX3_least_3 11 rfl rfl)
theorem dX3_least_82 : decode cX3_least 82 = .ok (.iload 7, 2) := dk_21 7 (dk_at dksX3_least_3 12 rfl rfl)
theorem dX3_least_84 : decode cX3_least 84 = .ok (.iconst 4, 1) := dk_7 (dk_at dksX3_least_3 14 rfl rfl)
theorem dX3_least_85 : decode cX3_least 85 = .ok (.invokevirtual 41, 3) := dk_182 0 41 (dk_at dksX3_least_3 15 rfl rfl)
theorem dX3_least_88 : decode cX3_least 88 = .ok (.if_icmp .ge 7, 3) := dk_162 0 7 (dk_at dksX3_least_3 18 rfl rfl)
theorem dX3_least_91 : decode cX3_least 91 = .ok (.iconst 1, 1) := dk_4 (dk_at dksX3_least_3 21 rfl rfl)
theorem dX3_least_92 : decode cX3_least 92 = .ok (.goto 4, 3) := dk_167 0 4 (dk_at dksX3_least_4 0 rfl rfl)
theorem dX3_least_95 : decode cX3_least 95 = .ok (.iconst 0, 1) := dk_3 (dk_at dksX3_least_4 3 rfl rfl)
theorem dX3_least_96 : decode cX3_least 96 = .ok (.istore 8, 2) := dk_54 8 (dk_at dksX3_least_4 4 rfl rfl)
theorem dX3_least_98 : decode cX3_least 98 = .ok (.iload 8, 2) := dk_21 8 (dk_at dksX3_least_4 6 rfl rfl)
theorem dX3_least_100 : decode cX3_least 100 = .ok (.ifCond .eq 25, 3) := dk_153 0 25 (dk_at dksX3_least_4 8 rfl rfl)
theorem dX3_least_103 : decode cX3_least 103 = .ok (.aload_n 0, 1) := dk_42 (dk_at dksX3_least_4 11 rfl rfl)
theorem dX3_least_104 : decode cX3_least 104 = .ok (.iload 7, 2) := dk_21 7 (dk_at dksX3_least_4 12 rfl rfl)
theorem dX3_least_106 : decode cX3_least 106 = .ok (.iconst 4, 1) := dk_7 (dk_at dksX3_least_4 14 rfl rfl)
theorem dX3_least_107 : decode cX3_least 107 = .ok (.invokevirtual 41, 3) := dk_182 0 41 (dk_at dksX3_least_4 15 rfl rfl)
theorem dX3_least_110 : decode cX3_least 110 = .ok (.iload 6, 2) := dk_21 6 (dk_at dksX3_least_4 18 rfl rfl)
theorem dX3_least_112 : decode cX3_least 112 = .ok (.if_icmp .le 13, 3) := dk_164 0 13 (dk_at dksX3_least_4 20 rfl rfl)
theorem dX3_least_115 : decode cX3_least 115 = .ok (.aload_n 0, 1) := dk_42 (dk_at dksX3_least_4 23 rfl rfl)
theorem dX3_least_116 : decode cX3_least 116 = .ok (.iload 7, 2) := dk_21 7 (dk_at dksX3_least_5 0 rfl rfl)
theorem dX3_least_118 : decode cX3_least 118 = .ok (.iconst 4, 1) := dk_7 (dk_at dksX3_least_5 2 rfl rfl)
theorem dX3_least_119 : decode cX3_least 119 = .ok (.invokevirtual 41, 3) := dk_182 0 41 (dk_at dksX3_least_5 3 rfl rfl)
theorem dX3_least_122 : decode cX3_least 122 = .ok (.goto 5, 3) := dk_167 0 5 (dk_at dksX3_least_5 6 rfl rfl)
theorem dX3_least_125 : decode cX3_least 125 = .ok (.iload 6, 2) := dk_21 6 (dk_at dksX3_least_5 9 rfl rfl)
theorem dX3_least_127 : decode cX3_least 127 = .ok (.istore 6, 2) := dk_54 6 (dk_at dksX3_least_5 11 rfl rfl)
theorem dX3_least_129 : decode cX3_least 129 = .ok (.iinc 7 1, 3) := dk_132 7 1 (dk_at dksX3_least_5 13 rfl rfl)
theorem dX3_least_132 : decode cX3_least 132 = .ok (.goto (-102), 3) := dk_167 255 154 (dk_at dksX3_least_5 16 rfl rfl)
theorem dX3_least_135 : decode cX3_least 135 = .ok (.iload 6, 2) := dk_21 6 (dk_at dksX3_least_5 19 rfl rfl)
theorem dX3_least_137 : decode cX3_least 137 = .ok (.ireturn, 1) := dk_172 (dk_at dksX3_least_5 21 rfl rfl)
abbrev cX3_isPermitted : ByteArray := prog_9_method_13_code
def yX3_isPermitted : MethodName := ⟨RX3, "isPermitted", "(III)Z"⟩
def dkwX3_isPermitted_2 : List UInt8 := [153, 0, 7, 4, 167, 0, 4, 3, 54, 4, 132, 5, 1, 167, 255, 203, 21, 4, 172]
abbrev dktX3_isPermitted_2 : List UInt8 := dkwX3_isPermitted_2 ++ []
def dkwX3_isPermitted_1 : List UInt8 := [29, 159, 0, 28, 42, 21, 5, 4, 182, 0, 41, 154, 0, 18, 42, 21, 5, 27, 28, 182, 0, 44]
abbrev dktX3_isPermitted_1 : List UInt8 := dkwX3_isPermitted_1 ++ dktX3_isPermitted_2
def dkwX3_isPermitted_0 : List UInt8 := [3, 54, 4, 3, 54, 5, 21, 5, 42, 180, 0, 7, 3, 46, 162, 0, 48, 21, 4, 154, 0, 30, 21, 5]
abbrev dktX3_isPermitted_0 : List UInt8 := dkwX3_isPermitted_0 ++ dktX3_isPermitted_1
theorem dksX3_isPermitted_0 : cX3_isPermitted.data.toList.drop 0 = dktX3_isPermitted_0 := by decide +kernel
theorem dksX3_isPermitted_1 : cX3_isPermitted.data.toList.drop 24 = dktX3_isPermitted_1 := dk_seg dksX3_isPermitted_0 24 rfl rfl
theorem dksX3_isPermitted_2 : cX3_isPermitted.data.toList.drop 46 = dktX3_isPermitted_2 := dk_seg dksX3_isPermitted_1 22 rfl rfl
theorem dX3_isPermitted_0 : decode cX3_isPermitted 0 = .ok (.iconst 0, 1) := dk_3 (dk_at dksX3_isPermitted_0 0 rfl rfl)
theorem dX3_isPermitted_1 : decode cX3_isPermitted 1 = .ok (.istore 4, 2) := dk_54 4 (dk_at dksX3_isPermitted_0 1 rfl rfl)
theorem dX3_isPermitted_3 : decode cX3_isPermitted 3 = .ok (.iconst 0, 1) := dk_3 (dk_at dksX3_isPermitted_0 3 rfl rfl)
theorem dX3_isPermitted_4 : decode cX3_isPermitted 4 = .ok (.istore 5, 2) := dk_54 5 (dk_at dksX3_isPermitted_0 4 rfl rfl)
theorem dX3_isPermitted_6 : decode cX3_isPermitted 6 = .ok (.iload 5, 2) := dk_21 5 (dk_at dksX3_isPermitted_0 6 rfl rfl)
theorem dX3_isPermitted_8 : decode cX3_isPermitted 8 = .ok (.aload_n 0, 1) := dk_42 (dk_at dksX3_isPermitted_0 8 rfl rfl)
theorem dX3_isPermitted_9 : decode cX3_isPermitted 9 = .ok (.getfield 7, 3) := dk_180 0 7 (dk_at dksX3_isPermitted_0 9 rfl rfl)
theorem dX3_isPermitted_12 : decode cX3_isPermitted 12 = .ok (.iconst 0, 1) := dk_3 (dk_at dksX3_isPermitted_0 12 rfl rfl)
theorem dX3_isPermitted_13 : decode cX3_isPermitted 13 = .ok (.iaload, 1) := dk_46 (dk_at dksX3_isPermitted_0 13 rfl rfl)
theorem dX3_isPermitted_14 : decode cX3_isPermitted 14 = .ok (.if_icmp .ge 48, 3) := dk_162 0 48 (dk_at dksX3_isPermitted_0 14 rfl rfl)
theorem dX3_isPermitted_17 : decode cX3_isPermitted 17 = .ok (.iload 4, 2) := dk_21 4 (dk_at dksX3_isPermitted_0 17 rfl rfl)
theorem dX3_isPermitted_19 : decode cX3_isPermitted 19 = .ok (.ifCond .ne 30, 3) := dk_154 0 30 (dk_at dksX3_isPermitted_0 19 rfl rfl)
theorem dX3_isPermitted_22 : decode cX3_isPermitted 22 = .ok (.iload 5, 2) := dk_21 5 (dk_at dksX3_isPermitted_0 22 rfl rfl)
theorem dX3_isPermitted_24 : decode cX3_isPermitted 24 = .ok (.iload_n 3, 1) := dk_29 (dk_at dksX3_isPermitted_1 0 rfl rfl)
theorem dX3_isPermitted_25 : decode cX3_isPermitted 25 = .ok (.if_icmp .eq 28, 3) := dk_159 0 28 (dk_at dksX3_isPermitted_1 1 rfl rfl)
theorem dX3_isPermitted_28 : decode cX3_isPermitted 28 = .ok (.aload_n 0, 1) := dk_42 (dk_at dksX3_isPermitted_1 4 rfl rfl)
theorem dX3_isPermitted_29 : decode cX3_isPermitted 29 = .ok (.iload 5, 2) := dk_21 5 (dk_at dksX3_isPermitted_1 5 rfl rfl)
theorem dX3_isPermitted_31 : decode cX3_isPermitted 31 = .ok (.iconst 1, 1) := dk_4 (dk_at dksX3_isPermitted_1 7 rfl rfl)
theorem dX3_isPermitted_32 : decode cX3_isPermitted 32 = .ok (.invokevirtual 41, 3) := dk_182 0 41 (dk_at dksX3_isPermitted_1 8 rfl rfl)
theorem dX3_isPermitted_35 : decode cX3_isPermitted 35 = .ok (.ifCond .ne 18, 3) := dk_154 0 18 (dk_at dksX3_isPermitted_1 11 rfl rfl)
theorem dX3_isPermitted_38 : decode cX3_isPermitted 38 = .ok (.aload_n 0, 1) := dk_42 (dk_at dksX3_isPermitted_1 14 rfl rfl)
theorem dX3_isPermitted_39 : decode cX3_isPermitted 39 = .ok (.iload 5, 2) := dk_21 5 (dk_at dksX3_isPermitted_1 15 rfl rfl)
theorem dX3_isPermitted_41 : decode cX3_isPermitted 41 = .ok (.iload_n 1, 1) := dk_27 (dk_at dksX3_isPermitted_1 17 rfl rfl)
theorem dX3_isPermitted_42 : decode cX3_isPermitted 42 = .ok (.iload_n 2, 1) := dk_28 (dk_at dksX3_isPermitted_1 18 rfl rfl)
theorem dX3_isPermitted_43 : decode cX3_isPermitted 43 = .ok (.invokevirtual 44, 3) := dk_182 0 44 (dk_at dksX3_isPermitted_1 19 rfl rfl)
theorem dX3_isPermitted_46 : decode cX3_isPermitted 46 = .ok (.ifCond .eq 7, 3) := dk_153 0 7 (dk_at dksX3_isPermitted_2 0 rfl rfl)
theorem dX3_isPermitted_49 : decode cX3_isPermitted 49 = .ok (.iconst 1, 1) := dk_4 (dk_at dksX3_isPermitted_2 3 rfl rfl)
theorem dX3_isPermitted_50 : decode cX3_isPermitted 50 = .ok (.goto 4, 3) := dk_167 0 4 (dk_at dksX3_isPermitted_2 4 rfl rfl)
theorem dX3_isPermitted_53 : decode cX3_isPermitted 53 = .ok (.iconst 0, 1) := dk_3 (dk_at dksX3_isPermitted_2 7 rfl rfl)
theorem dX3_isPermitted_54 : decode cX3_isPermitted 54 = .ok (.istore 4, 2) := dk_54 4 (dk_at dksX3_isPermitted_2 8 rfl rfl)
theorem dX3_isPermitted_56 : decode cX3_isPermitted 56 = .ok (.iinc 5 1, 3) := dk_132 5 1 (dk_at dksX3_isPermitted_2 10 rfl rfl)
theorem dX3_isPermitted_59 : decode cX3_isPermitted 59 = .ok (.goto (-53), 3) := dk_167 255 203 (dk_at dksX3_isPermitted_2 13 rfl rfl)
theorem dX3_isPermitted_62 : decode cX3_isPermitted 62 = .ok (.iload 4, 2) := dk_21 4 (dk_at dksX3_isPermitted_2 16 rfl rfl)
theorem dX3_isPermitted_64 : decode cX3_isPermitted 64 = .ok (.ireturn, 1) := dk_172 (dk_at dksX3_isPermitted_2 18 rfl rfl)
abbrev cX3_fits : ByteArray := prog_9_method_11_code
def yX3_fits : MethodName := ⟨RX3, "fits", "(III)Z"⟩
def dkwX3_fits_1 : List UInt8 := [182, 0, 41, 29, 159, 0, 14, 42, 27, 6, 182, 0, 41, 16, 6, 160, 0, 7, 4, 167, 0, 4, 3, 172]
abbrev dktX3_fits_1 : List UInt8 := dkwX3_fits_1 ++ []
def dkwX3_fits_0 : List UInt8 := [42, 27, 5, 182, 0, 41, 28, 159, 0, 13, 42, 27, 5, 182, 0, 41, 8, 160, 0, 28, 42, 27, 6]
abbrev dktX3_fits_0 : List UInt8 := dkwX3_fits_0 ++ dktX3_fits_1
theorem dksX3_fits_0 : cX3_fits.data.toList.drop 0 = dktX3_fits_0 := by decide +kernel
theorem dksX3_fits_1 : cX3_fits.data.toList.drop 23 = dktX3_fits_1 := dk_seg dksX3_fits_0 23 rfl rfl
theorem dX3_fits_0 : decode cX3_fits 0 = .ok (.aload_n 0, 1) := dk_42 (dk_at dksX3_fits_0 0 rfl rfl)
theorem dX3_fits_1 : decode cX3_fits 1 = .ok (.iload_n 1, 1) := dk_27 (dk_at dksX3_fits_0 1 rfl rfl)
theorem dX3_fits_2 : decode cX3_fits 2 = .ok (.iconst 2, 1) := dk_5 (dk_at dksX3_fits_0 2 rfl rfl)
theorem dX3_fits_3 : decode cX3_fits 3 = .ok (.invokevirtual 41, 3) := dk_182 0 41 (dk_at dksX3_fits_0 3 rfl rfl)
theorem dX3_fits_6 : decode cX3_fits 6 = .ok (.iload_n 2, 1) := dk_28 (dk_at dksX3_fits_0 6 rfl rfl)
theorem dX3_fits_7 : decode cX3_fits 7 = .ok (.if_icmp .eq 13, 3) := dk_159 0 13 (dk_at dksX3_fits_0 7 rfl rfl)
theorem dX3_fits_10 : decode cX3_fits 10 = .ok (.aload_n 0, 1) := dk_42 (dk_at dksX3_fits_0 10 rfl rfl)
theorem dX3_fits_11 : decode cX3_fits 11 = .ok (.iload_n 1, 1) := dk_27 (dk_at dksX3_fits_0 11 rfl rfl)
theorem dX3_fits_12 : decode cX3_fits 12 = .ok (.iconst 2, 1) := dk_5 (dk_at dksX3_fits_0 12 rfl rfl)
theorem dX3_fits_13 : decode cX3_fits 13 = .ok (.invokevirtual 41, 3) := dk_182 0 41 (dk_at dksX3_fits_0 13 rfl rfl)
theorem dX3_fits_16 : decode cX3_fits 16 = .ok (.iconst 5, 1) := dk_8 (dk_at dksX3_fits_0 16 rfl rfl)
theorem dX3_fits_17 : decode cX3_fits 17 = .ok (.if_icmp .ne 28, 3) := dk_160 0 28 (dk_at dksX3_fits_0 17 rfl rfl)
theorem dX3_fits_20 : decode cX3_fits 20 = .ok (.aload_n 0, 1) := dk_42 (dk_at dksX3_fits_0 20 rfl rfl)
theorem dX3_fits_21 : decode cX3_fits 21 = .ok (.iload_n 1, 1) := dk_27 (dk_at dksX3_fits_0 21 rfl rfl)
theorem dX3_fits_22 : decode cX3_fits 22 = .ok (.iconst 3, 1) := dk_6 (dk_at dksX3_fits_0 22 rfl rfl)
theorem dX3_fits_23 : decode cX3_fits 23 = .ok (.invokevirtual 41, 3) := dk_182 0 41 (dk_at dksX3_fits_1 0 rfl rfl)
theorem dX3_fits_26 : decode cX3_fits 26 = .ok (.iload_n 3, 1) := dk_29 (dk_at dksX3_fits_1 3 rfl rfl)
theorem dX3_fits_27 : decode cX3_fits 27 = .ok (.if_icmp .eq 14, 3) := dk_159 0 14 (dk_at dksX3_fits_1 4 rfl rfl)
theorem dX3_fits_30 : decode cX3_fits 30 = .ok (.aload_n 0, 1) := dk_42 (dk_at dksX3_fits_1 7 rfl rfl)
theorem dX3_fits_31 : decode cX3_fits 31 = .ok (.iload_n 1, 1) := dk_27 (dk_at dksX3_fits_1 8 rfl rfl)
theorem dX3_fits_32 : decode cX3_fits 32 = .ok (.iconst 3, 1) := dk_6 (dk_at dksX3_fits_1 9 rfl rfl)
theorem dX3_fits_33 : decode cX3_fits 33 = .ok (.invokevirtual 41, 3) := dk_182 0 41 (dk_at dksX3_fits_1 10 rfl rfl)
theorem dX3_fits_36 : decode cX3_fits 36 = .ok (.bipush 6, 2) := dk_16 6 (dk_at dksX3_fits_1 13 rfl rfl)
theorem dX3_fits_38 : decode cX3_fits 38 = .ok (.if_icmp .ne 7, 3) := dk_160 0 7 (dk_at dksX3_fits_1 15 rfl rfl)
theorem dX3_fits_41 : decode cX3_fits 41 = .ok (.iconst 1, 1) := dk_4 (dk_at dksX3_fits_1 18 rfl rfl)
theorem dX3_fits_42 : decode cX3_fits 42 = .ok (.goto 4, 3) := dk_167 0 4 (dk_at dksX3_fits_1 19 rfl rfl)
theorem dX3_fits_45 : decode cX3_fits 45 = .ok (.iconst 0, 1) := dk_3 (dk_at dksX3_fits_1 22 rfl rfl)
theorem dX3_fits_46 : decode cX3_fits 46 = .ok (.ireturn, 1) := dk_172 (dk_at dksX3_fits_1 23 rfl rfl)
abbrev cX3_layStrong : ByteArray := prog_9_method_12_code
def yX3_layStrong : MethodName := ⟨RX3, "layStrong", "(IIIII)V"⟩
def dkwX3_layStrong_8 : List UInt8 := [132, 6, 1, 167, 255, 202, 177]
abbrev dktX3_layStrong_8 : List UInt8 := dkwX3_layStrong_8 ++ []
def dkwX3_layStrong_7 : List UInt8 := [46, 164, 0, 15, 42, 180, 0, 26, 21, 6, 4, 100, 46, 167, 0, 10, 42, 180, 0, 26, 21, 6, 46, 79]
abbrev dktX3_layStrong_7 : List UInt8 := dkwX3_layStrong_7 ++ dktX3_layStrong_8
def dkwX3_layStrong_6 : List UInt8 := [162, 0, 54, 42, 180, 0, 26, 21, 6, 42, 180, 0, 26, 21, 6, 4, 100, 46, 42, 180, 0, 26, 21, 6]
abbrev dktX3_layStrong_6 : List UInt8 := dkwX3_layStrong_6 ++ dktX3_layStrong_7
def dkwX3_layStrong_5 : List UInt8 := [167, 0, 10, 42, 180, 0, 26, 21, 7, 46, 79, 132, 6, 1, 167, 255, 164, 4, 54, 6, 21, 6, 8]
abbrev dktX3_layStrong_5 : List UInt8 := dkwX3_layStrong_5 ++ dktX3_layStrong_6
def dkwX3_layStrong_4 : List UInt8 := [21, 6, 7, 182, 0, 41, 42, 180, 0, 26, 21, 7, 46, 164, 0, 13, 42, 21, 6, 7, 182, 0, 41]
abbrev dktX3_layStrong_4 : List UInt8 := dkwX3_layStrong_4 ++ dktX3_layStrong_5
def dkwX3_layStrong_3 : List UInt8 := [28, 182, 0, 44, 153, 0, 53, 42, 21, 6, 3, 182, 0, 41, 54, 7, 42, 180, 0, 26, 21, 7, 42]
abbrev dktX3_layStrong_3 : List UInt8 := dkwX3_layStrong_3 ++ dktX3_layStrong_4
def dkwX3_layStrong_2 : List UInt8 := [162, 0, 87, 21, 6, 29, 159, 0, 75, 42, 21, 6, 4, 182, 0, 41, 5, 160, 0, 64, 42, 21, 6, 27]
abbrev dktX3_layStrong_2 : List UInt8 := dkwX3_layStrong_2 ++ dktX3_layStrong_3
def dkwX3_layStrong_1 : List UInt8 := [167, 0, 4, 3, 79, 132, 6, 1, 167, 255, 227, 3, 54, 6, 21, 6, 42, 180, 0, 7, 3, 46]
abbrev dktX3_layStrong_1 : List UInt8 := dkwX3_layStrong_1 ++ dktX3_layStrong_2
def dkwX3_layStrong_0 : List UInt8 := [3, 54, 6, 21, 6, 8, 162, 0, 29, 42, 180, 0, 26, 21, 6, 21, 6, 21, 4, 160, 0, 8, 21, 5]
abbrev dktX3_layStrong_0 : List UInt8 := dkwX3_layStrong_0 ++ dktX3_layStrong_1
theorem dksX3_layStrong_0 : cX3_layStrong.data.toList.drop 0 = dktX3_layStrong_0 := by decide +kernel
theorem dksX3_layStrong_1 : cX3_layStrong.data.toList.drop 24 = dktX3_layStrong_1 := dk_seg dksX3_layStrong_0 24 rfl rfl
theorem dksX3_layStrong_2 : cX3_layStrong.data.toList.drop 46 = dktX3_layStrong_2 := dk_seg dksX3_layStrong_1 22 rfl rfl
theorem dksX3_layStrong_3 : cX3_layStrong.data.toList.drop 70 = dktX3_layStrong_3 := dk_seg dksX3_layStrong_2 24 rfl rfl
theorem dksX3_layStrong_4 : cX3_layStrong.data.toList.drop 93 = dktX3_layStrong_4 := dk_seg dksX3_layStrong_3 23 rfl rfl
theorem dksX3_layStrong_5 : cX3_layStrong.data.toList.drop 116 = dktX3_layStrong_5 := dk_seg dksX3_layStrong_4 23 rfl rfl
theorem dksX3_layStrong_6 : cX3_layStrong.data.toList.drop 139 = dktX3_layStrong_6 := dk_seg dksX3_layStrong_5 23 rfl rfl
theorem dksX3_layStrong_7 : cX3_layStrong.data.toList.drop 163 = dktX3_layStrong_7 := dk_seg dksX3_layStrong_6 24 rfl rfl
theorem dksX3_layStrong_8 : cX3_layStrong.data.toList.drop 187 = dktX3_layStrong_8 := dk_seg dksX3_layStrong_7 24 rfl rfl
theorem dX3_layStrong_0 : decode cX3_layStrong 0 = .ok (.iconst 0, 1) := dk_3 (dk_at dksX3_layStrong_0 0 rfl rfl)
theorem dX3_layStrong_1 : decode cX3_layStrong 1 = .ok (.istore 6, 2) := dk_54 6 (dk_at dksX3_layStrong_0 1 rfl rfl)
theorem dX3_layStrong_3 : decode cX3_layStrong 3 = .ok (.iload 6, 2) := dk_21 6 (dk_at dksX3_layStrong_0 3 rfl rfl)
theorem dX3_layStrong_5 : decode cX3_layStrong 5 = .ok (.iconst 5, 1) := dk_8 (dk_at dksX3_layStrong_0 5 rfl rfl)
theorem dX3_layStrong_6 : decode cX3_layStrong 6 = .ok (.if_icmp .ge 29, 3) := dk_162 0 29 (dk_at dksX3_layStrong_0 6 rfl rfl)
theorem dX3_layStrong_9 : decode cX3_layStrong 9 = .ok (.aload_n 0, 1) := dk_42 (dk_at dksX3_layStrong_0 9 rfl rfl)
theorem dX3_layStrong_10 : decode cX3_layStrong 10 = .ok (.getfield 26, 3) := dk_180 0 26 (dk_at dksX3_layStrong_0 10 rfl rfl)
theorem dX3_layStrong_13 : decode cX3_layStrong 13 = .ok (.iload 6, 2) := dk_21 6 (dk_at dksX3_layStrong_0 13 rfl rfl)
theorem dX3_layStrong_15 : decode cX3_layStrong 15 = .ok (.iload 6, 2) := dk_21 6 (dk_at dksX3_layStrong_0 15 rfl rfl)
theorem dX3_layStrong_17 : decode cX3_layStrong 17 = .ok (.iload 4, 2) := dk_21 4 (dk_at dksX3_layStrong_0 17 rfl rfl)
theorem dX3_layStrong_19 : decode cX3_layStrong 19 = .ok (.if_icmp .ne 8, 3) := dk_160 0 8 (dk_at dksX3_layStrong_0 19 rfl rfl)
theorem dX3_layStrong_22 : decode cX3_layStrong 22 = .ok (.iload 5, 2) := dk_21 5 (dk_at dksX3_layStrong_0 22 rfl rfl)
theorem dX3_layStrong_24 : decode cX3_layStrong 24 = .ok (.goto 4, 3) := dk_167 0 4 (dk_at dksX3_layStrong_1 0 rfl rfl)
theorem dX3_layStrong_27 : decode cX3_layStrong 27 = .ok (.iconst 0, 1) := dk_3 (dk_at dksX3_layStrong_1 3 rfl rfl)
theorem dX3_layStrong_28 : decode cX3_layStrong 28 = .ok (.iastore, 1) := dk_79 (dk_at dksX3_layStrong_1 4 rfl rfl)
theorem dX3_layStrong_29 : decode cX3_layStrong 29 = .ok (.iinc 6 1, 3) := dk_132 6 1 (dk_at dksX3_layStrong_1 5 rfl rfl)
theorem dX3_layStrong_32 : decode cX3_layStrong 32 = .ok (.goto (-29), 3) := dk_167 255 227 (dk_at dksX3_layStrong_1 8 rfl rfl)
theorem dX3_layStrong_35 : decode cX3_layStrong 35 = .ok (.iconst 0, 1) := dk_3 (dk_at dksX3_layStrong_1 11 rfl rfl)
theorem dX3_layStrong_36 : decode cX3_layStrong 36 = .ok (.istore 6, 2) := dk_54 6 (dk_at dksX3_layStrong_1 12 rfl rfl)
theorem dX3_layStrong_38 : decode cX3_layStrong 38 = .ok (.iload 6, 2) := dk_21 6 (dk_at dksX3_layStrong_1 14 rfl rfl)
theorem dX3_layStrong_40 : decode cX3_layStrong 40 = .ok (.aload_n 0, 1) := dk_42 (dk_at dksX3_layStrong_1 16 rfl rfl)
theorem dX3_layStrong_41 : decode cX3_layStrong 41 = .ok (.getfield 7, 3) := dk_180 0 7 (dk_at dksX3_layStrong_1 17 rfl rfl)
theorem dX3_layStrong_44 : decode cX3_layStrong 44 = .ok (.iconst 0, 1) := dk_3 (dk_at dksX3_layStrong_1 20 rfl rfl)
theorem dX3_layStrong_45 : decode cX3_layStrong 45 = .ok (.iaload, 1) := dk_46 (dk_at dksX3_layStrong_1 21 rfl rfl)
theorem dX3_layStrong_46 : decode cX3_layStrong 46 = .ok (.if_icmp .ge 87, 3) := dk_162 0 87 (dk_at dksX3_layStrong_2 0 rfl rfl)
theorem dX3_layStrong_49 : decode cX3_layStrong 49 = .ok (.iload 6, 2) := dk_21 6 (dk_at dksX3_layStrong_2 3 rfl rfl)
theorem dX3_layStrong_51 : decode cX3_layStrong 51 = .ok (.iload_n 3, 1) := dk_29 (dk_at dksX3_layStrong_2 5 rfl rfl)
theorem dX3_layStrong_52 : decode cX3_layStrong 52 = .ok (.if_icmp .eq 75, 3) := dk_159 0 75 (dk_at dksX3_layStrong_2 6 rfl rfl)
theorem dX3_layStrong_55 : decode cX3_layStrong 55 = .ok (.aload_n 0, 1) := dk_42 (dk_at dksX3_layStrong_2 9 rfl rfl)
theorem dX3_layStrong_56 : decode cX3_layStrong 56 = .ok (.iload 6, 2) := dk_21 6 (dk_at dksX3_layStrong_2 10 rfl rfl)
theorem dX3_layStrong_58 : decode cX3_layStrong 58 = .ok (.iconst 1, 1) := dk_4 (dk_at dksX3_layStrong_2 12 rfl rfl)
theorem dX3_layStrong_59 : decode cX3_layStrong 59 = .ok (.invokevirtual 41, 3) := dk_182 0 41 (dk_at dksX3_layStrong_2 13 rfl rfl)
theorem dX3_layStrong_62 : decode cX3_layStrong 62 = .ok (.iconst 2, 1) := dk_5 (dk_at dksX3_layStrong_2 16 rfl rfl)
theorem dX3_layStrong_63 : decode cX3_layStrong 63 = .ok (.if_icmp .ne 64, 3) := dk_160 0 64 (dk_at dksX3_layStrong_2 17 rfl rfl)
theorem dX3_layStrong_66 : decode cX3_layStrong 66 = .ok (.aload_n 0, 1) := dk_42 (dk_at dksX3_layStrong_2 20 rfl rfl)
theorem dX3_layStrong_67 : decode cX3_layStrong 67 = .ok (.iload 6, 2) := dk_21 6 (dk_at dksX3_layStrong_2 21 rfl rfl)
theorem dX3_layStrong_69 : decode cX3_layStrong 69 = .ok (.iload_n 1, 1) := dk_27 (dk_at dksX3_layStrong_2 23 rfl rfl)
theorem dX3_layStrong_70 : decode cX3_layStrong 70 = .ok (.iload_n 2, 1) := dk_28 (dk_at dksX3_layStrong_3 0 rfl rfl)
theorem dX3_layStrong_71 : decode cX3_layStrong 71 = .ok (.invokevirtual 44, 3) := dk_182 0 44 (dk_at dksX3_layStrong_3 1 rfl rfl)
theorem dX3_layStrong_74 : decode cX3_layStrong 74 = .ok (.ifCond .eq 53, 3) := dk_153 0 53 (dk_at dksX3_layStrong_3 4 rfl rfl)
theorem dX3_layStrong_77 : decode cX3_layStrong 77 = .ok (.aload_n 0, 1) := dk_42 (dk_at dksX3_layStrong_3 7 rfl rfl)
theorem dX3_layStrong_78 : decode cX3_layStrong 78 = .ok (.iload 6, 2) := dk_21 6 (dk_at dksX3_layStrong_3 8 rfl rfl)
theorem dX3_layStrong_80 : decode cX3_layStrong 80 = .ok (.iconst 0, 1) := dk_3 (dk_at dksX3_layStrong_3 10 rfl rfl)
theorem dX3_layStrong_81 : decode cX3_layStrong 81 = .ok (.invokevirtual 41, 3) := dk_182 0 41 (dk_at dksX3_layStrong_3 11 rfl rfl)
theorem dX3_layStrong_84 : decode cX3_layStrong 84 = .ok (.istore 7, 2) := dk_54 7 (dk_at dksX3_layStrong_3 14 rfl rfl)
theorem dX3_layStrong_86 : decode cX3_layStrong 86 = .ok (.aload_n 0, 1) := dk_42 (dk_at dksX3_layStrong_3 16 rfl rfl)
theorem dX3_layStrong_87 : decode cX3_layStrong 87 = .ok (.getfield 26, 3) := dk_180 0 26 (dk_at dksX3_layStrong_3 17 rfl rfl)
theorem dX3_layStrong_90 : decode cX3_layStrong 90 = .ok (.iload 7, 2) := dk_21 7 (dk_at dksX3_layStrong_3 20 rfl rfl)
theorem dX3_layStrong_92 : decode cX3_layStrong 92 = .ok (.aload_n 0, 1) := dk_42 (dk_at dksX3_layStrong_3 22 rfl rfl)
theorem dX3_layStrong_93 : decode cX3_layStrong 93 = .ok (.iload 6, 2) := dk_21 6 (dk_at dksX3_layStrong_4 0 rfl rfl)
theorem dX3_layStrong_95 : decode cX3_layStrong 95 = .ok (.iconst 4, 1) := dk_7 (dk_at dksX3_layStrong_4 2 rfl rfl)
theorem dX3_layStrong_96 : decode cX3_layStrong 96 = .ok (.invokevirtual 41, 3) := dk_182 0 41 (dk_at dksX3_layStrong_4 3 rfl rfl)
theorem dX3_layStrong_99 : decode cX3_layStrong 99 = .ok (.aload_n 0, 1) := dk_42 (dk_at dksX3_layStrong_4 6 rfl rfl)
theorem dX3_layStrong_100 : decode cX3_layStrong 100 = .ok (.getfield 26, 3) := dk_180 0 26 (dk_at dksX3_layStrong_4 7 rfl rfl)
theorem dX3_layStrong_103 : decode cX3_layStrong 103 = .ok (.iload 7, 2) := dk_21 7 (dk_at dksX3_layStrong_4 10 rfl rfl)
theorem dX3_layStrong_105 : decode cX3_layStrong 105 = .ok (.iaload, 1) := dk_46 (dk_at dksX3_layStrong_4 12 rfl rfl)
theorem dX3_layStrong_106 : decode cX3_layStrong 106 = .ok (.if_icmp .le 13, 3) := dk_164 0 13 (dk_at dksX3_layStrong_4 13 rfl rfl)
theorem dX3_layStrong_109 : decode cX3_layStrong 109 = .ok (.aload_n 0, 1) := dk_42 (dk_at dksX3_layStrong_4 16 rfl rfl)
theorem dX3_layStrong_110 : decode cX3_layStrong 110 = .ok (.iload 6, 2) := dk_21 6 (dk_at dksX3_layStrong_4 17 rfl rfl)
theorem dX3_layStrong_112 : decode cX3_layStrong 112 = .ok (.iconst 4, 1) := dk_7 (dk_at dksX3_layStrong_4 19 rfl rfl)
theorem dX3_layStrong_113 : decode cX3_layStrong 113 = .ok (.invokevirtual 41, 3) := dk_182 0 41 (dk_at dksX3_layStrong_4 20 rfl rfl)
theorem dX3_layStrong_116 : decode cX3_layStrong 116 = .ok (.goto 10, 3) := dk_167 0 10 (dk_at dksX3_layStrong_5 0 rfl rfl)
theorem dX3_layStrong_119 : decode cX3_layStrong 119 = .ok (.aload_n 0, 1) := dk_42 (dk_at dksX3_layStrong_5 3 rfl rfl)
theorem dX3_layStrong_120 : decode cX3_layStrong 120 = .ok (.getfield 26, 3) := dk_180 0 26 (dk_at dksX3_layStrong_5 4 rfl rfl)
theorem dX3_layStrong_123 : decode cX3_layStrong 123 = .ok (.iload 7, 2) := dk_21 7 (dk_at dksX3_layStrong_5 7 rfl rfl)
theorem dX3_layStrong_125 : decode cX3_layStrong 125 = .ok (.iaload, 1) := dk_46 (dk_at dksX3_layStrong_5 9 rfl rfl)
theorem dX3_layStrong_126 : decode cX3_layStrong 126 = .ok (.iastore, 1) := dk_79 (dk_at dksX3_layStrong_5 10 rfl rfl)
theorem dX3_layStrong_127 : decode cX3_layStrong 127 = .ok (.iinc 6 1, 3) := dk_132 6 1 (dk_at dksX3_layStrong_5 11 rfl rfl)
theorem dX3_layStrong_130 : decode cX3_layStrong 130 = .ok (.goto (-92), 3) := dk_167 255 164 (dk_at dksX3_layStrong_5 14 rfl rfl)
theorem dX3_layStrong_133 : decode cX3_layStrong 133 = .ok (.iconst 1, 1) := dk_4 (dk_at dksX3_layStrong_5 17 rfl rfl)
theorem dX3_layStrong_134 : decode cX3_layStrong 134 = .ok (.istore 6, 2) := dk_54 6 (dk_at dksX3_layStrong_5 18 rfl rfl)
theorem dX3_layStrong_136 : decode cX3_layStrong 136 = .ok (.iload 6, 2) := dk_21 6 (dk_at dksX3_layStrong_5 20 rfl rfl)
theorem dX3_layStrong_138 : decode cX3_layStrong 138 = .ok (.iconst 5, 1) := dk_8 (dk_at dksX3_layStrong_5 22 rfl rfl)
theorem dX3_layStrong_139 : decode cX3_layStrong 139 = .ok (.if_icmp .ge 54, 3) := dk_162 0 54 (dk_at dksX3_layStrong_6 0 rfl rfl)
theorem dX3_layStrong_142 : decode cX3_layStrong 142 = .ok (.aload_n 0, 1) := dk_42 (dk_at dksX3_layStrong_6 3 rfl rfl)
theorem dX3_layStrong_143 : decode cX3_layStrong 143 = .ok (.getfield 26, 3) := dk_180 0 26 (dk_at dksX3_layStrong_6 4 rfl rfl)
theorem dX3_layStrong_146 : decode cX3_layStrong 146 = .ok (.iload 6, 2) := dk_21 6 (dk_at dksX3_layStrong_6 7 rfl rfl)
theorem dX3_layStrong_148 : decode cX3_layStrong 148 = .ok (.aload_n 0, 1) := dk_42 (dk_at dksX3_layStrong_6 9 rfl rfl)
theorem dX3_layStrong_149 : decode cX3_layStrong 149 = .ok (.getfield 26, 3) := dk_180 0 26 (dk_at dksX3_layStrong_6 10 rfl rfl)
theorem dX3_layStrong_152 : decode cX3_layStrong 152 = .ok (.iload 6, 2) := dk_21 6 (dk_at dksX3_layStrong_6 13 rfl rfl)
theorem dX3_layStrong_154 : decode cX3_layStrong 154 = .ok (.iconst 1, 1) := dk_4 (dk_at dksX3_layStrong_6 15 rfl rfl)
theorem dX3_layStrong_155 : decode cX3_layStrong 155 = .ok (.isub, 1) := dk_100 (dk_at dksX3_layStrong_6 16 rfl rfl)
theorem dX3_layStrong_156 : decode cX3_layStrong 156 = .ok (.iaload, 1) := dk_46 (dk_at dksX3_layStrong_6 17 rfl rfl)
theorem dX3_layStrong_157 : decode cX3_layStrong 157 = .ok (.aload_n 0, 1) := dk_42 (dk_at dksX3_layStrong_6 18 rfl rfl)
theorem dX3_layStrong_158 : decode cX3_layStrong 158 = .ok (.getfield 26, 3) := dk_180 0 26 (dk_at dksX3_layStrong_6 19 rfl rfl)
theorem dX3_layStrong_161 : decode cX3_layStrong 161 = .ok (.iload 6, 2) := dk_21 6 (dk_at dksX3_layStrong_6 22 rfl rfl)
theorem dX3_layStrong_163 : decode cX3_layStrong 163 = .ok (.iaload, 1) := dk_46 (dk_at dksX3_layStrong_7 0 rfl rfl)
theorem dX3_layStrong_164 : decode cX3_layStrong 164 = .ok (.if_icmp .le 15, 3) := dk_164 0 15 (dk_at dksX3_layStrong_7 1 rfl rfl)
theorem dX3_layStrong_167 : decode cX3_layStrong 167 = .ok (.aload_n 0, 1) := dk_42 (dk_at dksX3_layStrong_7 4 rfl rfl)
theorem dX3_layStrong_168 : decode cX3_layStrong 168 = .ok (.getfield 26, 3) := dk_180 0 26 (dk_at dksX3_layStrong_7 5 rfl rfl)
theorem dX3_layStrong_171 : decode cX3_layStrong 171 = .ok (.iload 6, 2) := dk_21 6 (dk_at dksX3_layStrong_7 8 rfl rfl)
theorem dX3_layStrong_173 : decode cX3_layStrong 173 = .ok (.iconst 1, 1) := dk_4 (dk_at dksX3_layStrong_7 10 rfl rfl)
theorem dX3_layStrong_174 : decode cX3_layStrong 174 = .ok (.isub, 1) := dk_100 (dk_at dksX3_layStrong_7 11 rfl rfl)
theorem dX3_layStrong_175 : decode cX3_layStrong 175 = .ok (.iaload, 1) := dk_46 (dk_at dksX3_layStrong_7 12 rfl rfl)
theorem dX3_layStrong_176 : decode cX3_layStrong 176 = .ok (.goto 10, 3) := dk_167 0 10 (dk_at dksX3_layStrong_7 13 rfl rfl)
theorem dX3_layStrong_179 : decode cX3_layStrong 179 = .ok (.aload_n 0, 1) := dk_42 (dk_at dksX3_layStrong_7 16 rfl rfl)
theorem dX3_layStrong_180 : decode cX3_layStrong 180 = .ok (.getfield 26, 3) := dk_180 0 26 (dk_at dksX3_layStrong_7 17 rfl rfl)
theorem dX3_layStrong_183 : decode cX3_layStrong 183 = .ok (.iload 6, 2) := dk_21 6 (dk_at dksX3_layStrong_7 20 rfl rfl)
theorem dX3_layStrong_185 : decode cX3_layStrong 185 = .ok (.iaload, 1) := dk_46 (dk_at dksX3_layStrong_7 22 rfl rfl)
theorem dX3_layStrong_186 : decode cX3_layStrong 186 = .ok (.iastore, 1) := dk_79 (dk_at dksX3_layStrong_7 23 rfl rfl)
theorem dX3_layStrong_187 : decode cX3_layStrong 187 = .ok (.iinc 6 1, 3) := dk_132 6 1 (dk_at dksX3_layStrong_8 0 rfl rfl)
theorem dX3_layStrong_190 : decode cX3_layStrong 190 = .ok (.goto (-54), 3) := dk_167 255 202 (dk_at dksX3_layStrong_8 3 rfl rfl)
theorem dX3_layStrong_193 : decode cX3_layStrong 193 = .ok (.return_, 1) := dk_177 (dk_at dksX3_layStrong_8 6 rfl rfl)
abbrev cX3_join : ByteArray := prog_9_method_30_code
def yX3_join : MethodName := ⟨RX3, "join", "(II)I"⟩
def dkwX3_join_4 : List UInt8 := [180, 0, 7, 29, 6, 184, 0, 89, 3, 79, 29, 172]
abbrev dktX3_join_4 : List UInt8 := dkwX3_join_4 ++ []
def dkwX3_join_3 : List UInt8 := [180, 0, 7, 29, 4, 184, 0, 89, 28, 79, 42, 180, 0, 7, 29, 5, 184, 0, 89, 3, 79, 42]
abbrev dktX3_join_3 : List UInt8 := dkwX3_join_3 ++ dktX3_join_4
def dkwX3_join_2 : List UInt8 := [62, 42, 180, 0, 7, 4, 92, 46, 4, 96, 79, 42, 180, 0, 7, 29, 3, 184, 0, 89, 27, 79, 42]
abbrev dktX3_join_2 : List UInt8 := dkwX3_join_2 ++ dktX3_join_3
def dkwX3_join_1 : List UInt8 := [42, 180, 0, 7, 4, 46, 16, 10, 160, 0, 6, 16, 252, 172, 42, 182, 0, 65, 42, 180, 0, 7, 4, 46]
abbrev dktX3_join_1 : List UInt8 := dkwX3_join_1 ++ dktX3_join_2
def dkwX3_join_0 : List UInt8 := [27, 3, 7, 184, 0, 29, 154, 0, 5, 2, 172, 28, 3, 16, 9, 184, 0, 29, 154, 0, 6, 16, 254, 172]
abbrev dktX3_join_0 : List UInt8 := dkwX3_join_0 ++ dktX3_join_1
theorem dksX3_join_0 : cX3_join.data.toList.drop 0 = dktX3_join_0 := by decide +kernel
theorem dksX3_join_1 : cX3_join.data.toList.drop 24 = dktX3_join_1 := dk_seg dksX3_join_0 24 rfl rfl
theorem dksX3_join_2 : cX3_join.data.toList.drop 48 = dktX3_join_2 := dk_seg dksX3_join_1 24 rfl rfl
theorem dksX3_join_3 : cX3_join.data.toList.drop 71 = dktX3_join_3 := dk_seg dksX3_join_2 23 rfl rfl
theorem dksX3_join_4 : cX3_join.data.toList.drop 93 = dktX3_join_4 := dk_seg dksX3_join_3 22 rfl rfl
theorem dX3_join_0 : decode cX3_join 0 = .ok (.iload_n 1, 1) := dk_27 (dk_at dksX3_join_0 0 rfl rfl)
theorem dX3_join_1 : decode cX3_join 1 = .ok (.iconst 0, 1) := dk_3 (dk_at dksX3_join_0 1 rfl rfl)
theorem dX3_join_2 : decode cX3_join 2 = .ok (.iconst 4, 1) := dk_7 (dk_at dksX3_join_0 2 rfl rfl)
theorem dX3_join_3 : decode cX3_join 3 = .ok (.invokestatic 29, 3) := dk_184 0 29 (dk_at dksX3_join_0 3 rfl rfl)
theorem dX3_join_6 : decode cX3_join 6 = .ok (.ifCond .ne 5, 3) := dk_154 0 5 (dk_at dksX3_join_0 6 rfl rfl)
theorem dX3_join_9 : decode cX3_join 9 = .ok (.iconst (-1), 1) := dk_2 (dk_at dksX3_join_0 9 rfl rfl)
theorem dX3_join_10 : decode cX3_join 10 = .ok (.ireturn, 1) := dk_172 (dk_at dksX3_join_0 10 rfl rfl)
theorem dX3_join_11 : decode cX3_join 11 = .ok (.iload_n 2, 1) := dk_28 (dk_at dksX3_join_0 11 rfl rfl)
theorem dX3_join_12 : decode cX3_join 12 = .ok (.iconst 0, 1) := dk_3 (dk_at dksX3_join_0 12 rfl rfl)
theorem dX3_join_13 : decode cX3_join 13 = .ok (.bipush 9, 2) := dk_16 9 (dk_at dksX3_join_0 13 rfl rfl)
theorem dX3_join_15 : decode cX3_join 15 = .ok (.invokestatic 29, 3) := dk_184 0 29 (dk_at dksX3_join_0 15 rfl rfl)
theorem dX3_join_18 : decode cX3_join 18 = .ok (.ifCond .ne 6, 3) := dk_154 0 6 (dk_at dksX3_join_0 18 rfl rfl)
theorem dX3_join_21 : decode cX3_join 21 = .ok (.bipush (-2), 2) := dk_16 254 (dk_at dksX3_join_0 21 rfl rfl)
theorem dX3_join_23 : decode cX3_join 23 = .ok (.ireturn, 1) := dk_172 (dk_at dksX3_join_0 23 rfl rfl)
theorem dX3_join_24 : decode cX3_join 24 = .ok (.aload_n 0, 1) := dk_42 (dk_at dksX3_join_1 0 rfl rfl)
theorem dX3_join_25 : decode cX3_join 25 = .ok (.getfield 7, 3) := dk_180 0 7 (dk_at dksX3_join_1 1 rfl rfl)
theorem dX3_join_28 : decode cX3_join 28 = .ok (.iconst 1, 1) := dk_4 (dk_at dksX3_join_1 4 rfl rfl)
theorem dX3_join_29 : decode cX3_join 29 = .ok (.iaload, 1) := dk_46 (dk_at dksX3_join_1 5 rfl rfl)
theorem dX3_join_30 : decode cX3_join 30 = .ok (.bipush 10, 2) := dk_16 10 (dk_at dksX3_join_1 6 rfl rfl)
theorem dX3_join_32 : decode cX3_join 32 = .ok (.if_icmp .ne 6, 3) := dk_160 0 6 (dk_at dksX3_join_1 8 rfl rfl)
theorem dX3_join_35 : decode cX3_join 35 = .ok (.bipush (-4), 2) := dk_16 252 (dk_at dksX3_join_1 11 rfl rfl)
theorem dX3_join_37 : decode cX3_join 37 = .ok (.ireturn, 1) := dk_172 (dk_at dksX3_join_1 13 rfl rfl)
theorem dX3_join_38 : decode cX3_join 38 = .ok (.aload_n 0, 1) := dk_42 (dk_at dksX3_join_1 14 rfl rfl)
theorem dX3_join_39 : decode cX3_join 39 = .ok (.invokevirtual 65, 3) := dk_182 0 65 (dk_at dksX3_join_1 15 rfl rfl)
theorem dX3_join_42 : decode cX3_join 42 = .ok (.aload_n 0, 1) := dk_42 (dk_at dksX3_join_1 18 rfl rfl)
theorem dX3_join_43 : decode cX3_join 43 = .ok (.getfield 7, 3) := dk_180 0 7 (dk_at dksX3_join_1 19 rfl rfl)
theorem dX3_join_46 : decode cX3_join 46 = .ok (.iconst 1, 1) := dk_4 (dk_at dksX3_join_1 22 rfl rfl)
theorem dX3_join_47 : decode cX3_join 47 = .ok (.iaload, 1) := dk_46 (dk_at dksX3_join_1 23 rfl rfl)
theorem dX3_join_48 : decode cX3_join 48 = .ok (.istore_n 3, 1) := dk_62 (dk_at dksX3_join_2 0 rfl rfl)
theorem dX3_join_49 : decode cX3_join 49 = .ok (.aload_n 0, 1) := dk_42 (dk_at dksX3_join_2 1 rfl rfl)
theorem dX3_join_50 : decode cX3_join 50 = .ok (.getfield 7, 3) := dk_180 0 7 (dk_at dksX3_join_2 2 rfl rfl)
theorem dX3_join_53 : decode cX3_join 53 = .ok (.iconst 1, 1) := dk_4 (dk_at dksX3_join_2 5 rfl rfl)
theorem dX3_join_54 : decode cX3_join 54 = .ok (.dup2, 1) := dk_92 (dk_at dksX3_join_2 6 rfl rfl)
theorem dX3_join_55 : decode cX3_join 55 = .ok (.iaload, 1) := dk_46 (dk_at dksX3_join_2 7 rfl rfl)
theorem dX3_join_56 : decode cX3_join 56 = .ok (.iconst 1, 1) := dk_4 (dk_at dksX3_join_2 8 rfl rfl)
theorem dX3_join_57 : decode cX3_join 57 = .ok (.iadd, 1) := dk_96 (dk_at dksX3_join_2 9 rfl rfl)
theorem dX3_join_58 : decode cX3_join 58 = .ok (.iastore, 1) := dk_79 (dk_at dksX3_join_2 10 rfl rfl)
theorem dX3_join_59 : decode cX3_join 59 = .ok (.aload_n 0, 1) := dk_42 (dk_at dksX3_join_2 11 rfl rfl)
theorem dX3_join_60 : decode cX3_join 60 = .ok (.getfield 7, 3) := dk_180 0 7 (dk_at dksX3_join_2 12 rfl rfl)
theorem dX3_join_63 : decode cX3_join 63 = .ok (.iload_n 3, 1) := dk_29 (dk_at dksX3_join_2 15 rfl rfl)
theorem dX3_join_64 : decode cX3_join 64 = .ok (.iconst 0, 1) := dk_3 (dk_at dksX3_join_2 16 rfl rfl)
theorem dX3_join_65 : decode cX3_join 65 = .ok (.invokestatic 89, 3) := dk_184 0 89 (dk_at dksX3_join_2 17 rfl rfl)
theorem dX3_join_68 : decode cX3_join 68 = .ok (.iload_n 1, 1) := dk_27 (dk_at dksX3_join_2 20 rfl rfl)
theorem dX3_join_69 : decode cX3_join 69 = .ok (.iastore, 1) := dk_79 (dk_at dksX3_join_2 21 rfl rfl)
theorem dX3_join_70 : decode cX3_join 70 = .ok (.aload_n 0, 1) := dk_42 (dk_at dksX3_join_2 22 rfl rfl)
theorem dX3_join_71 : decode cX3_join 71 = .ok (.getfield 7, 3) := dk_180 0 7 (dk_at dksX3_join_3 0 rfl rfl)
theorem dX3_join_74 : decode cX3_join 74 = .ok (.iload_n 3, 1) := dk_29 (dk_at dksX3_join_3 3 rfl rfl)
theorem dX3_join_75 : decode cX3_join 75 = .ok (.iconst 1, 1) := dk_4 (dk_at dksX3_join_3 4 rfl rfl)
theorem dX3_join_76 : decode cX3_join 76 = .ok (.invokestatic 89, 3) := dk_184 0 89 (dk_at dksX3_join_3 5 rfl rfl)
theorem dX3_join_79 : decode cX3_join 79 = .ok (.iload_n 2, 1) := dk_28 (dk_at dksX3_join_3 8 rfl rfl)
theorem dX3_join_80 : decode cX3_join 80 = .ok (.iastore, 1) := dk_79 (dk_at dksX3_join_3 9 rfl rfl)
theorem dX3_join_81 : decode cX3_join 81 = .ok (.aload_n 0, 1) := dk_42 (dk_at dksX3_join_3 10 rfl rfl)
theorem dX3_join_82 : decode cX3_join 82 = .ok (.getfield 7, 3) := dk_180 0 7 (dk_at dksX3_join_3 11 rfl rfl)
theorem dX3_join_85 : decode cX3_join 85 = .ok (.iload_n 3, 1) := dk_29 (dk_at dksX3_join_3 14 rfl rfl)
theorem dX3_join_86 : decode cX3_join 86 = .ok (.iconst 2, 1) := dk_5 (dk_at dksX3_join_3 15 rfl rfl)
theorem dX3_join_87 : decode cX3_join 87 = .ok (.invokestatic 89, 3) := dk_184 0 89 (dk_at dksX3_join_3 16 rfl rfl)
theorem dX3_join_90 : decode cX3_join 90 = .ok (.iconst 0, 1) := dk_3 (dk_at dksX3_join_3 19 rfl rfl)
theorem dX3_join_91 : decode cX3_join 91 = .ok (.iastore, 1) := dk_79 (dk_at dksX3_join_3 20 rfl rfl)
theorem dX3_join_92 : decode cX3_join 92 = .ok (.aload_n 0, 1) := dk_42 (dk_at dksX3_join_3 21 rfl rfl)
theorem dX3_join_93 : decode cX3_join 93 = .ok (.getfield 7, 3) := dk_180 0 7 (dk_at dksX3_join_4 0 rfl rfl)
theorem dX3_join_96 : decode cX3_join 96 = .ok (.iload_n 3, 1) := dk_29 (dk_at dksX3_join_4 3 rfl rfl)
theorem dX3_join_97 : decode cX3_join 97 = .ok (.iconst 3, 1) := dk_6 (dk_at dksX3_join_4 4 rfl rfl)
theorem dX3_join_98 : decode cX3_join 98 = .ok (.invokestatic 89, 3) := dk_184 0 89 (dk_at dksX3_join_4 5 rfl rfl)
theorem dX3_join_101 : decode cX3_join 101 = .ok (.iconst 0, 1) := dk_3 (dk_at dksX3_join_4 8 rfl rfl)
theorem dX3_join_102 : decode cX3_join 102 = .ok (.iastore, 1) := dk_79 (dk_at dksX3_join_4 9 rfl rfl)
theorem dX3_join_103 : decode cX3_join 103 = .ok (.iload_n 3, 1) := dk_29 (dk_at dksX3_join_4 10 rfl rfl)
theorem dX3_join_104 : decode cX3_join 104 = .ok (.ireturn, 1) := dk_172 (dk_at dksX3_join_4 11 rfl rfl)
abbrev cX3_ofGuild : ByteArray := prog_9_method_9_code
def yX3_ofGuild : MethodName := ⟨RX3, "ofGuild", "(II)I"⟩
def dkwX3_ofGuild_0 : List UInt8 := [17, 0, 129, 7, 26, 104, 96, 27, 96, 172]
abbrev dktX3_ofGuild_0 : List UInt8 := dkwX3_ofGuild_0 ++ []
theorem dksX3_ofGuild_0 : cX3_ofGuild.data.toList.drop 0 = dktX3_ofGuild_0 := by decide +kernel
theorem dX3_ofGuild_0 : decode cX3_ofGuild 0 = .ok (.sipush 129, 3) := dk_17 0 129 (dk_at dksX3_ofGuild_0 0 rfl rfl)
theorem dX3_ofGuild_3 : decode cX3_ofGuild 3 = .ok (.iconst 4, 1) := dk_7 (dk_at dksX3_ofGuild_0 3 rfl rfl)
theorem dX3_ofGuild_4 : decode cX3_ofGuild 4 = .ok (.iload_n 0, 1) := dk_26 (dk_at dksX3_ofGuild_0 4 rfl rfl)
theorem dX3_ofGuild_5 : decode cX3_ofGuild 5 = .ok (.imul, 1) := dk_104 (dk_at dksX3_ofGuild_0 5 rfl rfl)
theorem dX3_ofGuild_6 : decode cX3_ofGuild 6 = .ok (.iadd, 1) := dk_96 (dk_at dksX3_ofGuild_0 6 rfl rfl)
theorem dX3_ofGuild_7 : decode cX3_ofGuild 7 = .ok (.iload_n 1, 1) := dk_27 (dk_at dksX3_ofGuild_0 7 rfl rfl)
theorem dX3_ofGuild_8 : decode cX3_ofGuild 8 = .ok (.iadd, 1) := dk_96 (dk_at dksX3_ofGuild_0 8 rfl rfl)
theorem dX3_ofGuild_9 : decode cX3_ofGuild 9 = .ok (.ireturn, 1) := dk_172 (dk_at dksX3_ofGuild_0 9 rfl rfl)
abbrev cX3_leave : ByteArray := prog_9_method_31_code
def yX3_leave : MethodName := ⟨RX3, "leave", "(I)I"⟩
def dkwX3_leave_4 : List UInt8 := [3, 79, 132, 3, 1, 167, 255, 232, 28, 172]
abbrev dktX3_leave_4 : List UInt8 := dkwX3_leave_4 ++ []
def dkwX3_leave_3 : List UInt8 := [167, 255, 225, 3, 62, 29, 7, 162, 0, 25, 42, 180, 0, 7, 42, 180, 0, 7, 4, 46, 29, 184, 0, 89]
abbrev dktX3_leave_3 : List UInt8 := dkwX3_leave_3 ++ dktX3_leave_4
def dkwX3_leave_2 : List UInt8 := [3, 184, 0, 89, 162, 0, 23, 42, 180, 0, 7, 29, 42, 180, 0, 7, 29, 7, 96, 46, 79, 132, 3, 1]
abbrev dktX3_leave_2 : List UInt8 := dkwX3_leave_2 ++ dktX3_leave_3
def dkwX3_leave_1 : List UInt8 := [61, 42, 180, 0, 7, 4, 92, 46, 4, 100, 79, 27, 3, 184, 0, 89, 62, 29, 42, 180, 0, 7, 4, 46]
abbrev dktX3_leave_1 : List UInt8 := dkwX3_leave_1 ++ dktX3_leave_2
def dkwX3_leave_0 : List UInt8 := [42, 27, 182, 0, 92, 154, 0, 5, 2, 172, 42, 182, 0, 65, 42, 180, 0, 7, 27, 5, 184, 0, 89, 46]
abbrev dktX3_leave_0 : List UInt8 := dkwX3_leave_0 ++ dktX3_leave_1
theorem dksX3_leave_0 : cX3_leave.data.toList.drop 0 = dktX3_leave_0 := by decide +kernel
theorem dksX3_leave_1 : cX3_leave.data.toList.drop 24 = dktX3_leave_1 := dk_seg dksX3_leave_0 24 rfl rfl
theorem dksX3_leave_2 : cX3_leave.data.toList.drop 48 = dktX3_leave_2 := dk_seg dksX3_leave_1 24 rfl rfl
theorem dksX3_leave_3 : cX3_leave.data.toList.drop 72 = dktX3_leave_3 := dk_seg dksX3_leave_2 24 rfl rfl
theorem dksX3_leave_4 : cX3_leave.data.toList.drop 96 = dktX3_leave_4 := dk_seg dksX3_leave_3 24 rfl rfl
theorem dX3_leave_0 : decode cX3_leave 0 = .ok (.aload_n 0, 1) := dk_42 (dk_at dksX3_leave_0 0 rfl rfl)
theorem dX3_leave_1 : decode cX3_leave 1 = .ok (.iload_n 1, 1) := dk_27 (dk_at dksX3_leave_0 1 rfl rfl)
theorem dX3_leave_2 : decode cX3_leave 2 = .ok (.invokevirtual 92, 3) := dk_182 0 92 (dk_at dksX3_leave_0 2 rfl rfl)
theorem dX3_leave_5 : decode cX3_leave 5 = .ok (.ifCond .ne 5, 3) := dk_154 0 5 (dk_at dksX3_leave_0 5 rfl rfl)
theorem dX3_leave_8 : decode cX3_leave 8 = .ok (.iconst (-1), 1) := dk_2 (dk_at dksX3_leave_0 8 rfl rfl)
theorem dX3_leave_9 : decode cX3_leave 9 = .ok (.ireturn, 1) := dk_172 (dk_at dksX3_leave_0 9 rfl rfl)
theorem dX3_leave_10 : decode cX3_leave 10 = .ok (.aload_n 0, 1) := dk_42 (dk_at dksX3_leave_0 10 rfl rfl)
theorem dX3_leave_11 : decode cX3_leave 11 = .ok (.invokevirtual 65, 3) := dk_182 0 65 (dk_at dksX3_leave_0 11 rfl rfl)
theorem dX3_leave_14 : decode cX3_leave 14 = .ok (.aload_n 0, 1) := dk_42 (dk_at dksX3_leave_0 14 rfl rfl)
theorem dX3_leave_15 : decode cX3_leave 15 = .ok (.getfield 7, 3) := dk_180 0 7 (dk_at dksX3_leave_0 15 rfl rfl)
theorem dX3_leave_18 : decode cX3_leave 18 = .ok (.iload_n 1, 1) := dk_27 (dk_at dksX3_leave_0 18 rfl rfl)
theorem dX3_leave_19 : decode cX3_leave 19 = .ok (.iconst 2, 1) := dk_5 (dk_at dksX3_leave_0 19 rfl rfl)
theorem dX3_leave_20 : decode cX3_leave 20 = .ok (.invokestatic 89, 3) := dk_184 0 89 (dk_at dksX3_leave_0 20 rfl rfl)
theorem dX3_leave_23 : decode cX3_leave 23 = .ok (.iaload, 1) := dk_46 (dk_at dksX3_leave_0 23 rfl rfl)
theorem dX3_leave_24 : decode cX3_leave 24 = .ok (.istore_n 2, 1) := dk_61 (dk_at dksX3_leave_1 0 rfl rfl)
theorem dX3_leave_25 : decode cX3_leave 25 = .ok (.aload_n 0, 1) := dk_42 (dk_at dksX3_leave_1 1 rfl rfl)
theorem dX3_leave_26 : decode cX3_leave 26 = .ok (.getfield 7, 3) := dk_180 0 7 (dk_at dksX3_leave_1 2 rfl rfl)
theorem dX3_leave_29 : decode cX3_leave 29 = .ok (.iconst 1, 1) := dk_4 (dk_at dksX3_leave_1 5 rfl rfl)
theorem dX3_leave_30 : decode cX3_leave 30 = .ok (.dup2, 1) := dk_92 (dk_at dksX3_leave_1 6 rfl rfl)
theorem dX3_leave_31 : decode cX3_leave 31 = .ok (.iaload, 1) := dk_46 (dk_at dksX3_leave_1 7 rfl rfl)
theorem dX3_leave_32 : decode cX3_leave 32 = .ok (.iconst 1, 1) := dk_4 (dk_at dksX3_leave_1 8 rfl rfl)
theorem dX3_leave_33 : decode cX3_leave 33 = .ok (.isub, 1) := dk_100 (dk_at dksX3_leave_1 9 rfl rfl)
theorem dX3_leave_34 : decode cX3_leave 34 = .ok (.iastore, 1) := dk_79 (dk_at dksX3_leave_1 10 rfl rfl)
theorem dX3_leave_35 : decode cX3_leave 35 = .ok (.iload_n 1, 1) := dk_27 (dk_at dksX3_leave_1 11 rfl rfl)
theorem dX3_leave_36 : decode cX3_leave 36 = .ok (.iconst 0, 1) := dk_3 (dk_at dksX3_leave_1 12 rfl rfl)
theorem dX3_leave_37 : decode cX3_leave 37 = .ok (.invokestatic 89, 3) := dk_184 0 89 (dk_at dksX3_leave_1 13 rfl rfl)
theorem dX3_leave_40 : decode cX3_leave 40 = .ok (.istore_n 3, 1) := dk_62 (dk_at dksX3_leave_1 16 rfl rfl)
theorem dX3_leave_41 : decode cX3_leave 41 = .ok (.iload_n 3, 1) := dk_29 (dk_at dksX3_leave_1 17 rfl rfl)
theorem dX3_leave_42 : decode cX3_leave 42 = .ok (.aload_n 0, 1) := dk_42 (dk_at dksX3_leave_1 18 rfl rfl)
theorem dX3_leave_43 : decode cX3_leave 43 = .ok (.getfield 7, 3) := dk_180 0 7 (dk_at dksX3_leave_1 19 rfl rfl)
theorem dX3_leave_46 : decode cX3_leave 46 = .ok (.iconst 1, 1) := dk_4 (dk_at dksX3_leave_1 22 rfl rfl)
theorem dX3_leave_47 : decode cX3_leave 47 = .ok (.iaload, 1) := dk_46 (dk_at dksX3_leave_1 23 rfl rfl)
theorem dX3_leave_48 : decode cX3_leave 48 = .ok (.iconst 0, 1) := dk_3 (dk_at dksX3_leave_2 0 rfl rfl)
theorem dX3_leave_49 : decode cX3_leave 49 = .ok (.invokestatic 89, 3) := dk_184 0 89 (dk_at dksX3_leave_2 1 rfl rfl)
theorem dX3_leave_52 : decode cX3_leave 52 = .ok (.if_icmp .ge 23, 3) := dk_162 0 23 (dk_at dksX3_leave_2 4 rfl rfl)
theorem dX3_leave_55 : decode cX3_leave 55 = .ok (.aload_n 0, 1) := dk_42 (dk_at dksX3_leave_2 7 rfl rfl)
theorem dX3_leave_56 : decode cX3_leave 56 = .ok (.getfield 7, 3) := dk_180 0 7 (dk_at dksX3_leave_2 8 rfl rfl)
theorem dX3_leave_59 : decode cX3_leave 59 = .ok (.iload_n 3, 1) := dk_29 (dk_at dksX3_leave_2 11 rfl rfl)
theorem dX3_leave_60 : decode cX3_leave 60 = .ok (.aload_n 0, 1) := dk_42 (dk_at dksX3_leave_2 12 rfl rfl)
theorem dX3_leave_61 : decode cX3_leave 61 = .ok (.getfield 7, 3) := dk_180 0 7 (dk_at dksX3_leave_2 13 rfl rfl)
theorem dX3_leave_64 : decode cX3_leave 64 = .ok (.iload_n 3, 1) := dk_29 (dk_at dksX3_leave_2 16 rfl rfl)
theorem dX3_leave_65 : decode cX3_leave 65 = .ok (.iconst 4, 1) := dk_7 (dk_at dksX3_leave_2 17 rfl rfl)
theorem dX3_leave_66 : decode cX3_leave 66 = .ok (.iadd, 1) := dk_96 (dk_at dksX3_leave_2 18 rfl rfl)
theorem dX3_leave_67 : decode cX3_leave 67 = .ok (.iaload, 1) := dk_46 (dk_at dksX3_leave_2 19 rfl rfl)
theorem dX3_leave_68 : decode cX3_leave 68 = .ok (.iastore, 1) := dk_79 (dk_at dksX3_leave_2 20 rfl rfl)
theorem dX3_leave_69 : decode cX3_leave 69 = .ok (.iinc 3 1, 3) := dk_132 3 1 (dk_at dksX3_leave_2 21 rfl rfl)
theorem dX3_leave_72 : decode cX3_leave 72 = .ok (.goto (-31), 3) := dk_167 255 225 (dk_at dksX3_leave_3 0 rfl rfl)
theorem dX3_leave_75 : decode cX3_leave 75 = .ok (.iconst 0, 1) := dk_3 (dk_at dksX3_leave_3 3 rfl rfl)
theorem dX3_leave_76 : decode cX3_leave 76 = .ok (.istore_n 3, 1) := dk_62 (dk_at dksX3_leave_3 4 rfl rfl)
theorem dX3_leave_77 : decode cX3_leave 77 = .ok (.iload_n 3, 1) := dk_29 (dk_at dksX3_leave_3 5 rfl rfl)
theorem dX3_leave_78 : decode cX3_leave 78 = .ok (.iconst 4, 1) := dk_7 (dk_at dksX3_leave_3 6 rfl rfl)
theorem dX3_leave_79 : decode cX3_leave 79 = .ok (.if_icmp .ge 25, 3) := dk_162 0 25 (dk_at dksX3_leave_3 7 rfl rfl)
theorem dX3_leave_82 : decode cX3_leave 82 = .ok (.aload_n 0, 1) := dk_42 (dk_at dksX3_leave_3 10 rfl rfl)
theorem dX3_leave_83 : decode cX3_leave 83 = .ok (.getfield 7, 3) := dk_180 0 7 (dk_at dksX3_leave_3 11 rfl rfl)
theorem dX3_leave_86 : decode cX3_leave 86 = .ok (.aload_n 0, 1) := dk_42 (dk_at dksX3_leave_3 14 rfl rfl)
theorem dX3_leave_87 : decode cX3_leave 87 = .ok (.getfield 7, 3) := dk_180 0 7 (dk_at dksX3_leave_3 15 rfl rfl)
theorem dX3_leave_90 : decode cX3_leave 90 = .ok (.iconst 1, 1) := dk_4 (dk_at dksX3_leave_3 18 rfl rfl)
theorem dX3_leave_91 : decode cX3_leave 91 = .ok (.iaload, 1) := dk_46 (dk_at dksX3_leave_3 19 rfl rfl)
theorem dX3_leave_92 : decode cX3_leave 92 = .ok (.iload_n 3, 1) := dk_29 (dk_at dksX3_leave_3 20 rfl rfl)
theorem dX3_leave_93 : decode cX3_leave 93 = .ok (.invokestatic 89, 3) := dk_184 0 89 (dk_at dksX3_leave_3 21 rfl rfl)
theorem dX3_leave_96 : decode cX3_leave 96 = .ok (.iconst 0, 1) := dk_3 (dk_at dksX3_leave_4 0 rfl rfl)
theorem dX3_leave_97 : decode cX3_leave 97 = .ok (.iastore, 1) := dk_79 (dk_at dksX3_leave_4 1 rfl rfl)
theorem dX3_leave_98 : decode cX3_leave 98 = .ok (.iinc 3 1, 3) := dk_132 3 1 (dk_at dksX3_leave_4 2 rfl rfl)
theorem dX3_leave_101 : decode cX3_leave 101 = .ok (.goto (-24), 3) := dk_167 255 232 (dk_at dksX3_leave_4 5 rfl rfl)
theorem dX3_leave_104 : decode cX3_leave 104 = .ok (.iload_n 2, 1) := dk_28 (dk_at dksX3_leave_4 8 rfl rfl)
theorem dX3_leave_105 : decode cX3_leave 105 = .ok (.ireturn, 1) := dk_172 (dk_at dksX3_leave_4 9 rfl rfl)
abbrev cX3_isMember : ByteArray := prog_9_method_5_code
def yX3_isMember : MethodName := ⟨RX3, "isMember", "(I)Z"⟩
def dkwX3_isMember_0 : List UInt8 := [27, 3, 42, 180, 0, 7, 4, 46, 4, 100, 184, 0, 29, 172]
abbrev dktX3_isMember_0 : List UInt8 := dkwX3_isMember_0 ++ []
theorem dksX3_isMember_0 : cX3_isMember.data.toList.drop 0 = dktX3_isMember_0 := by decide +kernel
theorem dX3_isMember_0 : decode cX3_isMember 0 = .ok (.iload_n 1, 1) := dk_27 (dk_at dksX3_isMember_0 0 rfl rfl)
theorem dX3_isMember_1 : decode cX3_isMember 1 = .ok (.iconst 0, 1) := dk_3 (dk_at dksX3_isMember_0 1 rfl rfl)
theorem dX3_isMember_2 : decode cX3_isMember 2 = .ok (.aload_n 0, 1) := dk_42 (dk_at dksX3_isMember_0 2 rfl rfl)
theorem dX3_isMember_3 : decode cX3_isMember 3 = .ok (.getfield 7, 3) := dk_180 0 7 (dk_at dksX3_isMember_0 3 rfl rfl)
theorem dX3_isMember_6 : decode cX3_isMember 6 = .ok (.iconst 1, 1) := dk_4 (dk_at dksX3_isMember_0 6 rfl rfl)
theorem dX3_isMember_7 : decode cX3_isMember 7 = .ok (.iaload, 1) := dk_46 (dk_at dksX3_isMember_0 7 rfl rfl)
theorem dX3_isMember_8 : decode cX3_isMember 8 = .ok (.iconst 1, 1) := dk_4 (dk_at dksX3_isMember_0 8 rfl rfl)
theorem dX3_isMember_9 : decode cX3_isMember 9 = .ok (.isub, 1) := dk_100 (dk_at dksX3_isMember_0 9 rfl rfl)
theorem dX3_isMember_10 : decode cX3_isMember 10 = .ok (.invokestatic 29, 3) := dk_184 0 29 (dk_at dksX3_isMember_0 10 rfl rfl)
theorem dX3_isMember_13 : decode cX3_isMember 13 = .ok (.ireturn, 1) := dk_172 (dk_at dksX3_isMember_0 13 rfl rfl)
abbrev cX3_rank : ByteArray := prog_9_method_32_code
def yX3_rank : MethodName := ⟨RX3, "rank", "(II)I"⟩
def dkwX3_rank_1 : List UInt8 := [184, 0, 89, 28, 182, 0, 79, 167, 0, 5, 16, 254, 172]
abbrev dktX3_rank_1 : List UInt8 := dkwX3_rank_1 ++ []
def dkwX3_rank_0 : List UInt8 := [42, 27, 182, 0, 92, 154, 0, 5, 2, 172, 28, 3, 16, 9, 184, 0, 29, 153, 0, 16, 42, 27, 4]
abbrev dktX3_rank_0 : List UInt8 := dkwX3_rank_0 ++ dktX3_rank_1
theorem dksX3_rank_0 : cX3_rank.data.toList.drop 0 = dktX3_rank_0 := by decide +kernel
theorem dksX3_rank_1 : cX3_rank.data.toList.drop 23 = dktX3_rank_1 := dk_seg dksX3_rank_0 23 rfl rfl
theorem dX3_rank_0 : decode cX3_rank 0 = .ok (.aload_n 0, 1) := dk_42 (dk_at dksX3_rank_0 0 rfl rfl)
theorem dX3_rank_1 : decode cX3_rank 1 = .ok (.iload_n 1, 1) := dk_27 (dk_at dksX3_rank_0 1 rfl rfl)
theorem dX3_rank_2 : decode cX3_rank 2 = .ok (.invokevirtual 92, 3) := dk_182 0 92 (dk_at dksX3_rank_0 2 rfl rfl)
theorem dX3_rank_5 : decode cX3_rank 5 = .ok (.ifCond .ne 5, 3) := dk_154 0 5 (dk_at dksX3_rank_0 5 rfl rfl)
theorem dX3_rank_8 : decode cX3_rank 8 = .ok (.iconst (-1), 1) := dk_2 (dk_at dksX3_rank_0 8 rfl rfl)
theorem dX3_rank_9 : decode cX3_rank 9 = .ok (.ireturn, 1) := dk_172 (dk_at dksX3_rank_0 9 rfl rfl)
theorem dX3_rank_10 : decode cX3_rank 10 = .ok (.iload_n 2, 1) := dk_28 (dk_at dksX3_rank_0 10 rfl rfl)
theorem dX3_rank_11 : decode cX3_rank 11 = .ok (.iconst 0, 1) := dk_3 (dk_at dksX3_rank_0 11 rfl rfl)
theorem dX3_rank_12 : decode cX3_rank 12 = .ok (.bipush 9, 2) := dk_16 9 (dk_at dksX3_rank_0 12 rfl rfl)
theorem dX3_rank_14 : decode cX3_rank 14 = .ok (.invokestatic 29, 3) := dk_184 0 29 (dk_at dksX3_rank_0 14 rfl rfl)
theorem dX3_rank_17 : decode cX3_rank 17 = .ok (.ifCond .eq 16, 3) := dk_153 0 16 (dk_at dksX3_rank_0 17 rfl rfl)
theorem dX3_rank_20 : decode cX3_rank 20 = .ok (.aload_n 0, 1) := dk_42 (dk_at dksX3_rank_0 20 rfl rfl)
theorem dX3_rank_21 : decode cX3_rank 21 = .ok (.iload_n 1, 1) := dk_27 (dk_at dksX3_rank_0 21 rfl rfl)
theorem dX3_rank_22 : decode cX3_rank 22 = .ok (.iconst 1, 1) := dk_4 (dk_at dksX3_rank_0 22 rfl rfl)
theorem dX3_rank_23 : decode cX3_rank 23 = .ok (.invokestatic 89, 3) := dk_184 0 89 (dk_at dksX3_rank_1 0 rfl rfl)
theorem dX3_rank_26 : decode cX3_rank 26 = .ok (.iload_n 2, 1) := dk_28 (dk_at dksX3_rank_1 3 rfl rfl)
theorem dX3_rank_27 : decode cX3_rank 27 = .ok (.invokevirtual 79, 3) := dk_182 0 79 (dk_at dksX3_rank_1 4 rfl rfl)
theorem dX3_rank_30 : decode cX3_rank 30 = .ok (.goto 5, 3) := dk_167 0 5 (dk_at dksX3_rank_1 7 rfl rfl)
theorem dX3_rank_33 : decode cX3_rank 33 = .ok (.bipush (-2), 2) := dk_16 254 (dk_at dksX3_rank_1 10 rfl rfl)
theorem dX3_rank_35 : decode cX3_rank 35 = .ok (.ireturn, 1) := dk_172 (dk_at dksX3_rank_1 12 rfl rfl)
abbrev cX3_act : ByteArray := prog_9_method_33_code
def yX3_act : MethodName := ⟨RX3, "act", "(II)I"⟩
def dkwX3_act_4 : List UInt8 := [29, 3, 182, 0, 41, 96, 54, 4, 42, 180, 0, 7, 21, 4, 92, 46, 4, 96, 79, 29, 172]
abbrev dktX3_act_4 : List UInt8 := dkwX3_act_4 ++ []
def dkwX3_act_3 : List UInt8 := [79, 29, 16, 250, 160, 0, 7, 5, 167, 0, 22, 29, 16, 100, 160, 0, 8, 16, 8, 167, 0, 11, 6, 42]
abbrev dktX3_act_3 : List UInt8 := dkwX3_act_3 ++ dktX3_act_4
def dkwX3_act_2 : List UInt8 := [62, 42, 180, 0, 7, 27, 29, 16, 250, 160, 0, 7, 5, 167, 0, 4, 6, 184, 0, 89, 92, 46, 4, 96]
abbrev dktX3_act_2 : List UInt8 := dkwX3_act_2 ++ dktX3_act_3
def dkwX3_act_1 : List UInt8 := [42, 180, 0, 7, 27, 3, 184, 0, 89, 46, 28, 42, 180, 0, 7, 27, 4, 184, 0, 89, 46, 182, 0, 95]
abbrev dktX3_act_1 : List UInt8 := dkwX3_act_1 ++ dktX3_act_2
def dkwX3_act_0 : List UInt8 := [42, 27, 182, 0, 92, 153, 0, 12, 28, 3, 8, 184, 0, 29, 154, 0, 5, 2, 172, 42, 182, 0, 65, 42]
abbrev dktX3_act_0 : List UInt8 := dkwX3_act_0 ++ dktX3_act_1
theorem dksX3_act_0 : cX3_act.data.toList.drop 0 = dktX3_act_0 := by decide +kernel
theorem dksX3_act_1 : cX3_act.data.toList.drop 24 = dktX3_act_1 := dk_seg dksX3_act_0 24 rfl rfl
theorem dksX3_act_2 : cX3_act.data.toList.drop 48 = dktX3_act_2 := dk_seg dksX3_act_1 24 rfl rfl
theorem dksX3_act_3 : cX3_act.data.toList.drop 72 = dktX3_act_3 := dk_seg dksX3_act_2 24 rfl rfl
theorem dksX3_act_4 : cX3_act.data.toList.drop 96 = dktX3_act_4 := dk_seg dksX3_act_3 24 rfl rfl
theorem dX3_act_0 : decode cX3_act 0 = .ok (.aload_n 0, 1) := dk_42 (dk_at dksX3_act_0 0 rfl rfl)
theorem dX3_act_1 : decode cX3_act 1 = .ok (.iload_n 1, 1) := dk_27 (dk_at dksX3_act_0 1 rfl rfl)
theorem dX3_act_2 : decode cX3_act 2 = .ok (.invokevirtual 92, 3) := dk_182 0 92 (dk_at dksX3_act_0 2 rfl rfl)
theorem dX3_act_5 : decode cX3_act 5 = .ok (.ifCond .eq 12, 3) := dk_153 0 12 (dk_at dksX3_act_0 5 rfl rfl)
theorem dX3_act_8 : decode cX3_act 8 = .ok (.iload_n 2, 1) := dk_28 (dk_at dksX3_act_0 8 rfl rfl)
theorem dX3_act_9 : decode cX3_act 9 = .ok (.iconst 0, 1) := dk_3 (dk_at dksX3_act_0 9 rfl rfl)
theorem dX3_act_10 : decode cX3_act 10 = .ok (.iconst 5, 1) := dk_8 (dk_at dksX3_act_0 10 rfl rfl)
theorem dX3_act_11 : decode cX3_act 11 = .ok (.invokestatic 29, 3) := dk_184 0 29 (dk_at dksX3_act_0 11 rfl rfl)
theorem dX3_act_14 : decode cX3_act 14 = .ok (.ifCond .ne 5, 3) := dk_154 0 5 (dk_at dksX3_act_0 14 rfl rfl)
theorem dX3_act_17 : decode cX3_act 17 = .ok (.iconst (-1), 1) := dk_2 (dk_at dksX3_act_0 17 rfl rfl)
theorem dX3_act_18 : decode cX3_act 18 = .ok (.ireturn, 1) := dk_172 (dk_at dksX3_act_0 18 rfl rfl)
theorem dX3_act_19 : decode cX3_act 19 = .ok (.aload_n 0, 1) := dk_42 (dk_at dksX3_act_0 19 rfl rfl)
theorem dX3_act_20 : decode cX3_act 20 = .ok (.invokevirtual 65, 3) := dk_182 0 65 (dk_at dksX3_act_0 20 rfl rfl)
theorem dX3_act_23 : decode cX3_act 23 = .ok (.aload_n 0, 1) := dk_42 (dk_at dksX3_act_0 23 rfl rfl)
theorem dX3_act_24 : decode cX3_act 24 = .ok (.aload_n 0, 1) := dk_42 (dk_at dksX3_act_1 0 rfl rfl)
theorem dX3_act_25 : decode cX3_act 25 = .ok (.getfield 7, 3) := dk_180 0 7 (dk_at dksX3_act_1 1 rfl rfl)
theorem dX3_act_28 : decode cX3_act 28 = .ok (.iload_n 1, 1) := dk_27 (dk_at dksX3_act_1 4 rfl rfl)
theorem dX3_act_29 : decode cX3_act 29 = .ok (.iconst 0, 1) := dk_3 (dk_at dksX3_act_1 5 rfl rfl)
theorem dX3_act_30 : decode cX3_act 30 = .ok (.invokestatic 89, 3) := dk_184 0 89 (dk_at dksX3_act_1 6 rfl rfl)
theorem dX3_act_33 : decode cX3_act 33 = .ok (.iaload, 1) := dk_46 (dk_at dksX3_act_1 9 rfl rfl)
theorem dX3_act_34 : decode cX3_act 34 = .ok (.iload_n 2, 1) := dk_28 (dk_at dksX3_act_1 10 rfl rfl)
theorem dX3_act_35 : decode cX3_act 35 = .ok (.aload_n 0, 1) := dk_42 (dk_at dksX3_act_1 11 rfl rfl)
theorem dX3_act_36 : decode cX3_act 36 = .ok (.getfield 7, 3) := dk_180 0 7 (dk_at dksX3_act_1 12 rfl rfl)
theorem dX3_act_39 : decode cX3_act 39 = .ok (.iload_n 1, 1) := dk_27 (dk_at dksX3_act_1 15 rfl rfl)
theorem dX3_act_40 : decode cX3_act 40 = .ok (.iconst 1, 1) := dk_4 (dk_at dksX3_act_1 16 rfl rfl)
theorem dX3_act_41 : decode cX3_act 41 = .ok (.invokestatic 89, 3) := dk_184 0 89 (dk_at dksX3_act_1 17 rfl rfl)
theorem dX3_act_44 : decode cX3_act 44 = .ok (.iaload, 1) := dk_46 (dk_at dksX3_act_1 20 rfl rfl)
theorem dX3_act_45 : decode cX3_act 45 = .ok (.invokevirtual 95, 3) := dk_182 0 95 (dk_at dksX3_act_1 21 rfl rfl)
theorem dX3_act_48 : decode cX3_act 48 = .ok (.istore_n 3, 1) := dk_62 (dk_at dksX3_act_2 0 rfl rfl)
theorem dX3_act_49 : decode cX3_act 49 = .ok (.aload_n 0, 1) := dk_42 (dk_at dksX3_act_2 1 rfl rfl)
theorem dX3_act_50 : decode cX3_act 50 = .ok (.getfield 7, 3) := dk_180 0 7 (dk_at dksX3_act_2 2 rfl rfl)
theorem dX3_act_53 : decode cX3_act 53 = .ok (.iload_n 1, 1) := dk_27 (dk_at dksX3_act_2 5 rfl rfl)
theorem dX3_act_54 : decode cX3_act 54 = .ok (.iload_n 3, 1) := dk_29 (dk_at dksX3_act_2 6 rfl rfl)
theorem dX3_act_55 : decode cX3_act 55 = .ok (.bipush (-6), 2) := dk_16 250 (dk_at dksX3_act_2 7 rfl rfl)
theorem dX3_act_57 : decode cX3_act 57 = .ok (.if_icmp .ne 7, 3) := dk_160 0 7 (dk_at dksX3_act_2 9 rfl rfl)
theorem dX3_act_60 : decode cX3_act 60 = .ok (.iconst 2, 1) := dk_5 (dk_at dksX3_act_2 12 rfl rfl)
theorem dX3_act_61 : decode cX3_act 61 = .ok (.goto 4, 3) := dk_167 0 4 (dk_at dksX3_act_2 13 rfl rfl)
theorem dX3_act_64 : decode cX3_act 64 = .ok (.iconst 3, 1) := dk_6 (dk_at dksX3_act_2 16 rfl rfl)
theorem dX3_act_65 : decode cX3_act 65 = .ok (.invokestatic 89, 3) := dk_184 0 89 (dk_at dksX3_act_2 17 rfl rfl)
theorem dX3_act_68 : decode cX3_act 68 = .ok (.dup2, 1) := dk_92 (dk_at dksX3_act_2 20 rfl rfl)
theorem dX3_act_69 : decode cX3_act 69 = .ok (.iaload, 1) := dk_46 (dk_at dksX3_act_2 21 rfl rfl)
theorem dX3_act_70 : decode cX3_act 70 = .ok (.iconst 1, 1) := dk_4 (dk_at dksX3_act_2 22 rfl rfl)
theorem dX3_act_71 : decode cX3_act 71 = .ok (.iadd, 1) := dk_96 (dk_at dksX3_act_2 23 rfl rfl)
theorem dX3_act_72 : decode cX3_act 72 = .ok (.iastore, 1) := dk_79 (dk_at dksX3_act_3 0 rfl rfl)
theorem dX3_act_73 : decode cX3_act 73 = .ok (.iload_n 3, 1) := dk_29 (dk_at dksX3_act_3 1 rfl rfl)
theorem dX3_act_74 : decode cX3_act 74 = .ok (.bipush (-6), 2) := dk_16 250 (dk_at dksX3_act_3 2 rfl rfl)
theorem dX3_act_76 : decode cX3_act 76 = .ok (.if_icmp .ne 7, 3) := dk_160 0 7 (dk_at dksX3_act_3 4 rfl rfl)
theorem dX3_act_79 : decode cX3_act 79 = .ok (.iconst 2, 1) := dk_5 (dk_at dksX3_act_3 7 rfl rfl)
theorem dX3_act_80 : decode cX3_act 80 = .ok (.goto 22, 3) := dk_167 0 22 (dk_at dksX3_act_3 8 rfl rfl)
theorem dX3_act_83 : decode cX3_act 83 = .ok (.iload_n 3, 1) := dk_29 (dk_at dksX3_act_3 11 rfl rfl)
theorem dX3_act_84 : decode cX3_act 84 = .ok (.bipush 100, 2) := dk_16 100 (dk_at dksX3_act_3 12 rfl rfl)
theorem dX3_act_86 : decode cX3_act 86 = .ok (.if_icmp .ne 8, 3) := dk_160 0 8 (dk_at dksX3_act_3 14 rfl rfl)
theorem dX3_act_89 : decode cX3_act 89 = .ok (.bipush 8, 2) := dk_16 8 (dk_at dksX3_act_3 17 rfl rfl)
theorem dX3_act_91 : decode cX3_act 91 = .ok (.goto 11, 3) := dk_167 0 11 (dk_at dksX3_act_3 19 rfl rfl)
theorem dX3_act_94 : decode cX3_act 94 = .ok (.iconst 3, 1) := dk_6 (dk_at dksX3_act_3 22 rfl rfl)
theorem dX3_act_95 : decode cX3_act 95 = .ok (.aload_n 0, 1) := dk_42 (dk_at dksX3_act_3 23 rfl rfl)
theorem dX3_act_96 : decode cX3_act 96 = .ok (.iload_n 3, 1) := dk_29 (dk_at dksX3_act_4 0 rfl rfl)
theorem dX3_act_97 : decode cX3_act 97 = .ok (.iconst 0, 1) := dk_3 (dk_at dksX3_act_4 1 rfl rfl)
theorem dX3_act_98 : decode cX3_act 98 = .ok (.invokevirtual 41, 3) := dk_182 0 41 (dk_at dksX3_act_4 2 rfl rfl)
theorem dX3_act_101 : decode cX3_act 101 = .ok (.iadd, 1) := dk_96 (dk_at dksX3_act_4 5 rfl rfl)
theorem dX3_act_102 : decode cX3_act 102 = .ok (.istore 4, 2) := dk_54 4 (dk_at dksX3_act_4 6 rfl rfl)
theorem dX3_act_104 : decode cX3_act 104 = .ok (.aload_n 0, 1) := dk_42 (dk_at dksX3_act_4 8 rfl rfl)
theorem dX3_act_105 : decode cX3_act 105 = .ok (.getfield 7, 3) := dk_180 0 7 (dk_at dksX3_act_4 9 rfl rfl)
theorem dX3_act_108 : decode cX3_act 108 = .ok (.iload 4, 2) := dk_21 4 (dk_at dksX3_act_4 12 rfl rfl)
theorem dX3_act_110 : decode cX3_act 110 = .ok (.dup2, 1) := dk_92 (dk_at dksX3_act_4 14 rfl rfl)
theorem dX3_act_111 : decode cX3_act 111 = .ok (.iaload, 1) := dk_46 (dk_at dksX3_act_4 15 rfl rfl)
theorem dX3_act_112 : decode cX3_act 112 = .ok (.iconst 1, 1) := dk_4 (dk_at dksX3_act_4 16 rfl rfl)
theorem dX3_act_113 : decode cX3_act 113 = .ok (.iadd, 1) := dk_96 (dk_at dksX3_act_4 17 rfl rfl)
theorem dX3_act_114 : decode cX3_act 114 = .ok (.iastore, 1) := dk_79 (dk_at dksX3_act_4 18 rfl rfl)
theorem dX3_act_115 : decode cX3_act 115 = .ok (.iload_n 3, 1) := dk_29 (dk_at dksX3_act_4 19 rfl rfl)
theorem dX3_act_116 : decode cX3_act 116 = .ok (.ireturn, 1) := dk_172 (dk_at dksX3_act_4 20 rfl rfl)
abbrev cX3_reason : ByteArray := prog_9_method_16_code
def yX3_reason : MethodName := ⟨RX3, "reason", "(III)I"⟩
def dkwX3_reason_6 : List UInt8 := [167, 0, 5, 21, 5, 54, 5, 132, 6, 255, 167, 255, 142, 21, 5, 172]
abbrev dktX3_reason_6 : List UInt8 := dkwX3_reason_6 ++ []
def dkwX3_reason_5 : List UInt8 := [159, 0, 20, 42, 21, 6, 3, 182, 0, 41, 42, 21, 5, 3, 182, 0, 41, 163, 0, 8, 21, 6]
abbrev dktX3_reason_5 : List UInt8 := dkwX3_reason_5 ++ dktX3_reason_6
def dkwX3_reason_4 : List UInt8 := [182, 0, 41, 162, 0, 7, 4, 167, 0, 4, 3, 54, 7, 21, 7, 153, 0, 32, 21, 5, 16, 250]
abbrev dktX3_reason_4 : List UInt8 := dkwX3_reason_4 ++ dktX3_reason_5
def dkwX3_reason_3 : List UInt8 := [21, 6, 3, 182, 0, 41, 46, 42, 21, 6, 7, 182, 0, 41, 162, 0, 18, 29, 42, 21, 6, 7]
abbrev dktX3_reason_3 : List UInt8 := dkwX3_reason_3 ++ dktX3_reason_4
def dkwX3_reason_2 : List UInt8 := [182, 0, 41, 4, 160, 0, 51, 42, 21, 6, 27, 28, 182, 0, 44, 153, 0, 40, 42, 180, 0, 26, 42]
abbrev dktX3_reason_2 : List UInt8 := dkwX3_reason_2 ++ dktX3_reason_3
def dkwX3_reason_1 : List UInt8 := [180, 0, 7, 3, 46, 4, 100, 54, 6, 21, 6, 155, 0, 115, 29, 21, 4, 162, 0, 109, 42, 21, 6, 4]
abbrev dktX3_reason_1 : List UInt8 := dkwX3_reason_1 ++ dktX3_reason_2
def dkwX3_reason_0 : List UInt8 := [42, 27, 28, 182, 0, 58, 54, 4, 21, 4, 16, 10, 160, 0, 6, 16, 100, 172, 16, 250, 54, 5, 42]
abbrev dktX3_reason_0 : List UInt8 := dkwX3_reason_0 ++ dktX3_reason_1
theorem dksX3_reason_0 : cX3_reason.data.toList.drop 0 = dktX3_reason_0 := by decide +kernel
theorem dksX3_reason_1 : cX3_reason.data.toList.drop 23 = dktX3_reason_1 := dk_seg dksX3_reason_0 23 rfl rfl
theorem dksX3_reason_2 : cX3_reason.data.toList.drop 47 = dktX3_reason_2 := dk_seg dksX3_reason_1 24 rfl rfl
theorem dksX3_reason_3 : cX3_reason.data.toList.drop 70 = dktX3_reason_3 := dk_seg dksX3_reason_2 23 rfl rfl
theorem dksX3_reason_4 : cX3_reason.data.toList.drop 92 = dktX3_reason_4 := dk_seg dksX3_reason_3 22 rfl rfl
theorem dksX3_reason_5 : cX3_reason.data.toList.drop 114 = dktX3_reason_5 := dk_seg dksX3_reason_4 22 rfl rfl
theorem dksX3_reason_6 : cX3_reason.data.toList.drop 136 = dktX3_reason_6 := dk_seg dksX3_reason_5 22 rfl rfl
theorem dX3_reason_0 : decode cX3_reason 0 = .ok (.aload_n 0, 1) := dk_42 (dk_at dksX3_reason_0 0 rfl rfl)
theorem dX3_reason_1 : decode cX3_reason 1 = .ok (.iload_n 1, 1) := dk_27 (dk_at dksX3_reason_0 1 rfl rfl)
theorem dX3_reason_2 : decode cX3_reason 2 = .ok (.iload_n 2, 1) := dk_28 (dk_at dksX3_reason_0 2 rfl rfl)
theorem dX3_reason_3 : decode cX3_reason 3 = .ok (.invokevirtual 58, 3) := dk_182 0 58 (dk_at dksX3_reason_0 3 rfl rfl)
theorem dX3_reason_6 : decode cX3_reason 6 = .ok (.istore 4, 2) := dk_54 4 (dk_at dksX3_reason_0 6 rfl rfl)
theorem dX3_reason_8 : decode cX3_reason 8 = .ok (.iload 4, 2) := dk_21 4 (dk_at dksX3_reason_0 8 rfl rfl)
theorem dX3_reason_10 : decode cX3_reason 10 = .ok (.bipush 10, 2) := dk_16 10 (dk_at dksX3_reason_0 10 rfl rfl)
theorem dX3_reason_12 : decode cX3_reason 12 = .ok (.if_icmp .ne 6, 3) := dk_160 0 6 (dk_at dksX3_reason_0 12 rfl rfl)
theorem dX3_reason_15 : decode cX3_reason 15 = .ok (.bipush 100, 2) := dk_16 100 (dk_at dksX3_reason_0 15 rfl rfl)
theorem dX3_reason_17 : decode cX3_reason 17 = .ok (.ireturn, 1) := dk_172 (dk_at dksX3_reason_0 17 rfl rfl)
theorem dX3_reason_18 : decode cX3_reason 18 = .ok (.bipush (-6), 2) := dk_16 250 (dk_at dksX3_reason_0 18 rfl rfl)
theorem dX3_reason_20 : decode cX3_reason 20 = .ok (.istore 5, 2) := dk_54 5 (dk_at dksX3_reason_0 20 rfl rfl)
theorem dX3_reason_22 : decode cX3_reason 22 = .ok (.aload_n 0, 1) := dk_42 (dk_at dksX3_reason_0 22 rfl rfl)
theorem dX3_reason_23 : decode cX3_reason 23 = .ok (.getfield 7, 3) := dk_180 0 7 (dk_at dksX3_reason_1 0 rfl rfl)
theorem dX3_reason_26 : decode cX3_reason 26 = .ok (.iconst 0, 1) := dk_3 (dk_at dksX3_reason_1 3 rfl rfl)
theorem dX3_reason_27 : decode cX3_reason 27 = .ok (.iaload, 1) := dk_46 (dk_at dksX3_reason_1 4 rfl rfl)
theorem dX3_reason_28 : decode cX3_reason 28 = .ok (.iconst 1, 1) := dk_4 (dk_at dksX3_reason_1 5 rfl rfl)
theorem dX3_reason_29 : decode cX3_reason 29 = .ok (.isub, 1) := dk_100 (dk_at dksX3_reason_1 6 rfl rfl)
theorem dX3_reason_30 : decode cX3_reason 30 = .ok (.istore 6, 2) := dk_54 6 (dk_at dksX3_reason_1 7 rfl rfl)
theorem dX3_reason_32 : decode cX3_reason 32 = .ok (.iload 6, 2) := dk_21 6 (dk_at dksX3_reason_1 9 rfl rfl)
theorem dX3_reason_34 : decode cX3_reason 34 = .ok (.ifCond .lt 115, 3) := dk_155 0 115 (dk_at dksX3_reason_1 11 rfl rfl)
theorem dX3_reason_37 : decode cX3_reason 37 = .ok (.iload_n 3, 1) := dk_29 (dk_at dksX3_reason_1 14 rfl rfl)
theorem dX3_reason_38 : decode cX3_reason 38 = .ok (.iload 4, 2) := dk_21 4 (dk_at dksX3_reason_1 15 rfl rfl)
theorem dX3_reason_40 : decode cX3_reason 40 = .ok (.if_icmp .ge 109, 3) := dk_162 0 109 (dk_at dksX3_reason_1 17 rfl rfl)
theorem dX3_reason_43 : decode cX3_reason 43 = .ok (.aload_n 0, 1) := dk_42 (dk_at dksX3_reason_1 20 rfl rfl)
theorem dX3_reason_44 : decode cX3_reason 44 = .ok (.iload 6, 2) := dk_21 6 (dk_at dksX3_reason_1 21 rfl rfl)
theorem dX3_reason_46 : decode cX3_reason 46 = .ok (.iconst 1, 1) := dk_4 (dk_at dksX3_reason_1 23 rfl rfl)
theorem dX3_reason_47 : decode cX3_reason 47 = .ok (.invokevirtual 41, 3) := dk_182 0 41 (dk_at dksX3_reason_2 0 rfl rfl)
theorem dX3_reason_50 : decode cX3_reason 50 = .ok (.iconst 1, 1) := dk_4 (dk_at dksX3_reason_2 3 rfl rfl)
theorem dX3_reason_51 : decode cX3_reason 51 = .ok (.if_icmp .ne 51, 3) := dk_160 0 51 (dk_at dksX3_reason_2 4 rfl rfl)
theorem dX3_reason_54 : decode cX3_reason 54 = .ok (.aload_n 0, 1) := dk_42 (dk_at dksX3_reason_2 7 rfl rfl)
theorem dX3_reason_55 : decode cX3_reason 55 = .ok (.iload 6, 2) := dk_21 6 (dk_at dksX3_reason_2 8 rfl rfl)
theorem dX3_reason_57 : decode cX3_reason 57 = .ok (.iload_n 1, 1) := dk_27 (dk_at dksX3_reason_2 10 rfl rfl)
theorem dX3_reason_58 : decode cX3_reason 58 = .ok (.iload_n 2, 1) := dk_28 (dk_at dksX3_reason_2 11 rfl rfl)
theorem dX3_reason_59 : decode cX3_reason 59 = .ok (.invokevirtual 44, 3) := dk_182 0 44 (dk_at dksX3_reason_2 12 rfl rfl)
theorem dX3_reason_62 : decode cX3_reason 62 = .ok (.ifCond .eq 40, 3) := dk_153 0 40 (dk_at dksX3_reason_2 15 rfl rfl)
theorem dX3_reason_65 : decode cX3_reason 65 = .ok (.aload_n 0, 1) := dk_42 (dk_at dksX3_reason_2 18 rfl rfl)
theorem dX3_reason_66 : decode cX3_reason 66 = .ok (.getfield 26, 3) := dk_180 0 26 (dk_at dksX3_reason_2 19 rfl rfl)
theorem dX3_reason_69 : decode cX3_reason 69 = .ok (.aload_n 0, 1) := dk_42 (dk_at dksX3_reason_2 22 rfl rfl)
theorem dX3_reason_70 : decode cX3_reason 70 = .ok (.iload 6, 2) := dk_21 6 (dk_at dksX3_reason_3 0 rfl rfl)
theorem dX3_reason_72 : decode cX3_reason 72 = .ok (.iconst 0, 1) := dk_3 (dk_at dksX3_reason_3 2 rfl rfl)
theorem dX3_reason_73 : decode cX3_reason 73 = .ok (.invokevirtual 41, 3) := dk_182 0 41 (dk_at dksX3_reason_3 3 rfl rfl)
theorem dX3_reason_76 : decode cX3_reason 76 = .ok (.iaload, 1) := dk_46 (dk_at dksX3_reason_3 6 rfl rfl)
theorem dX3_reason_77 : decode cX3_reason 77 = .ok (.aload_n 0, 1) := dk_42 (dk_at dksX3_reason_3 7 rfl rfl)
theorem dX3_reason_78 : decode cX3_reason 78 = .ok (.iload 6, 2) := dk_21 6 (dk_at dksX3_reason_3 8 rfl rfl)
theorem dX3_reason_80 : decode cX3_reason 80 = .ok (.iconst 4, 1) := dk_7 (dk_at dksX3_reason_3 10 rfl rfl)
theorem dX3_reason_81 : decode cX3_reason 81 = .ok (.invokevirtual 41, 3) := dk_182 0 41 (dk_at dksX3_reason_3 11 rfl rfl)
theorem dX3_reason_84 : decode cX3_reason 84 = .ok (.if_icmp .ge 18, 3) := dk_162 0 18 (dk_at dksX3_reason_3 14 rfl rfl)
theorem dX3_reason_87 : decode cX3_reason 87 = .ok (.iload_n 3, 1) := dk_29 (dk_at dksX3_reason_3 17 rfl rfl)
theorem dX3_reason_88 : decode cX3_reason 88 = .ok (.aload_n 0, 1) := dk_42 (dk_at dksX3_reason_3 18 rfl rfl)
theorem dX3_reason_89 : decode cX3_reason 89 = .ok (.iload 6, 2) := dk_21 6 (dk_at dksX3_reason_3 19 rfl rfl)
theorem dX3_reason_91 : decode cX3_reason 91 = .ok (.iconst 4, 1) := dk_7 (dk_at dksX3_reason_3 21 rfl rfl)
theorem dX3_reason_92 : decode cX3_reason 92 = .ok (.invokevirtual 41, 3) := dk_182 0 41 (dk_at dksX3_reason_4 0 rfl rfl)
theorem dX3_reason_95 : decode cX3_reason 95 = .ok (.if_icmp .ge 7, 3) := dk_162 0 7 (dk_at dksX3_reason_4 3 rfl rfl)
theorem dX3_reason_98 : decode cX3_reason 98 = .ok (.iconst 1, 1) := dk_4 (dk_at dksX3_reason_4 6 rfl rfl)
theorem dX3_reason_99 : decode cX3_reason 99 = .ok (.goto 4, 3) := dk_167 0 4 (dk_at dksX3_reason_4 7 rfl rfl)
theorem dX3_reason_102 : decode cX3_reason 102 = .ok (.iconst 0, 1) := dk_3 (dk_at dksX3_reason_4 10 rfl rfl)
theorem dX3_reason_103 : decode cX3_reason 103 = .ok (.istore 7, 2) := dk_54 7 (dk_at dksX3_reason_4 11 rfl rfl)
theorem dX3_reason_105 : decode cX3_reason 105 = .ok (.iload 7, 2) := dk_21 7 (dk_at dksX3_reason_4 13 rfl rfl)
theorem dX3_reason_107 : decode cX3_reason 107 = .ok (.ifCond .eq 32, 3) := dk_153 0 32 (dk_at dksX3_reason_4 15 rfl rfl)
theorem dX3_reason_110 : decode cX3_reason 110 = .ok (.iload 5, 2) := dk_21 5 (dk_at dksX3_reason_4 18 rfl rfl)
theorem dX3_reason_112 : decode cX3_reason 112 = .ok (.bipush (-6), 2) := dk_16 250 (dk_at dksX3_reason_4 20 rfl rfl)
theorem dX3_reason_114 : decode cX3_reason 114 = .ok (.if_icmp .eq 20, 3) := dk_159 0 20 (dk_at dksX3_reason_5 0 rfl rfl)
theorem dX3_reason_117 : decode cX3_reason 117 = .ok (.aload_n 0, 1) := dk_42 (dk_at dksX3_reason_5 3 rfl rfl)
theorem dX3_reason_118 : decode cX3_reason 118 = .ok (.iload 6, 2) := dk_21 6 (dk_at dksX3_reason_5 4 rfl rfl)
theorem dX3_reason_120 : decode cX3_reason 120 = .ok (.iconst 0, 1) := dk_3 (dk_at dksX3_reason_5 6 rfl rfl)
theorem dX3_reason_121 : decode cX3_reason 121 = .ok (.invokevirtual 41, 3) := dk_182 0 41 (dk_at dksX3_reason_5 7 rfl rfl)
theorem dX3_reason_124 : decode cX3_reason 124 = .ok (.aload_n 0, 1) := dk_42 (dk_at dksX3_reason_5 10 rfl rfl)
theorem dX3_reason_125 : decode cX3_reason 125 = .ok (.iload 5, 2) := dk_21 5 (dk_at dksX3_reason_5 11 rfl rfl)
theorem dX3_reason_127 : decode cX3_reason 127 = .ok (.iconst 0, 1) := dk_3 (dk_at dksX3_reason_5 13 rfl rfl)
theorem dX3_reason_128 : decode cX3_reason 128 = .ok (.invokevirtual 41, 3) := dk_182 0 41 (dk_at dksX3_reason_5 14 rfl rfl)
theorem dX3_reason_131 : decode cX3_reason 131 = .ok (.if_icmp .gt 8, 3) := dk_163 0 8 (dk_at dksX3_reason_5 17 rfl rfl)
theorem dX3_reason_134 : decode cX3_reason 134 = .ok (.iload 6, 2) := dk_21 6 (dk_at dksX3_reason_5 20 rfl rfl)
theorem dX3_reason_136 : decode cX3_reason 136 = .ok (.goto 5, 3) := dk_167 0 5 (dk_at dksX3_reason_6 0 rfl rfl)
theorem dX3_reason_139 : decode cX3_reason 139 = .ok (.iload 5, 2) := dk_21 5 (dk_at dksX3_reason_6 3 rfl rfl)
theorem dX3_reason_141 : decode cX3_reason 141 = .ok (.istore 5, 2) := dk_54 5 (dk_at dksX3_reason_6 5 rfl rfl)
theorem dX3_reason_143 : decode cX3_reason 143 = .ok (.iinc 6 (-1), 3) := dk_132 6 255 (dk_at dksX3_reason_6 7 rfl rfl)
theorem dX3_reason_146 : decode cX3_reason 146 = .ok (.goto (-114), 3) := dk_167 255 142 (dk_at dksX3_reason_6 10 rfl rfl)
theorem dX3_reason_149 : decode cX3_reason 149 = .ok (.iload 5, 2) := dk_21 5 (dk_at dksX3_reason_6 13 rfl rfl)
theorem dX3_reason_151 : decode cX3_reason 151 = .ok (.ireturn, 1) := dk_172 (dk_at dksX3_reason_6 15 rfl rfl)
abbrev cX3_rule : ByteArray := prog_9_method_35_code
def yX3_rule : MethodName := ⟨RX3, "rule", "(II)I"⟩
def dkwX3_rule_5 : List UInt8 := [167, 0, 5, 16, 254, 172]
abbrev dktX3_rule_5 : List UInt8 := dkwX3_rule_5 ++ []
def dkwX3_rule_4 : List UInt8 := [16, 6, 167, 0, 4, 4, 104, 172, 28, 3, 7, 184, 0, 29, 153, 0, 12, 42, 27, 28, 182, 0, 41]
abbrev dktX3_rule_4 : List UInt8 := dkwX3_rule_4 ++ dktX3_rule_5
def dkwX3_rule_3 : List UInt8 := [182, 0, 41, 8, 160, 0, 7, 8, 167, 0, 4, 4, 42, 27, 6, 182, 0, 41, 16, 6, 160, 0, 8]
abbrev dktX3_rule_3 : List UInt8 := dkwX3_rule_3 ++ dktX3_rule_4
def dkwX3_rule_2 : List UInt8 := [42, 27, 182, 0, 82, 153, 0, 7, 4, 167, 0, 4, 3, 172, 42, 27, 182, 0, 102, 172, 42, 27, 5]
abbrev dktX3_rule_2 : List UInt8 := dkwX3_rule_2 ++ dktX3_rule_3
def dkwX3_rule_1 : List UInt8 := [170, 0, 0, 0, 79, 0, 0, 0, 5, 0, 0, 0, 7, 0, 0, 0, 25, 0, 0, 0, 39, 0, 0, 0, 45]
abbrev dktX3_rule_1 : List UInt8 := dkwX3_rule_1 ++ dktX3_rule_2
def dkwX3_rule_0 : List UInt8 := [42, 27, 182, 0, 71, 154, 0, 5, 2, 172, 28]
abbrev dktX3_rule_0 : List UInt8 := dkwX3_rule_0 ++ dktX3_rule_1
theorem dksX3_rule_0 : cX3_rule.data.toList.drop 0 = dktX3_rule_0 := by decide +kernel
theorem dksX3_rule_1 : cX3_rule.data.toList.drop 11 = dktX3_rule_1 := dk_seg dksX3_rule_0 11 rfl rfl
theorem dksX3_rule_2 : cX3_rule.data.toList.drop 36 = dktX3_rule_2 := dk_seg dksX3_rule_1 25 rfl rfl
theorem dksX3_rule_3 : cX3_rule.data.toList.drop 59 = dktX3_rule_3 := dk_seg dksX3_rule_2 23 rfl rfl
theorem dksX3_rule_4 : cX3_rule.data.toList.drop 82 = dktX3_rule_4 := dk_seg dksX3_rule_3 23 rfl rfl
theorem dksX3_rule_5 : cX3_rule.data.toList.drop 105 = dktX3_rule_5 := dk_seg dksX3_rule_4 23 rfl rfl
theorem dX3_rule_0 : decode cX3_rule 0 = .ok (.aload_n 0, 1) := dk_42 (dk_at dksX3_rule_0 0 rfl rfl)
theorem dX3_rule_1 : decode cX3_rule 1 = .ok (.iload_n 1, 1) := dk_27 (dk_at dksX3_rule_0 1 rfl rfl)
theorem dX3_rule_2 : decode cX3_rule 2 = .ok (.invokevirtual 71, 3) := dk_182 0 71 (dk_at dksX3_rule_0 2 rfl rfl)
theorem dX3_rule_5 : decode cX3_rule 5 = .ok (.ifCond .ne 5, 3) := dk_154 0 5 (dk_at dksX3_rule_0 5 rfl rfl)
theorem dX3_rule_8 : decode cX3_rule 8 = .ok (.iconst (-1), 1) := dk_2 (dk_at dksX3_rule_0 8 rfl rfl)
theorem dX3_rule_9 : decode cX3_rule 9 = .ok (.ireturn, 1) := dk_172 (dk_at dksX3_rule_0 9 rfl rfl)
theorem dX3_rule_10 : decode cX3_rule 10 = .ok (.iload_n 2, 1) := dk_28 (dk_at dksX3_rule_0 10 rfl rfl)
theorem dX3_rule_11 : decode cX3_rule 11 = .ok (.tableswitch 79 5 7 #[25, 39, 45], 25) := by decide +kernel
theorem dX3_rule_36 : decode cX3_rule 36 = .ok (.aload_n 0, 1) := dk_42 (dk_at dksX3_rule_2 0 rfl rfl)
theorem dX3_rule_37 : decode cX3_rule 37 = .ok (.iload_n 1, 1) := dk_27 (dk_at dksX3_rule_2 1 rfl rfl)
theorem dX3_rule_38 : decode cX3_rule 38 = .ok (.invokevirtual 82, 3) := dk_182 0 82 (dk_at dksX3_rule_2 2 rfl rfl)
theorem dX3_rule_41 : decode cX3_rule 41 = .ok (.ifCond .eq 7, 3) := dk_153 0 7 (dk_at dksX3_rule_2 5 rfl rfl)
theorem dX3_rule_44 : decode cX3_rule 44 = .ok (.iconst 1, 1) := dk_4 (dk_at dksX3_rule_2 8 rfl rfl)
theorem dX3_rule_45 : decode cX3_rule 45 = .ok (.goto 4, 3) := dk_167 0 4 (dk_at dksX3_rule_2 9 rfl rfl)
theorem dX3_rule_48 : decode cX3_rule 48 = .ok (.iconst 0, 1) := dk_3 (dk_at dksX3_rule_2 12 rfl rfl)
theorem dX3_rule_49 : decode cX3_rule 49 = .ok (.ireturn, 1) := dk_172 (dk_at dksX3_rule_2 13 rfl rfl)
theorem dX3_rule_50 : decode cX3_rule 50 = .ok (.aload_n 0, 1) := dk_42 (dk_at dksX3_rule_2 14 rfl rfl)
theorem dX3_rule_51 : decode cX3_rule 51 = .ok (.iload_n 1, 1) := dk_27 (dk_at dksX3_rule_2 15 rfl rfl)
theorem dX3_rule_52 : decode cX3_rule 52 = .ok (.invokevirtual 102, 3) := dk_182 0 102 (dk_at dksX3_rule_2 16 rfl rfl)
theorem dX3_rule_55 : decode cX3_rule 55 = .ok (.ireturn, 1) := dk_172 (dk_at dksX3_rule_2 19 rfl rfl)
theorem dX3_rule_56 : decode cX3_rule 56 = .ok (.aload_n 0, 1) := dk_42 (dk_at dksX3_rule_2 20 rfl rfl)
theorem dX3_rule_57 : decode cX3_rule 57 = .ok (.iload_n 1, 1) := dk_27 (dk_at dksX3_rule_2 21 rfl rfl)
theorem dX3_rule_58 : decode cX3_rule 58 = .ok (.iconst 2, 1) := dk_5 (dk_at dksX3_rule_2 22 rfl rfl)
theorem dX3_rule_59 : decode cX3_rule 59 = .ok (.invokevirtual 41, 3) := dk_182 0 41 (dk_at dksX3_rule_3 0 rfl rfl)
theorem dX3_rule_62 : decode cX3_rule 62 = .ok (.iconst 5, 1) := dk_8 (dk_at dksX3_rule_3 3 rfl rfl)
theorem dX3_rule_63 : decode cX3_rule 63 = .ok (.if_icmp .ne 7, 3) := dk_160 0 7 (dk_at dksX3_rule_3 4 rfl rfl)
theorem dX3_rule_66 : decode cX3_rule 66 = .ok (.iconst 5, 1) := dk_8 (dk_at dksX3_rule_3 7 rfl rfl)
theorem dX3_rule_67 : decode cX3_rule 67 = .ok (.goto 4, 3) := dk_167 0 4 (dk_at dksX3_rule_3 8 rfl rfl)
theorem dX3_rule_70 : decode cX3_rule 70 = .ok (.iconst 1, 1) := dk_4 (dk_at dksX3_rule_3 11 rfl rfl)
theorem dX3_rule_71 : decode cX3_rule 71 = .ok (.aload_n 0, 1) := dk_42 (dk_at dksX3_rule_3 12 rfl rfl)
theorem dX3_rule_72 : decode cX3_rule 72 = .ok (.iload_n 1, 1) := dk_27 (dk_at dksX3_rule_3 13 rfl rfl)
theorem dX3_rule_73 : decode cX3_rule 73 = .ok (.iconst 3, 1) := dk_6 (dk_at dksX3_rule_3 14 rfl rfl)
theorem dX3_rule_74 : decode cX3_rule 74 = .ok (.invokevirtual 41, 3) := dk_182 0 41 (dk_at dksX3_rule_3 15 rfl rfl)
theorem dX3_rule_77 : decode cX3_rule 77 = .ok (.bipush 6, 2) := dk_16 6 (dk_at dksX3_rule_3 18 rfl rfl)
theorem dX3_rule_79 : decode cX3_rule 79 = .ok (.if_icmp .ne 8, 3) := dk_160 0 8 (dk_at dksX3_rule_3 20 rfl rfl)
theorem dX3_rule_82 : decode cX3_rule 82 = .ok (.bipush 6, 2) := dk_16 6 (dk_at dksX3_rule_4 0 rfl rfl)
theorem dX3_rule_84 : decode cX3_rule 84 = .ok (.goto 4, 3) := dk_167 0 4 (dk_at dksX3_rule_4 2 rfl rfl)
theorem dX3_rule_87 : decode cX3_rule 87 = .ok (.iconst 1, 1) := dk_4 (dk_at dksX3_rule_4 5 rfl rfl)
theorem dX3_rule_88 : decode cX3_rule 88 = .ok (.imul, 1) := dk_104 (dk_at dksX3_rule_4 6 rfl rfl)
theorem dX3_rule_89 : decode cX3_rule 89 = .ok (.ireturn, 1) := dk_172 (dk_at dksX3_rule_4 7 rfl rfl)
theorem dX3_rule_90 : decode cX3_rule 90 = .ok (.iload_n 2, 1) := dk_28 (dk_at dksX3_rule_4 8 rfl rfl)
theorem dX3_rule_91 : decode cX3_rule 91 = .ok (.iconst 0, 1) := dk_3 (dk_at dksX3_rule_4 9 rfl rfl)
theorem dX3_rule_92 : decode cX3_rule 92 = .ok (.iconst 4, 1) := dk_7 (dk_at dksX3_rule_4 10 rfl rfl)
theorem dX3_rule_93 : decode cX3_rule 93 = .ok (.invokestatic 29, 3) := dk_184 0 29 (dk_at dksX3_rule_4 11 rfl rfl)
theorem dX3_rule_96 : decode cX3_rule 96 = .ok (.ifCond .eq 12, 3) := dk_153 0 12 (dk_at dksX3_rule_4 14 rfl rfl)
theorem dX3_rule_99 : decode cX3_rule 99 = .ok (.aload_n 0, 1) := dk_42 (dk_at dksX3_rule_4 17 rfl rfl)
theorem dX3_rule_100 : decode cX3_rule 100 = .ok (.iload_n 1, 1) := dk_27 (dk_at dksX3_rule_4 18 rfl rfl)
theorem dX3_rule_101 : decode cX3_rule 101 = .ok (.iload_n 2, 1) := dk_28 (dk_at dksX3_rule_4 19 rfl rfl)
theorem dX3_rule_102 : decode cX3_rule 102 = .ok (.invokevirtual 41, 3) := dk_182 0 41 (dk_at dksX3_rule_4 20 rfl rfl)
theorem dX3_rule_105 : decode cX3_rule 105 = .ok (.goto 5, 3) := dk_167 0 5 (dk_at dksX3_rule_5 0 rfl rfl)
theorem dX3_rule_108 : decode cX3_rule 108 = .ok (.bipush (-2), 2) := dk_16 254 (dk_at dksX3_rule_5 3 rfl rfl)
theorem dX3_rule_110 : decode cX3_rule 110 = .ok (.ireturn, 1) := dk_172 (dk_at dksX3_rule_5 5 rfl rfl)
abbrev cX3_oddsOf : ByteArray := prog_9_method_34_code
def yX3_oddsOf : MethodName := ⟨RX3, "oddsOf", "(I)I"⟩
def dkwX3_oddsOf_1 : List UInt8 := [4, 167, 0, 4, 3, 96, 61, 132, 3, 1, 167, 255, 226, 28, 172]
abbrev dktX3_oddsOf_1 : List UInt8 := dkwX3_oddsOf_1 ++ []
def dkwX3_oddsOf_0 : List UInt8 := [3, 61, 3, 62, 29, 42, 180, 0, 7, 3, 46, 162, 0, 26, 28, 42, 27, 29, 182, 0, 98, 153, 0, 7]
abbrev dktX3_oddsOf_0 : List UInt8 := dkwX3_oddsOf_0 ++ dktX3_oddsOf_1
theorem dksX3_oddsOf_0 : cX3_oddsOf.data.toList.drop 0 = dktX3_oddsOf_0 := by decide +kernel
theorem dksX3_oddsOf_1 : cX3_oddsOf.data.toList.drop 24 = dktX3_oddsOf_1 := dk_seg dksX3_oddsOf_0 24 rfl rfl
theorem dX3_oddsOf_0 : decode cX3_oddsOf 0 = .ok (.iconst 0, 1) := dk_3 (dk_at dksX3_oddsOf_0 0 rfl rfl)
theorem dX3_oddsOf_1 : decode cX3_oddsOf 1 = .ok (.istore_n 2, 1) := dk_61 (dk_at dksX3_oddsOf_0 1 rfl rfl)
theorem dX3_oddsOf_2 : decode cX3_oddsOf 2 = .ok (.iconst 0, 1) := dk_3 (dk_at dksX3_oddsOf_0 2 rfl rfl)
theorem dX3_oddsOf_3 : decode cX3_oddsOf 3 = .ok (.istore_n 3, 1) := dk_62 (dk_at dksX3_oddsOf_0 3 rfl rfl)
theorem dX3_oddsOf_4 : decode cX3_oddsOf 4 = .ok (.iload_n 3, 1) := dk_29 (dk_at dksX3_oddsOf_0 4 rfl rfl)
theorem dX3_oddsOf_5 : decode cX3_oddsOf 5 = .ok (.aload_n 0, 1) := dk_42 (dk_at dksX3_oddsOf_0 5 rfl rfl)
theorem dX3_oddsOf_6 : decode cX3_oddsOf 6 = .ok (.getfield 7, 3) := dk_180 0 7 (dk_at dksX3_oddsOf_0 6 rfl rfl)
theorem dX3_oddsOf_9 : decode cX3_oddsOf 9 = .ok (.iconst 0, 1) := dk_3 (dk_at dksX3_oddsOf_0 9 rfl rfl)
theorem dX3_oddsOf_10 : decode cX3_oddsOf 10 = .ok (.iaload, 1) := dk_46 (dk_at dksX3_oddsOf_0 10 rfl rfl)
theorem dX3_oddsOf_11 : decode cX3_oddsOf 11 = .ok (.if_icmp .ge 26, 3) := dk_162 0 26 (dk_at dksX3_oddsOf_0 11 rfl rfl)
theorem dX3_oddsOf_14 : decode cX3_oddsOf 14 = .ok (.iload_n 2, 1) := dk_28 (dk_at dksX3_oddsOf_0 14 rfl rfl)
theorem dX3_oddsOf_15 : decode cX3_oddsOf 15 = .ok (.aload_n 0, 1) := dk_42 (dk_at dksX3_oddsOf_0 15 rfl rfl)
theorem dX3_oddsOf_16 : decode cX3_oddsOf 16 = .ok (.iload_n 1, 1) := dk_27 (dk_at dksX3_oddsOf_0 16 rfl rfl)
theorem dX3_oddsOf_17 : decode cX3_oddsOf 17 = .ok (.iload_n 3, 1) := dk_29 (dk_at dksX3_oddsOf_0 17 rfl rfl)
theorem dX3_oddsOf_18 : decode cX3_oddsOf 18 = .ok (.invokevirtual 98, 3) := dk_182 0 98 (dk_at dksX3_oddsOf_0 18 rfl rfl)
theorem dX3_oddsOf_21 : decode cX3_oddsOf 21 = .ok (.ifCond .eq 7, 3) := dk_153 0 7 (dk_at dksX3_oddsOf_0 21 rfl rfl)
theorem dX3_oddsOf_24 : decode cX3_oddsOf 24 = .ok (.iconst 1, 1) := dk_4 (dk_at dksX3_oddsOf_1 0 rfl rfl)
theorem dX3_oddsOf_25 : decode cX3_oddsOf 25 = .ok (.goto 4, 3) := dk_167 0 4 (dk_at dksX3_oddsOf_1 1 rfl rfl)
theorem dX3_oddsOf_28 : decode cX3_oddsOf 28 = .ok (.iconst 0, 1) := dk_3 (dk_at dksX3_oddsOf_1 4 rfl rfl)
theorem dX3_oddsOf_29 : decode cX3_oddsOf 29 = .ok (.iadd, 1) := dk_96 (dk_at dksX3_oddsOf_1 5 rfl rfl)
theorem dX3_oddsOf_30 : decode cX3_oddsOf 30 = .ok (.istore_n 2, 1) := dk_61 (dk_at dksX3_oddsOf_1 6 rfl rfl)
theorem dX3_oddsOf_31 : decode cX3_oddsOf 31 = .ok (.iinc 3 1, 3) := dk_132 3 1 (dk_at dksX3_oddsOf_1 7 rfl rfl)
theorem dX3_oddsOf_34 : decode cX3_oddsOf 34 = .ok (.goto (-30), 3) := dk_167 255 226 (dk_at dksX3_oddsOf_1 10 rfl rfl)
theorem dX3_oddsOf_37 : decode cX3_oddsOf 37 = .ok (.iload_n 2, 1) := dk_28 (dk_at dksX3_oddsOf_1 13 rfl rfl)
theorem dX3_oddsOf_38 : decode cX3_oddsOf 38 = .ok (.ireturn, 1) := dk_172 (dk_at dksX3_oddsOf_1 14 rfl rfl)
abbrev cX3_areAtOdds : ByteArray := prog_9_method_20_code
def yX3_areAtOdds : MethodName := ⟨RX3, "areAtOdds", "(II)Z"⟩
def dkwX3_areAtOdds_5 : List UInt8 := [4, 160, 0, 7, 4, 167, 0, 4, 3, 159, 0, 7, 4, 167, 0, 4, 3, 172]
abbrev dktX3_areAtOdds_5 : List UInt8 := dkwX3_areAtOdds_5 ++ []
def dkwX3_areAtOdds_4 : List UInt8 := [153, 0, 40, 42, 27, 4, 182, 0, 41, 4, 160, 0, 7, 4, 167, 0, 4, 3, 42, 28, 4, 182, 0, 41]
abbrev dktX3_areAtOdds_4 : List UInt8 := dkwX3_areAtOdds_4 ++ dktX3_areAtOdds_5
def dkwX3_areAtOdds_3 : List UInt8 := [28, 6, 182, 0, 41, 16, 6, 160, 0, 7, 4, 167, 0, 4, 3, 54, 4, 29, 153, 0, 45, 21, 4]
abbrev dktX3_areAtOdds_3 : List UInt8 := dkwX3_areAtOdds_3 ++ dktX3_areAtOdds_4
def dkwX3_areAtOdds_2 : List UInt8 := [182, 0, 41, 42, 28, 6, 182, 0, 41, 159, 0, 25, 42, 27, 6, 182, 0, 41, 16, 6, 159, 0, 14, 42]
abbrev dktX3_areAtOdds_2 : List UInt8 := dkwX3_areAtOdds_2 ++ dktX3_areAtOdds_3
def dkwX3_areAtOdds_1 : List UInt8 := [159, 0, 13, 42, 28, 5, 182, 0, 41, 8, 160, 0, 7, 4, 167, 0, 4, 3, 62, 42, 27, 6]
abbrev dktX3_areAtOdds_1 : List UInt8 := dkwX3_areAtOdds_1 ++ dktX3_areAtOdds_2
def dkwX3_areAtOdds_0 : List UInt8 := [42, 27, 5, 182, 0, 41, 42, 28, 5, 182, 0, 41, 159, 0, 23, 42, 27, 5, 182, 0, 41, 8]
abbrev dktX3_areAtOdds_0 : List UInt8 := dkwX3_areAtOdds_0 ++ dktX3_areAtOdds_1
theorem dksX3_areAtOdds_0 : cX3_areAtOdds.data.toList.drop 0 = dktX3_areAtOdds_0 := by decide +kernel
theorem dksX3_areAtOdds_1 : cX3_areAtOdds.data.toList.drop 22 = dktX3_areAtOdds_1 := dk_seg dksX3_areAtOdds_0 22 rfl rfl
theorem dksX3_areAtOdds_2 : cX3_areAtOdds.data.toList.drop 44 = dktX3_areAtOdds_2 := dk_seg dksX3_areAtOdds_1 22 rfl rfl
theorem dksX3_areAtOdds_3 : cX3_areAtOdds.data.toList.drop 68 = dktX3_areAtOdds_3 := dk_seg dksX3_areAtOdds_2 24 rfl rfl
theorem dksX3_areAtOdds_4 : cX3_areAtOdds.data.toList.drop 91 = dktX3_areAtOdds_4 := dk_seg dksX3_areAtOdds_3 23 rfl rfl
theorem dksX3_areAtOdds_5 : cX3_areAtOdds.data.toList.drop 115 = dktX3_areAtOdds_5 := dk_seg dksX3_areAtOdds_4 24 rfl rfl
theorem dX3_areAtOdds_0 : decode cX3_areAtOdds 0 = .ok (.aload_n 0, 1) := dk_42 (dk_at dksX3_areAtOdds_0 0 rfl rfl)
theorem dX3_areAtOdds_1 : decode cX3_areAtOdds 1 = .ok (.iload_n 1, 1) := dk_27 (dk_at dksX3_areAtOdds_0 1 rfl rfl)
theorem dX3_areAtOdds_2 : decode cX3_areAtOdds 2 = .ok (.iconst 2, 1) := dk_5 (dk_at dksX3_areAtOdds_0 2 rfl rfl)
theorem dX3_areAtOdds_3 : decode cX3_areAtOdds 3 = .ok (.invokevirtual 41, 3) := dk_182 0 41 (dk_at dksX3_areAtOdds_0 3 rfl rfl)
theorem dX3_areAtOdds_6 : decode cX3_areAtOdds 6 = .ok (.aload_n 0, 1) := dk_42 (dk_at dksX3_areAtOdds_0 6 rfl rfl)
theorem dX3_areAtOdds_7 : decode cX3_areAtOdds 7 = .ok (.iload_n 2, 1) := dk_28 (dk_at dksX3_areAtOdds_0 7 rfl rfl)
theorem dX3_areAtOdds_8 : decode cX3_areAtOdds 8 = .ok (.iconst 2, 1) := dk_5 (dk_at dksX3_areAtOdds_0 8 rfl rfl)
theorem dX3_areAtOdds_9 : decode cX3_areAtOdds 9 = .ok (.invokevirtual 41, 3) := dk_182 0 41 (dk_at dksX3_areAtOdds_0 9 rfl rfl)
theorem dX3_areAtOdds_12 : decode cX3_areAtOdds 12 = .ok (.if_icmp .eq 23, 3) := dk_159 0 23 (dk_at dksX3_areAtOdds_0 12 rfl rfl)
theorem dX3_areAtOdds_15 : decode cX3_areAtOdds 15 = .ok (.aload_n 0, 1) := dk_42 (dk_at dksX3_areAtOdds_0 15 rfl rfl)
theorem dX3_areAtOdds_16 : decode cX3_areAtOdds 16 = .ok (.iload_n 1, 1) := dk_27 (dk_at dksX3_areAtOdds_0 16 rfl rfl)
theorem dX3_areAtOdds_17 : decode cX3_areAtOdds 17 = .ok (.iconst 2, 1) := dk_5 (dk_at dksX3_areAtOdds_0 17 rfl rfl)
theorem dX3_areAtOdds_18 : decode cX3_areAtOdds 18 = .ok (.invokevirtual 41, 3) := dk_182 0 41 (dk_at dksX3_areAtOdds_0 18 rfl rfl)
theorem dX3_areAtOdds_21 : decode cX3_areAtOdds 21 = .ok (.iconst 5, 1) := dk_8 (dk_at dksX3_areAtOdds_0 21 rfl rfl)
theorem dX3_areAtOdds_22 : decode cX3_areAtOdds 22 = .ok (.if_icmp .eq 13, 3) := dk_159 0 13 (dk_at dksX3_areAtOdds_1 0 rfl rfl)
theorem dX3_areAtOdds_25 : decode cX3_areAtOdds 25 = .ok (.aload_n 0, 1) := dk_42 (dk_at dksX3_areAtOdds_1 3 rfl rfl)
theorem dX3_areAtOdds_26 : decode cX3_areAtOdds 26 = .ok (.iload_n 2, 1) := dk_28 (dk_at dksX3_areAtOdds_1 4 rfl rfl)
theorem dX3_areAtOdds_27 : decode cX3_areAtOdds 27 = .ok (.iconst 2, 1) := dk_5 (dk_at dksX3_areAtOdds_1 5 rfl rfl)
theorem dX3_areAtOdds_28 : decode cX3_areAtOdds 28 = .ok (.invokevirtual 41, 3) := dk_182 0 41 (dk_at dksX3_areAtOdds_1 6 rfl rfl)
theorem dX3_areAtOdds_31 : decode cX3_areAtOdds 31 = .ok (.iconst 5, 1) := dk_8 (dk_at dksX3_areAtOdds_1 9 rfl rfl)
theorem dX3_areAtOdds_32 : decode cX3_areAtOdds 32 = .ok (.if_icmp .ne 7, 3) := dk_160 0 7 (dk_at dksX3_areAtOdds_1 10 rfl rfl)
theorem dX3_areAtOdds_35 : decode cX3_areAtOdds 35 = .ok (.iconst 1, 1) := dk_4 (dk_at dksX3_areAtOdds_1 13 rfl rfl)
theorem dX3_areAtOdds_36 : decode cX3_areAtOdds 36 = .ok (.goto 4, 3) := dk_167 0 4 (dk_at dksX3_areAtOdds_1 14 rfl rfl)
theorem dX3_areAtOdds_39 : decode cX3_areAtOdds 39 = .ok (.iconst 0, 1) := dk_3 (dk_at dksX3_areAtOdds_1 17 rfl rfl)
theorem dX3_areAtOdds_40 : decode cX3_areAtOdds 40 = .ok (.istore_n 3, 1) := dk_62 (dk_at dksX3_areAtOdds_1 18 rfl rfl)
theorem dX3_areAtOdds_41 : decode cX3_areAtOdds 41 = .ok (.aload_n 0, 1) := dk_42 (dk_at dksX3_areAtOdds_1 19 rfl rfl)
theorem dX3_areAtOdds_42 : decode cX3_areAtOdds 42 = .ok (.iload_n 1, 1) := dk_27 (dk_at dksX3_areAtOdds_1 20 rfl rfl)
theorem dX3_areAtOdds_43 : decode cX3_areAtOdds 43 = .ok (.iconst 3, 1) := dk_6 (dk_at dksX3_areAtOdds_1 21 rfl rfl)
theorem dX3_areAtOdds_44 : decode cX3_areAtOdds 44 = .ok (.invokevirtual 41, 3) := dk_182 0 41 (dk_at dksX3_areAtOdds_2 0 rfl rfl)
theorem dX3_areAtOdds_47 : decode cX3_areAtOdds 47 = .ok (.aload_n 0, 1) := dk_42 (dk_at dksX3_areAtOdds_2 3 rfl rfl)
theorem dX3_areAtOdds_48 : decode cX3_areAtOdds 48 = .ok (.iload_n 2, 1) := dk_28 (dk_at dksX3_areAtOdds_2 4 rfl rfl)
theorem dX3_areAtOdds_49 : decode cX3_areAtOdds 49 = .ok (.iconst 3, 1) := dk_6 (dk_at dksX3_areAtOdds_2 5 rfl rfl)
theorem dX3_areAtOdds_50 : decode cX3_areAtOdds 50 = .ok (.invokevirtual 41, 3) := dk_182 0 41 (dk_at dksX3_areAtOdds_2 6 rfl rfl)
theorem dX3_areAtOdds_53 : decode cX3_areAtOdds 53 = .ok (.if_icmp .eq 25, 3) := dk_159 0 25 (dk_at dksX3_areAtOdds_2 9 rfl rfl)
theorem dX3_areAtOdds_56 : decode cX3_areAtOdds 56 = .ok (.aload_n 0, 1) := dk_42 (dk_at dksX3_areAtOdds_2 12 rfl rfl)
theorem dX3_areAtOdds_57 : decode cX3_areAtOdds 57 = .ok (.iload_n 1, 1) := dk_27 (dk_at dksX3_areAtOdds_2 13 rfl rfl)
theorem dX3_areAtOdds_58 : decode cX3_areAtOdds 58 = .ok (.iconst 3, 1) := dk_6 (dk_at dksX3_areAtOdds_2 14 rfl rfl)
theorem dX3_areAtOdds_59 : decode cX3_areAtOdds 59 = .ok (.invokevirtual 41, 3) := dk_182 0 41 (dk_at dksX3_areAtOdds_2 15 rfl rfl)
theorem dX3_areAtOdds_62 : decode cX3_areAtOdds 62 = .ok (.bipush 6, 2) := dk_16 6 (dk_at dksX3_areAtOdds_2 18 rfl rfl)
theorem dX3_areAtOdds_64 : decode cX3_areAtOdds 64 = .ok (.if_icmp .eq 14, 3) := dk_159 0 14 (dk_at dksX3_areAtOdds_2 20 rfl rfl)
theorem dX3_areAtOdds_67 : decode cX3_areAtOdds 67 = .ok (.aload_n 0, 1) := dk_42 (dk_at dksX3_areAtOdds_2 23 rfl rfl)
theorem dX3_areAtOdds_68 : decode cX3_areAtOdds 68 = .ok (.iload_n 2, 1) := dk_28 (dk_at dksX3_areAtOdds_3 0 rfl rfl)
theorem dX3_areAtOdds_69 : decode cX3_areAtOdds 69 = .ok (.iconst 3, 1) := dk_6 (dk_at dksX3_areAtOdds_3 1 rfl rfl)
theorem dX3_areAtOdds_70 : decode cX3_areAtOdds 70 = .ok (.invokevirtual 41, 3) := dk_182 0 41 (dk_at dksX3_areAtOdds_3 2 rfl rfl)
theorem dX3_areAtOdds_73 : decode cX3_areAtOdds 73 = .ok (.bipush 6, 2) := dk_16 6 (dk_at dksX3_areAtOdds_3 5 rfl rfl)
theorem dX3_areAtOdds_75 : decode cX3_areAtOdds 75 = .ok (.if_icmp .ne 7, 3) := dk_160 0 7 (dk_at dksX3_areAtOdds_3 7 rfl rfl)
theorem dX3_areAtOdds_78 : decode cX3_areAtOdds 78 = .ok (.iconst 1, 1) := dk_4 (dk_at dksX3_areAtOdds_3 10 rfl rfl)
theorem dX3_areAtOdds_79 : decode cX3_areAtOdds 79 = .ok (.goto 4, 3) := dk_167 0 4 (dk_at dksX3_areAtOdds_3 11 rfl rfl)
theorem dX3_areAtOdds_82 : decode cX3_areAtOdds 82 = .ok (.iconst 0, 1) := dk_3 (dk_at dksX3_areAtOdds_3 14 rfl rfl)
theorem dX3_areAtOdds_83 : decode cX3_areAtOdds 83 = .ok (.istore 4, 2) := dk_54 4 (dk_at dksX3_areAtOdds_3 15 rfl rfl)
theorem dX3_areAtOdds_85 : decode cX3_areAtOdds 85 = .ok (.iload_n 3, 1) := dk_29 (dk_at dksX3_areAtOdds_3 17 rfl rfl)
theorem dX3_areAtOdds_86 : decode cX3_areAtOdds 86 = .ok (.ifCond .eq 45, 3) := dk_153 0 45 (dk_at dksX3_areAtOdds_3 18 rfl rfl)
theorem dX3_areAtOdds_89 : decode cX3_areAtOdds 89 = .ok (.iload 4, 2) := dk_21 4 (dk_at dksX3_areAtOdds_3 21 rfl rfl)
theorem dX3_areAtOdds_91 : decode cX3_areAtOdds 91 = .ok (.ifCond .eq 40, 3) := dk_153 0 40 (dk_at dksX3_areAtOdds_4 0 rfl rfl)
theorem dX3_areAtOdds_94 : decode cX3_areAtOdds 94 = .ok (.aload_n 0, 1) := dk_42 (dk_at dksX3_areAtOdds_4 3 rfl rfl)
theorem dX3_areAtOdds_95 : decode cX3_areAtOdds 95 = .ok (.iload_n 1, 1) := dk_27 (dk_at dksX3_areAtOdds_4 4 rfl rfl)
theorem dX3_areAtOdds_96 : decode cX3_areAtOdds 96 = .ok (.iconst 1, 1) := dk_4 (dk_at dksX3_areAtOdds_4 5 rfl rfl)
theorem dX3_areAtOdds_97 : decode cX3_areAtOdds 97 = .ok (.invokevirtual 41, 3) := dk_182 0 41 (dk_at dksX3_areAtOdds_4 6 rfl rfl)
theorem dX3_areAtOdds_100 : decode cX3_areAtOdds 100 = .ok (.iconst 1, 1) := dk_4 (dk_at dksX3_areAtOdds_4 9 rfl rfl)
theorem dX3_areAtOdds_101 : decode cX3_areAtOdds 101 = .ok (.if_icmp .ne 7, 3) := dk_160 0 7 (dk_at dksX3_areAtOdds_4 10 rfl rfl)
theorem dX3_areAtOdds_104 : decode cX3_areAtOdds 104 = .ok (.iconst 1, 1) := dk_4 (dk_at dksX3_areAtOdds_4 13 rfl rfl)
theorem dX3_areAtOdds_105 : decode cX3_areAtOdds 105 = .ok (.goto 4, 3) := dk_167 0 4 (dk_at dksX3_areAtOdds_4 14 rfl rfl)
theorem dX3_areAtOdds_108 : decode cX3_areAtOdds 108 = .ok (.iconst 0, 1) := dk_3 (dk_at dksX3_areAtOdds_4 17 rfl rfl)
theorem dX3_areAtOdds_109 : decode cX3_areAtOdds 109 = .ok (.aload_n 0, 1) := dk_42 (dk_at dksX3_areAtOdds_4 18 rfl rfl)
theorem dX3_areAtOdds_110 : decode cX3_areAtOdds 110 = .ok (.iload_n 2, 1) := dk_28 (dk_at dksX3_areAtOdds_4 19 rfl rfl)
theorem dX3_areAtOdds_111 : decode cX3_areAtOdds 111 = .ok (.iconst 1, 1) := dk_4 (dk_at dksX3_areAtOdds_4 20 rfl rfl)
theorem dX3_areAtOdds_112 : decode cX3_areAtOdds 112 = .ok (.invokevirtual 41, 3) := dk_182 0 41 (dk_at dksX3_areAtOdds_4 21 rfl rfl)
theorem dX3_areAtOdds_115 : decode cX3_areAtOdds 115 = .ok (.iconst 1, 1) := dk_4 (dk_at dksX3_areAtOdds_5 0 rfl rfl)
theorem dX3_areAtOdds_116 : decode cX3_areAtOdds 116 = .ok (.if_icmp .ne 7, 3) := dk_160 0 7 (dk_at dksX3_areAtOdds_5 1 rfl rfl)
theorem dX3_areAtOdds_119 : decode cX3_areAtOdds 119 = .ok (.iconst 1, 1) := dk_4 (dk_at dksX3_areAtOdds_5 4 rfl rfl)
theorem dX3_areAtOdds_120 : decode cX3_areAtOdds 120 = .ok (.goto 4, 3) := dk_167 0 4 (dk_at dksX3_areAtOdds_5 5 rfl rfl)
theorem dX3_areAtOdds_123 : decode cX3_areAtOdds 123 = .ok (.iconst 0, 1) := dk_3 (dk_at dksX3_areAtOdds_5 8 rfl rfl)
theorem dX3_areAtOdds_124 : decode cX3_areAtOdds 124 = .ok (.if_icmp .eq 7, 3) := dk_159 0 7 (dk_at dksX3_areAtOdds_5 9 rfl rfl)
theorem dX3_areAtOdds_127 : decode cX3_areAtOdds 127 = .ok (.iconst 1, 1) := dk_4 (dk_at dksX3_areAtOdds_5 12 rfl rfl)
theorem dX3_areAtOdds_128 : decode cX3_areAtOdds 128 = .ok (.goto 4, 3) := dk_167 0 4 (dk_at dksX3_areAtOdds_5 13 rfl rfl)
theorem dX3_areAtOdds_131 : decode cX3_areAtOdds 131 = .ok (.iconst 0, 1) := dk_3 (dk_at dksX3_areAtOdds_5 16 rfl rfl)
theorem dX3_areAtOdds_132 : decode cX3_areAtOdds 132 = .ok (.ireturn, 1) := dk_172 (dk_at dksX3_areAtOdds_5 17 rfl rfl)
abbrev cX3_member : ByteArray := prog_9_method_37_code
def yX3_member : MethodName := ⟨RX3, "member", "(II)I"⟩
def dkwX3_member_3 : List UInt8 := [100, 184, 0, 89, 46, 172, 16, 254, 172]
abbrev dktX3_member_3 : List UInt8 := dkwX3_member_3 ++ []
def dkwX3_member_2 : List UInt8 := [42, 180, 0, 7, 27, 28, 184, 0, 89, 46, 172, 42, 27, 182, 0, 106, 172, 42, 180, 0, 7, 27, 28, 4]
abbrev dktX3_member_2 : List UInt8 := dkwX3_member_2 ++ dktX3_member_3
def dkwX3_member_1 : List UInt8 := [170, 0, 0, 0, 63, 0, 0, 0, 0, 0, 0, 0, 4, 0, 0, 0, 33, 0, 0, 0, 33, 0, 0, 0, 44, 0, 0, 0, 50, 0, 0, 0, 50]
abbrev dktX3_member_1 : List UInt8 := dkwX3_member_1 ++ dktX3_member_2
def dkwX3_member_0 : List UInt8 := [42, 27, 182, 0, 92, 154, 0, 5, 2, 172, 28]
abbrev dktX3_member_0 : List UInt8 := dkwX3_member_0 ++ dktX3_member_1
theorem dksX3_member_0 : cX3_member.data.toList.drop 0 = dktX3_member_0 := by decide +kernel
theorem dksX3_member_1 : cX3_member.data.toList.drop 11 = dktX3_member_1 := dk_seg dksX3_member_0 11 rfl rfl
theorem dksX3_member_2 : cX3_member.data.toList.drop 44 = dktX3_member_2 := dk_seg dksX3_member_1 33 rfl rfl
theorem dksX3_member_3 : cX3_member.data.toList.drop 68 = dktX3_member_3 := dk_seg dksX3_member_2 24 rfl rfl
theorem dX3_member_0 : decode cX3_member 0 = .ok (.aload_n 0, 1) := dk_42 (dk_at dksX3_member_0 0 rfl rfl)
theorem dX3_member_1 : decode cX3_member 1 = .ok (.iload_n 1, 1) := dk_27 (dk_at dksX3_member_0 1 rfl rfl)
theorem dX3_member_2 : decode cX3_member 2 = .ok (.invokevirtual 92, 3) := dk_182 0 92 (dk_at dksX3_member_0 2 rfl rfl)
theorem dX3_member_5 : decode cX3_member 5 = .ok (.ifCond .ne 5, 3) := dk_154 0 5 (dk_at dksX3_member_0 5 rfl rfl)
theorem dX3_member_8 : decode cX3_member 8 = .ok (.iconst (-1), 1) := dk_2 (dk_at dksX3_member_0 8 rfl rfl)
theorem dX3_member_9 : decode cX3_member 9 = .ok (.ireturn, 1) := dk_172 (dk_at dksX3_member_0 9 rfl rfl)
theorem dX3_member_10 : decode cX3_member 10 = .ok (.iload_n 2, 1) := dk_28 (dk_at dksX3_member_0 10 rfl rfl)
theorem dX3_member_11 : decode cX3_member 11 = .ok (.tableswitch 63 0 4 #[33, 33, 44, 50, 50], 33) := by decide +kernel
theorem dX3_member_44 : decode cX3_member 44 = .ok (.aload_n 0, 1) := dk_42 (dk_at dksX3_member_2 0 rfl rfl)
theorem dX3_member_45 : decode cX3_member 45 = .ok (.getfield 7, 3) := dk_180 0 7 (dk_at dksX3_member_2 1 rfl rfl)
theorem dX3_member_48 : decode cX3_member 48 = .ok (.iload_n 1, 1) := dk_27 (dk_at dksX3_member_2 4 rfl rfl)
theorem dX3_member_49 : decode cX3_member 49 = .ok (.iload_n 2, 1) := dk_28 (dk_at dksX3_member_2 5 rfl rfl)
theorem dX3_member_50 : decode cX3_member 50 = .ok (.invokestatic 89, 3) := dk_184 0 89 (dk_at dksX3_member_2 6 rfl rfl)
theorem dX3_member_53 : decode cX3_member 53 = .ok (.iaload, 1) := dk_46 (dk_at dksX3_member_2 9 rfl rfl)
theorem dX3_member_54 : decode cX3_member 54 = .ok (.ireturn, 1) := dk_172 (dk_at dksX3_member_2 10 rfl rfl)
theorem dX3_member_55 : decode cX3_member 55 = .ok (.aload_n 0, 1) := dk_42 (dk_at dksX3_member_2 11 rfl rfl)
theorem dX3_member_56 : decode cX3_member 56 = .ok (.iload_n 1, 1) := dk_27 (dk_at dksX3_member_2 12 rfl rfl)
theorem dX3_member_57 : decode cX3_member 57 = .ok (.invokevirtual 106, 3) := dk_182 0 106 (dk_at dksX3_member_2 13 rfl rfl)
theorem dX3_member_60 : decode cX3_member 60 = .ok (.ireturn, 1) := dk_172 (dk_at dksX3_member_2 16 rfl rfl)
theorem dX3_member_61 : decode cX3_member 61 = .ok (.aload_n 0, 1) := dk_42 (dk_at dksX3_member_2 17 rfl rfl)
theorem dX3_member_62 : decode cX3_member 62 = .ok (.getfield 7, 3) := dk_180 0 7 (dk_at dksX3_member_2 18 rfl rfl)
theorem dX3_member_65 : decode cX3_member 65 = .ok (.iload_n 1, 1) := dk_27 (dk_at dksX3_member_2 21 rfl rfl)
theorem dX3_member_66 : decode cX3_member 66 = .ok (.iload_n 2, 1) := dk_28 (dk_at dksX3_member_2 22 rfl rfl)
theorem dX3_member_67 : decode cX3_member 67 = .ok (.iconst 1, 1) := dk_4 (dk_at dksX3_member_2 23 rfl rfl)
theorem dX3_member_68 : decode cX3_member 68 = .ok (.isub, 1) := dk_100 (dk_at dksX3_member_3 0 rfl rfl)
theorem dX3_member_69 : decode cX3_member 69 = .ok (.invokestatic 89, 3) := dk_184 0 89 (dk_at dksX3_member_3 1 rfl rfl)
theorem dX3_member_72 : decode cX3_member 72 = .ok (.iaload, 1) := dk_46 (dk_at dksX3_member_3 4 rfl rfl)
theorem dX3_member_73 : decode cX3_member 73 = .ok (.ireturn, 1) := dk_172 (dk_at dksX3_member_3 5 rfl rfl)
theorem dX3_member_74 : decode cX3_member 74 = .ok (.bipush (-2), 2) := dk_16 254 (dk_at dksX3_member_3 6 rfl rfl)
theorem dX3_member_76 : decode cX3_member 76 = .ok (.ireturn, 1) := dk_172 (dk_at dksX3_member_3 8 rfl rfl)
abbrev cX3_mayDo : ByteArray := prog_9_method_36_code
def yX3_mayDo : MethodName := ⟨RX3, "mayDo", "(I)I"⟩
def dkwX3_mayDo_2 : List UInt8 := [61, 132, 3, 1, 167, 255, 209, 28, 172]
abbrev dktX3_mayDo_2 : List UInt8 := dkwX3_mayDo_2 ++ []
def dkwX3_mayDo_1 : List UInt8 := [180, 0, 7, 27, 3, 184, 0, 89, 46, 29, 182, 0, 58, 161, 0, 9, 4, 29, 120, 167, 0, 4, 3, 128]
abbrev dktX3_mayDo_1 : List UInt8 := dkwX3_mayDo_1 ++ dktX3_mayDo_2
def dkwX3_mayDo_0 : List UInt8 := [3, 61, 3, 62, 29, 16, 6, 162, 0, 47, 28, 42, 180, 0, 7, 27, 4, 184, 0, 89, 46, 42, 42]
abbrev dktX3_mayDo_0 : List UInt8 := dkwX3_mayDo_0 ++ dktX3_mayDo_1
theorem dksX3_mayDo_0 : cX3_mayDo.data.toList.drop 0 = dktX3_mayDo_0 := by decide +kernel
theorem dksX3_mayDo_1 : cX3_mayDo.data.toList.drop 23 = dktX3_mayDo_1 := dk_seg dksX3_mayDo_0 23 rfl rfl
theorem dksX3_mayDo_2 : cX3_mayDo.data.toList.drop 47 = dktX3_mayDo_2 := dk_seg dksX3_mayDo_1 24 rfl rfl
theorem dX3_mayDo_0 : decode cX3_mayDo 0 = .ok (.iconst 0, 1) := dk_3 (dk_at dksX3_mayDo_0 0 rfl rfl)
theorem dX3_mayDo_1 : decode cX3_mayDo 1 = .ok (.istore_n 2, 1) := dk_61 (dk_at dksX3_mayDo_0 1 rfl rfl)
theorem dX3_mayDo_2 : decode cX3_mayDo 2 = .ok (.iconst 0, 1) := dk_3 (dk_at dksX3_mayDo_0 2 rfl rfl)
theorem dX3_mayDo_3 : decode cX3_mayDo 3 = .ok (.istore_n 3, 1) := dk_62 (dk_at dksX3_mayDo_0 3 rfl rfl)
theorem dX3_mayDo_4 : decode cX3_mayDo 4 = .ok (.iload_n 3, 1) := dk_29 (dk_at dksX3_mayDo_0 4 rfl rfl)
theorem dX3_mayDo_5 : decode cX3_mayDo 5 = .ok (.bipush 6, 2) := dk_16 6 (dk_at dksX3_mayDo_0 5 rfl rfl)
theorem dX3_mayDo_7 : decode cX3_mayDo 7 = .ok (.if_icmp .ge 47, 3) := dk_162 0 47 (dk_at dksX3_mayDo_0 7 rfl rfl)
theorem dX3_mayDo_10 : decode cX3_mayDo 10 = .ok (.iload_n 2, 1) := dk_28 (dk_at dksX3_mayDo_0 10 rfl rfl)
theorem dX3_mayDo_11 : decode cX3_mayDo 11 = .ok (.aload_n 0, 1) := dk_42 (dk_at dksX3_mayDo_0 11 rfl rfl)
theorem dX3_mayDo_12 : decode cX3_mayDo 12 = .ok (.getfield 7, 3) := dk_180 0 7 (dk_at dksX3_mayDo_0 12 rfl rfl)
theorem dX3_mayDo_15 : decode cX3_mayDo 15 = .ok (.iload_n 1, 1) := dk_27 (dk_at dksX3_mayDo_0 15 rfl rfl)
theorem dX3_mayDo_16 : decode cX3_mayDo 16 = .ok (.iconst 1, 1) := dk_4 (dk_at dksX3_mayDo_0 16 rfl rfl)
theorem dX3_mayDo_17 : decode cX3_mayDo 17 = .ok (.invokestatic 89, 3) := dk_184 0 89 (dk_at dksX3_mayDo_0 17 rfl rfl)
theorem dX3_mayDo_20 : decode cX3_mayDo 20 = .ok (.iaload, 1) := dk_46 (dk_at dksX3_mayDo_0 20 rfl rfl)
theorem dX3_mayDo_21 : decode cX3_mayDo 21 = .ok (.aload_n 0, 1) := dk_42 (dk_at dksX3_mayDo_0 21 rfl rfl)
theorem dX3_mayDo_22 : decode cX3_mayDo 22 = .ok (.aload_n 0, 1) := dk_42 (dk_at dksX3_mayDo_0 22 rfl rfl)
theorem dX3_mayDo_23 : decode cX3_mayDo 23 = .ok (.getfield 7, 3) := dk_180 0 7 (dk_at dksX3_mayDo_1 0 rfl rfl)
theorem dX3_mayDo_26 : decode cX3_mayDo 26 = .ok (.iload_n 1, 1) := dk_27 (dk_at dksX3_mayDo_1 3 rfl rfl)
theorem dX3_mayDo_27 : decode cX3_mayDo 27 = .ok (.iconst 0, 1) := dk_3 (dk_at dksX3_mayDo_1 4 rfl rfl)
theorem dX3_mayDo_28 : decode cX3_mayDo 28 = .ok (.invokestatic 89, 3) := dk_184 0 89 (dk_at dksX3_mayDo_1 5 rfl rfl)
theorem dX3_mayDo_31 : decode cX3_mayDo 31 = .ok (.iaload, 1) := dk_46 (dk_at dksX3_mayDo_1 8 rfl rfl)
theorem dX3_mayDo_32 : decode cX3_mayDo 32 = .ok (.iload_n 3, 1) := dk_29 (dk_at dksX3_mayDo_1 9 rfl rfl)
theorem dX3_mayDo_33 : decode cX3_mayDo 33 = .ok (.invokevirtual 58, 3) := dk_182 0 58 (dk_at dksX3_mayDo_1 10 rfl rfl)
theorem dX3_mayDo_36 : decode cX3_mayDo 36 = .ok (.if_icmp .lt 9, 3) := dk_161 0 9 (dk_at dksX3_mayDo_1 13 rfl rfl)
theorem dX3_mayDo_39 : decode cX3_mayDo 39 = .ok (.iconst 1, 1) := dk_4 (dk_at dksX3_mayDo_1 16 rfl rfl)
theorem dX3_mayDo_40 : decode cX3_mayDo 40 = .ok (.iload_n 3, 1) := dk_29 (dk_at dksX3_mayDo_1 17 rfl rfl)
theorem dX3_mayDo_41 : decode cX3_mayDo 41 = .ok (.ishl, 1) := dk_120 (dk_at dksX3_mayDo_1 18 rfl rfl)
theorem dX3_mayDo_42 : decode cX3_mayDo 42 = .ok (.goto 4, 3) := dk_167 0 4 (dk_at dksX3_mayDo_1 19 rfl rfl)
theorem dX3_mayDo_45 : decode cX3_mayDo 45 = .ok (.iconst 0, 1) := dk_3 (dk_at dksX3_mayDo_1 22 rfl rfl)
theorem dX3_mayDo_46 : decode cX3_mayDo 46 = .ok (.ior, 1) := dk_128 (dk_at dksX3_mayDo_1 23 rfl rfl)
theorem dX3_mayDo_47 : decode cX3_mayDo 47 = .ok (.istore_n 2, 1) := dk_61 (dk_at dksX3_mayDo_2 0 rfl rfl)
theorem dX3_mayDo_48 : decode cX3_mayDo 48 = .ok (.iinc 3 1, 3) := dk_132 3 1 (dk_at dksX3_mayDo_2 1 rfl rfl)
theorem dX3_mayDo_51 : decode cX3_mayDo 51 = .ok (.goto (-47), 3) := dk_167 255 209 (dk_at dksX3_mayDo_2 4 rfl rfl)
theorem dX3_mayDo_54 : decode cX3_mayDo 54 = .ok (.iload_n 2, 1) := dk_28 (dk_at dksX3_mayDo_2 7 rfl rfl)
theorem dX3_mayDo_55 : decode cX3_mayDo 55 = .ok (.ireturn, 1) := dk_172 (dk_at dksX3_mayDo_2 8 rfl rfl)
abbrev cX3_allowed : ByteArray := prog_9_method_38_code
def yX3_allowed : MethodName := ⟨RX3, "allowed", "(IIII)I"⟩
def dkwX3_allowed_2 : List UInt8 := [172]
abbrev dktX3_allowed_2 : List UInt8 := dkwX3_allowed_2 ++ []
def dkwX3_allowed_1 : List UInt8 := [184, 0, 29, 154, 0, 6, 16, 254, 172, 29, 42, 27, 28, 182, 0, 58, 161, 0, 7, 4, 167, 0, 4, 3]
abbrev dktX3_allowed_1 : List UInt8 := dkwX3_allowed_1 ++ dktX3_allowed_2
def dkwX3_allowed_0 : List UInt8 := [27, 28, 184, 0, 109, 154, 0, 5, 2, 172, 29, 3, 16, 9, 184, 0, 29, 153, 0, 13, 21, 4, 3, 4]
abbrev dktX3_allowed_0 : List UInt8 := dkwX3_allowed_0 ++ dktX3_allowed_1
theorem dksX3_allowed_0 : cX3_allowed.data.toList.drop 0 = dktX3_allowed_0 := by decide +kernel
theorem dksX3_allowed_1 : cX3_allowed.data.toList.drop 24 = dktX3_allowed_1 := dk_seg dksX3_allowed_0 24 rfl rfl
theorem dksX3_allowed_2 : cX3_allowed.data.toList.drop 48 = dktX3_allowed_2 := dk_seg dksX3_allowed_1 24 rfl rfl
theorem dX3_allowed_0 : decode cX3_allowed 0 = .ok (.iload_n 1, 1) := dk_27 (dk_at dksX3_allowed_0 0 rfl rfl)
theorem dX3_allowed_1 : decode cX3_allowed 1 = .ok (.iload_n 2, 1) := dk_28 (dk_at dksX3_allowed_0 1 rfl rfl)
theorem dX3_allowed_2 : decode cX3_allowed 2 = .ok (.invokestatic 109, 3) := dk_184 0 109 (dk_at dksX3_allowed_0 2 rfl rfl)
theorem dX3_allowed_5 : decode cX3_allowed 5 = .ok (.ifCond .ne 5, 3) := dk_154 0 5 (dk_at dksX3_allowed_0 5 rfl rfl)
theorem dX3_allowed_8 : decode cX3_allowed 8 = .ok (.iconst (-1), 1) := dk_2 (dk_at dksX3_allowed_0 8 rfl rfl)
theorem dX3_allowed_9 : decode cX3_allowed 9 = .ok (.ireturn, 1) := dk_172 (dk_at dksX3_allowed_0 9 rfl rfl)
theorem dX3_allowed_10 : decode cX3_allowed 10 = .ok (.iload_n 3, 1) := dk_29 (dk_at dksX3_allowed_0 10 rfl rfl)
theorem dX3_allowed_11 : decode cX3_allowed 11 = .ok (.iconst 0, 1) := dk_3 (dk_at dksX3_allowed_0 11 rfl rfl)
theorem dX3_allowed_12 : decode cX3_allowed 12 = .ok (.bipush 9, 2) := dk_16 9 (dk_at dksX3_allowed_0 12 rfl rfl)
theorem dX3_allowed_14 : decode cX3_allowed 14 = .ok (.invokestatic 29, 3) := dk_184 0 29 (dk_at dksX3_allowed_0 14 rfl rfl)
theorem dX3_allowed_17 : decode cX3_allowed 17 = .ok (.ifCond .eq 13, 3) := dk_153 0 13 (dk_at dksX3_allowed_0 17 rfl rfl)
theorem dX3_allowed_20 : decode cX3_allowed 20 = .ok (.iload 4, 2) := dk_21 4 (dk_at dksX3_allowed_0 20 rfl rfl)
theorem dX3_allowed_22 : decode cX3_allowed 22 = .ok (.iconst 0, 1) := dk_3 (dk_at dksX3_allowed_0 22 rfl rfl)
theorem dX3_allowed_23 : decode cX3_allowed 23 = .ok (.iconst 1, 1) := dk_4 (dk_at dksX3_allowed_0 23 rfl rfl)
theorem dX3_allowed_24 : decode cX3_allowed 24 = .ok (.invokestatic 29, 3) := dk_184 0 29 (dk_at dksX3_allowed_1 0 rfl rfl)
theorem dX3_allowed_27 : decode cX3_allowed 27 = .ok (.ifCond .ne 6, 3) := dk_154 0 6 (dk_at dksX3_allowed_1 3 rfl rfl)
theorem dX3_allowed_30 : decode cX3_allowed 30 = .ok (.bipush (-2), 2) := dk_16 254 (dk_at dksX3_allowed_1 6 rfl rfl)
theorem dX3_allowed_32 : decode cX3_allowed 32 = .ok (.ireturn, 1) := dk_172 (dk_at dksX3_allowed_1 8 rfl rfl)
theorem dX3_allowed_33 : decode cX3_allowed 33 = .ok (.iload_n 3, 1) := dk_29 (dk_at dksX3_allowed_1 9 rfl rfl)
theorem dX3_allowed_34 : decode cX3_allowed 34 = .ok (.aload_n 0, 1) := dk_42 (dk_at dksX3_allowed_1 10 rfl rfl)
theorem dX3_allowed_35 : decode cX3_allowed 35 = .ok (.iload_n 1, 1) := dk_27 (dk_at dksX3_allowed_1 11 rfl rfl)
theorem dX3_allowed_36 : decode cX3_allowed 36 = .ok (.iload_n 2, 1) := dk_28 (dk_at dksX3_allowed_1 12 rfl rfl)
theorem dX3_allowed_37 : decode cX3_allowed 37 = .ok (.invokevirtual 58, 3) := dk_182 0 58 (dk_at dksX3_allowed_1 13 rfl rfl)
theorem dX3_allowed_40 : decode cX3_allowed 40 = .ok (.if_icmp .lt 7, 3) := dk_161 0 7 (dk_at dksX3_allowed_1 16 rfl rfl)
theorem dX3_allowed_43 : decode cX3_allowed 43 = .ok (.iconst 1, 1) := dk_4 (dk_at dksX3_allowed_1 19 rfl rfl)
theorem dX3_allowed_44 : decode cX3_allowed 44 = .ok (.goto 4, 3) := dk_167 0 4 (dk_at dksX3_allowed_1 20 rfl rfl)
theorem dX3_allowed_47 : decode cX3_allowed 47 = .ok (.iconst 0, 1) := dk_3 (dk_at dksX3_allowed_1 23 rfl rfl)
theorem dX3_allowed_48 : decode cX3_allowed 48 = .ok (.ireturn, 1) := dk_172 (dk_at dksX3_allowed_2 0 rfl rfl)
abbrev cX3_isAsked : ByteArray := prog_9_method_6_code
def yX3_isAsked : MethodName := ⟨RX3, "isAsked", "(II)Z"⟩
def dkwX3_isAsked_0 : List UInt8 := [26, 3, 7, 184, 0, 29, 153, 0, 16, 27, 3, 8, 184, 0, 29, 153, 0, 7, 4, 167, 0, 4, 3, 172]
abbrev dktX3_isAsked_0 : List UInt8 := dkwX3_isAsked_0 ++ []
theorem dksX3_isAsked_0 : cX3_isAsked.data.toList.drop 0 = dktX3_isAsked_0 := by decide +kernel
theorem dX3_isAsked_0 : decode cX3_isAsked 0 = .ok (.iload_n 0, 1) := dk_26 (dk_at dksX3_isAsked_0 0 rfl rfl)
theorem dX3_isAsked_1 : decode cX3_isAsked 1 = .ok (.iconst 0, 1) := dk_3 (dk_at dksX3_isAsked_0 1 rfl rfl)
theorem dX3_isAsked_2 : decode cX3_isAsked 2 = .ok (.iconst 4, 1) := dk_7 (dk_at dksX3_isAsked_0 2 rfl rfl)
theorem dX3_isAsked_3 : decode cX3_isAsked 3 = .ok (.invokestatic 29, 3) := dk_184 0 29 (dk_at dksX3_isAsked_0 3 rfl rfl)
theorem dX3_isAsked_6 : decode cX3_isAsked 6 = .ok (.ifCond .eq 16, 3) := dk_153 0 16 (dk_at dksX3_isAsked_0 6 rfl rfl)
theorem dX3_isAsked_9 : decode cX3_isAsked 9 = .ok (.iload_n 1, 1) := dk_27 (dk_at dksX3_isAsked_0 9 rfl rfl)
theorem dX3_isAsked_10 : decode cX3_isAsked 10 = .ok (.iconst 0, 1) := dk_3 (dk_at dksX3_isAsked_0 10 rfl rfl)
theorem dX3_isAsked_11 : decode cX3_isAsked 11 = .ok (.iconst 5, 1) := dk_8 (dk_at dksX3_isAsked_0 11 rfl rfl)
theorem dX3_isAsked_12 : decode cX3_isAsked 12 = .ok (.invokestatic 29, 3) := dk_184 0 29 (dk_at dksX3_isAsked_0 12 rfl rfl)
theorem dX3_isAsked_15 : decode cX3_isAsked 15 = .ok (.ifCond .eq 7, 3) := dk_153 0 7 (dk_at dksX3_isAsked_0 15 rfl rfl)
theorem dX3_isAsked_18 : decode cX3_isAsked 18 = .ok (.iconst 1, 1) := dk_4 (dk_at dksX3_isAsked_0 18 rfl rfl)
theorem dX3_isAsked_19 : decode cX3_isAsked 19 = .ok (.goto 4, 3) := dk_167 0 4 (dk_at dksX3_isAsked_0 19 rfl rfl)
theorem dX3_isAsked_22 : decode cX3_isAsked 22 = .ok (.iconst 0, 1) := dk_3 (dk_at dksX3_isAsked_0 22 rfl rfl)
theorem dX3_isAsked_23 : decode cX3_isAsked 23 = .ok (.ireturn, 1) := dk_172 (dk_at dksX3_isAsked_0 23 rfl rfl)
abbrev cX3_why : ByteArray := prog_9_method_39_code
def yX3_why : MethodName := ⟨RX3, "why", "(III)I"⟩
def dkwX3_why_1 : List UInt8 := [182, 0, 95, 167, 0, 5, 16, 254, 172]
abbrev dktX3_why_1 : List UInt8 := dkwX3_why_1 ++ []
def dkwX3_why_0 : List UInt8 := [27, 28, 184, 0, 109, 154, 0, 5, 2, 172, 29, 3, 16, 9, 184, 0, 29, 153, 0, 13, 42, 27, 28, 29]
abbrev dktX3_why_0 : List UInt8 := dkwX3_why_0 ++ dktX3_why_1
theorem dksX3_why_0 : cX3_why.data.toList.drop 0 = dktX3_why_0 := by decide +kernel
theorem dksX3_why_1 : cX3_why.data.toList.drop 24 = dktX3_why_1 := dk_seg dksX3_why_0 24 rfl rfl
theorem dX3_why_0 : decode cX3_why 0 = .ok (.iload_n 1, 1) := dk_27 (dk_at dksX3_why_0 0 rfl rfl)
theorem dX3_why_1 : decode cX3_why 1 = .ok (.iload_n 2, 1) := dk_28 (dk_at dksX3_why_0 1 rfl rfl)
theorem dX3_why_2 : decode cX3_why 2 = .ok (.invokestatic 109, 3) := dk_184 0 109 (dk_at dksX3_why_0 2 rfl rfl)
theorem dX3_why_5 : decode cX3_why 5 = .ok (.ifCond .ne 5, 3) := dk_154 0 5 (dk_at dksX3_why_0 5 rfl rfl)
theorem dX3_why_8 : decode cX3_why 8 = .ok (.iconst (-1), 1) := dk_2 (dk_at dksX3_why_0 8 rfl rfl)
theorem dX3_why_9 : decode cX3_why 9 = .ok (.ireturn, 1) := dk_172 (dk_at dksX3_why_0 9 rfl rfl)
theorem dX3_why_10 : decode cX3_why 10 = .ok (.iload_n 3, 1) := dk_29 (dk_at dksX3_why_0 10 rfl rfl)
theorem dX3_why_11 : decode cX3_why 11 = .ok (.iconst 0, 1) := dk_3 (dk_at dksX3_why_0 11 rfl rfl)
theorem dX3_why_12 : decode cX3_why 12 = .ok (.bipush 9, 2) := dk_16 9 (dk_at dksX3_why_0 12 rfl rfl)
theorem dX3_why_14 : decode cX3_why 14 = .ok (.invokestatic 29, 3) := dk_184 0 29 (dk_at dksX3_why_0 14 rfl rfl)
theorem dX3_why_17 : decode cX3_why 17 = .ok (.ifCond .eq 13, 3) := dk_153 0 13 (dk_at dksX3_why_0 17 rfl rfl)
theorem dX3_why_20 : decode cX3_why 20 = .ok (.aload_n 0, 1) := dk_42 (dk_at dksX3_why_0 20 rfl rfl)
theorem dX3_why_21 : decode cX3_why 21 = .ok (.iload_n 1, 1) := dk_27 (dk_at dksX3_why_0 21 rfl rfl)
theorem dX3_why_22 : decode cX3_why 22 = .ok (.iload_n 2, 1) := dk_28 (dk_at dksX3_why_0 22 rfl rfl)
theorem dX3_why_23 : decode cX3_why 23 = .ok (.iload_n 3, 1) := dk_29 (dk_at dksX3_why_0 23 rfl rfl)
theorem dX3_why_24 : decode cX3_why 24 = .ok (.invokevirtual 95, 3) := dk_182 0 95 (dk_at dksX3_why_1 0 rfl rfl)
theorem dX3_why_27 : decode cX3_why 27 = .ok (.goto 5, 3) := dk_167 0 5 (dk_at dksX3_why_1 3 rfl rfl)
theorem dX3_why_30 : decode cX3_why 30 = .ok (.bipush (-2), 2) := dk_16 254 (dk_at dksX3_why_1 6 rfl rfl)
theorem dX3_why_32 : decode cX3_why 32 = .ok (.ireturn, 1) := dk_172 (dk_at dksX3_why_1 8 rfl rfl)
abbrev cX3_count : ByteArray := prog_9_method_41_code
def yX3_count : MethodName := ⟨RX3, "count", "(I)I"⟩
def dkwX3_count_4 : List UInt8 := [180, 0, 118, 172, 42, 180, 0, 37, 172, 16, 254, 172]
abbrev dktX3_count_4 : List UInt8 := dkwX3_count_4 ++ []
def dkwX3_count_3 : List UInt8 := [182, 0, 115, 172, 42, 180, 0, 7, 4, 46, 172, 42, 180, 0, 7, 5, 27, 96, 16, 8, 100, 46, 172, 42]
abbrev dktX3_count_3 : List UInt8 := dkwX3_count_3 ++ dktX3_count_4
def dkwX3_count_2 : List UInt8 := [42, 180, 0, 7, 3, 46, 172, 42, 27, 182, 0, 112, 172, 42, 8, 182, 0, 112, 5, 108, 172, 42]
abbrev dktX3_count_2 : List UInt8 := dkwX3_count_2 ++ dktX3_count_3
def dkwX3_count_1 : List UInt8 := [170, 0, 0, 0, 0, 0, 138, 0, 0, 0, 0, 0, 0, 0, 16, 0, 0, 0, 83, 0, 0, 0, 90, 0, 0, 0, 90, 0, 0, 0, 90, 0, 0, 0, 90, 0, 0, 0, 96, 0, 0, 0, 104, 0, 0, 0, 109, 0, 0, 0, 116, 0, 0, 0, 116, 0, 0, 0, 116, 0, 0, 0, 116, 0, 0, 0, 116, 0, 0, 0, 116, 0, 0, 0, 116, 0, 0, 0, 128, 0, 0, 0, 133]
abbrev dktX3_count_1 : List UInt8 := dkwX3_count_1 ++ dktX3_count_2
def dkwX3_count_0 : List UInt8 := [27]
abbrev dktX3_count_0 : List UInt8 := dkwX3_count_0 ++ dktX3_count_1
theorem dksX3_count_0 : cX3_count.data.toList.drop 0 = dktX3_count_0 := by decide +kernel
theorem dksX3_count_1 : cX3_count.data.toList.drop 1 = dktX3_count_1 := dk_seg dksX3_count_0 1 rfl rfl
theorem dksX3_count_2 : cX3_count.data.toList.drop 84 = dktX3_count_2 := dk_seg dksX3_count_1 83 rfl rfl
theorem dksX3_count_3 : cX3_count.data.toList.drop 106 = dktX3_count_3 := dk_seg dksX3_count_2 22 rfl rfl
theorem dksX3_count_4 : cX3_count.data.toList.drop 130 = dktX3_count_4 := dk_seg dksX3_count_3 24 rfl rfl
theorem dX3_count_0 : decode cX3_count 0 = .ok (.iload_n 1, 1) := dk_27 (dk_at dksX3_count_0 0 rfl rfl)
theorem dX3_count_1 : decode cX3_count 1 = .ok (.tableswitch 138 0 16 #[83, 90, 90, 90, 90, 96, 104, 109, 116, 116, 116, 116, 116, 116, 116, 128, 133], 83) := by decide +kernel
theorem dX3_count_84 : decode cX3_count 84 = .ok (.aload_n 0, 1) := dk_42 (dk_at dksX3_count_2 0 rfl rfl)
theorem dX3_count_85 : decode cX3_count 85 = .ok (.getfield 7, 3) := dk_180 0 7 (dk_at dksX3_count_2 1 rfl rfl)
theorem dX3_count_88 : decode cX3_count 88 = .ok (.iconst 0, 1) := dk_3 (dk_at dksX3_count_2 4 rfl rfl)
theorem dX3_count_89 : decode cX3_count 89 = .ok (.iaload, 1) := dk_46 (dk_at dksX3_count_2 5 rfl rfl)
theorem dX3_count_90 : decode cX3_count 90 = .ok (.ireturn, 1) := dk_172 (dk_at dksX3_count_2 6 rfl rfl)
theorem dX3_count_91 : decode cX3_count 91 = .ok (.aload_n 0, 1) := dk_42 (dk_at dksX3_count_2 7 rfl rfl)
theorem dX3_count_92 : decode cX3_count 92 = .ok (.iload_n 1, 1) := dk_27 (dk_at dksX3_count_2 8 rfl rfl)
theorem dX3_count_93 : decode cX3_count 93 = .ok (.invokevirtual 112, 3) := dk_182 0 112 (dk_at dksX3_count_2 9 rfl rfl)
theorem dX3_count_96 : decode cX3_count 96 = .ok (.ireturn, 1) := dk_172 (dk_at dksX3_count_2 12 rfl rfl)
theorem dX3_count_97 : decode cX3_count 97 = .ok (.aload_n 0, 1) := dk_42 (dk_at dksX3_count_2 13 rfl rfl)
theorem dX3_count_98 : decode cX3_count 98 = .ok (.iconst 5, 1) := dk_8 (dk_at dksX3_count_2 14 rfl rfl)
theorem dX3_count_99 : decode cX3_count 99 = .ok (.invokevirtual 112, 3) := dk_182 0 112 (dk_at dksX3_count_2 15 rfl rfl)
theorem dX3_count_102 : decode cX3_count 102 = .ok (.iconst 2, 1) := dk_5 (dk_at dksX3_count_2 18 rfl rfl)
theorem dX3_count_103 : decode cX3_count 103 = .ok (.idiv, 1) := dk_108 (dk_at dksX3_count_2 19 rfl rfl)
theorem dX3_count_104 : decode cX3_count 104 = .ok (.ireturn, 1) := dk_172 (dk_at dksX3_count_2 20 rfl rfl)
theorem dX3_count_105 : decode cX3_count 105 = .ok (.aload_n 0, 1) := dk_42 (dk_at dksX3_count_2 21 rfl rfl)
theorem dX3_count_106 : decode cX3_count 106 = .ok (.invokevirtual 115, 3) := dk_182 0 115 (dk_at dksX3_count_3 0 rfl rfl)
theorem dX3_count_109 : decode cX3_count 109 = .ok (.ireturn, 1) := dk_172 (dk_at dksX3_count_3 3 rfl rfl)
theorem dX3_count_110 : decode cX3_count 110 = .ok (.aload_n 0, 1) := dk_42 (dk_at dksX3_count_3 4 rfl rfl)
theorem dX3_count_111 : decode cX3_count 111 = .ok (.getfield 7, 3) := dk_180 0 7 (dk_at dksX3_count_3 5 rfl rfl)
theorem dX3_count_114 : decode cX3_count 114 = .ok (.iconst 1, 1) := dk_4 (dk_at dksX3_count_3 8 rfl rfl)
theorem dX3_count_115 : decode cX3_count 115 = .ok (.iaload, 1) := dk_46 (dk_at dksX3_count_3 9 rfl rfl)
theorem dX3_count_116 : decode cX3_count 116 = .ok (.ireturn, 1) := dk_172 (dk_at dksX3_count_3 10 rfl rfl)
theorem dX3_count_117 : decode cX3_count 117 = .ok (.aload_n 0, 1) := dk_42 (dk_at dksX3_count_3 11 rfl rfl)
theorem dX3_count_118 : decode cX3_count 118 = .ok (.getfield 7, 3) := dk_180 0 7 (dk_at dksX3_count_3 12 rfl rfl)
theorem dX3_count_121 : decode cX3_count 121 = .ok (.iconst 2, 1) := dk_5 (dk_at dksX3_count_3 15 rfl rfl)
theorem dX3_count_122 : decode cX3_count 122 = .ok (.iload_n 1, 1) := dk_27 (dk_at dksX3_count_3 16 rfl rfl)
theorem dX3_count_123 : decode cX3_count 123 = .ok (.iadd, 1) := dk_96 (dk_at dksX3_count_3 17 rfl rfl)
theorem dX3_count_124 : decode cX3_count 124 = .ok (.bipush 8, 2) := dk_16 8 (dk_at dksX3_count_3 18 rfl rfl)
theorem dX3_count_126 : decode cX3_count 126 = .ok (.isub, 1) := dk_100 (dk_at dksX3_count_3 20 rfl rfl)
theorem dX3_count_127 : decode cX3_count 127 = .ok (.iaload, 1) := dk_46 (dk_at dksX3_count_3 21 rfl rfl)
theorem dX3_count_128 : decode cX3_count 128 = .ok (.ireturn, 1) := dk_172 (dk_at dksX3_count_3 22 rfl rfl)
theorem dX3_count_129 : decode cX3_count 129 = .ok (.aload_n 0, 1) := dk_42 (dk_at dksX3_count_3 23 rfl rfl)
theorem dX3_count_130 : decode cX3_count 130 = .ok (.getfield 118, 3) := dk_180 0 118 (dk_at dksX3_count_4 0 rfl rfl)
theorem dX3_count_133 : decode cX3_count 133 = .ok (.ireturn, 1) := dk_172 (dk_at dksX3_count_4 3 rfl rfl)
theorem dX3_count_134 : decode cX3_count 134 = .ok (.aload_n 0, 1) := dk_42 (dk_at dksX3_count_4 4 rfl rfl)
theorem dX3_count_135 : decode cX3_count 135 = .ok (.getfield 37, 3) := dk_180 0 37 (dk_at dksX3_count_4 5 rfl rfl)
theorem dX3_count_138 : decode cX3_count 138 = .ok (.ireturn, 1) := dk_172 (dk_at dksX3_count_4 8 rfl rfl)
theorem dX3_count_139 : decode cX3_count 139 = .ok (.bipush (-2), 2) := dk_16 254 (dk_at dksX3_count_4 9 rfl rfl)
theorem dX3_count_141 : decode cX3_count 141 = .ok (.ireturn, 1) := dk_172 (dk_at dksX3_count_4 11 rfl rfl)
abbrev cX3_sumOf : ByteArray := prog_9_method_40_code
def yX3_sumOf : MethodName := ⟨RX3, "sumOf", "(I)I"⟩
def dkwX3_sumOf_3 : List UInt8 := [132, 3, 1, 167, 255, 189, 28, 172]
abbrev dktX3_sumOf_3 : List UInt8 := dkwX3_sumOf_3 ++ []
def dkwX3_sumOf_2 : List UInt8 := [167, 0, 20, 42, 29, 4, 182, 0, 41, 27, 4, 100, 160, 0, 7, 4, 167, 0, 4, 3, 96, 61]
abbrev dktX3_sumOf_2 : List UInt8 := dkwX3_sumOf_2 ++ dktX3_sumOf_3
def dkwX3_sumOf_1 : List UInt8 := [182, 0, 102, 167, 0, 41, 27, 7, 160, 0, 19, 42, 29, 182, 0, 82, 153, 0, 7, 4, 167, 0, 24, 3]
abbrev dktX3_sumOf_1 : List UInt8 := dkwX3_sumOf_1 ++ dktX3_sumOf_2
def dkwX3_sumOf_0 : List UInt8 := [3, 61, 3, 62, 29, 42, 180, 0, 7, 3, 46, 162, 0, 63, 28, 27, 8, 160, 0, 11, 42, 29]
abbrev dktX3_sumOf_0 : List UInt8 := dkwX3_sumOf_0 ++ dktX3_sumOf_1
theorem dksX3_sumOf_0 : cX3_sumOf.data.toList.drop 0 = dktX3_sumOf_0 := by decide +kernel
theorem dksX3_sumOf_1 : cX3_sumOf.data.toList.drop 22 = dktX3_sumOf_1 := dk_seg dksX3_sumOf_0 22 rfl rfl
theorem dksX3_sumOf_2 : cX3_sumOf.data.toList.drop 46 = dktX3_sumOf_2 := dk_seg dksX3_sumOf_1 24 rfl rfl
theorem dksX3_sumOf_3 : cX3_sumOf.data.toList.drop 68 = dktX3_sumOf_3 := dk_seg dksX3_sumOf_2 22 rfl rfl
theorem dX3_sumOf_0 : decode cX3_sumOf 0 = .ok (.iconst 0, 1) := dk_3 (dk_at dksX3_sumOf_0 0 rfl rfl)
theorem dX3_sumOf_1 : decode cX3_sumOf 1 = .ok (.istore_n 2, 1) := dk_61 (dk_at dksX3_sumOf_0 1 rfl rfl)
theorem dX3_sumOf_2 : decode cX3_sumOf 2 = .ok (.iconst 0, 1) := dk_3 (dk_at dksX3_sumOf_0 2 rfl rfl)
theorem dX3_sumOf_3 : decode cX3_sumOf 3 = .ok (.istore_n 3, 1) := dk_62 (dk_at dksX3_sumOf_0 3 rfl rfl)
theorem dX3_sumOf_4 : decode cX3_sumOf 4 = .ok (.iload_n 3, 1) := dk_29 (dk_at dksX3_sumOf_0 4 rfl rfl)
theorem dX3_sumOf_5 : decode cX3_sumOf 5 = .ok (.aload_n 0, 1) := dk_42 (dk_at dksX3_sumOf_0 5 rfl rfl)
theorem dX3_sumOf_6 : decode cX3_sumOf 6 = .ok (.getfield 7, 3) := dk_180 0 7 (dk_at dksX3_sumOf_0 6 rfl rfl)
theorem dX3_sumOf_9 : decode cX3_sumOf 9 = .ok (.iconst 0, 1) := dk_3 (dk_at dksX3_sumOf_0 9 rfl rfl)
theorem dX3_sumOf_10 : decode cX3_sumOf 10 = .ok (.iaload, 1) := dk_46 (dk_at dksX3_sumOf_0 10 rfl rfl)
theorem dX3_sumOf_11 : decode cX3_sumOf 11 = .ok (.if_icmp .ge 63, 3) := dk_162 0 63 (dk_at dksX3_sumOf_0 11 rfl rfl)
theorem dX3_sumOf_14 : decode cX3_sumOf 14 = .ok (.iload_n 2, 1) := dk_28 (dk_at dksX3_sumOf_0 14 rfl rfl)
theorem dX3_sumOf_15 : decode cX3_sumOf 15 = .ok (.iload_n 1, 1) := dk_27 (dk_at dksX3_sumOf_0 15 rfl rfl)
theorem dX3_sumOf_16 : decode cX3_sumOf 16 = .ok (.iconst 5, 1) := dk_8 (dk_at dksX3_sumOf_0 16 rfl rfl)
theorem dX3_sumOf_17 : decode cX3_sumOf 17 = .ok (.if_icmp .ne 11, 3) := dk_160 0 11 (dk_at dksX3_sumOf_0 17 rfl rfl)
theorem dX3_sumOf_20 : decode cX3_sumOf 20 = .ok (.aload_n 0, 1) := dk_42 (dk_at dksX3_sumOf_0 20 rfl rfl)
theorem dX3_sumOf_21 : decode cX3_sumOf 21 = .ok (.iload_n 3, 1) := dk_29 (dk_at dksX3_sumOf_0 21 rfl rfl)
theorem dX3_sumOf_22 : decode cX3_sumOf 22 = .ok (.invokevirtual 102, 3) := dk_182 0 102 (dk_at dksX3_sumOf_1 0 rfl rfl)
theorem dX3_sumOf_25 : decode cX3_sumOf 25 = .ok (.goto 41, 3) := dk_167 0 41 (dk_at dksX3_sumOf_1 3 rfl rfl)
theorem dX3_sumOf_28 : decode cX3_sumOf 28 = .ok (.iload_n 1, 1) := dk_27 (dk_at dksX3_sumOf_1 6 rfl rfl)
theorem dX3_sumOf_29 : decode cX3_sumOf 29 = .ok (.iconst 4, 1) := dk_7 (dk_at dksX3_sumOf_1 7 rfl rfl)
theorem dX3_sumOf_30 : decode cX3_sumOf 30 = .ok (.if_icmp .ne 19, 3) := dk_160 0 19 (dk_at dksX3_sumOf_1 8 rfl rfl)
theorem dX3_sumOf_33 : decode cX3_sumOf 33 = .ok (.aload_n 0, 1) := dk_42 (dk_at dksX3_sumOf_1 11 rfl rfl)
theorem dX3_sumOf_34 : decode cX3_sumOf 34 = .ok (.iload_n 3, 1) := dk_29 (dk_at dksX3_sumOf_1 12 rfl rfl)
theorem dX3_sumOf_35 : decode cX3_sumOf 35 = .ok (.invokevirtual 82, 3) := dk_182 0 82 (dk_at dksX3_sumOf_1 13 rfl rfl)
theorem dX3_sumOf_38 : decode cX3_sumOf 38 = .ok (.ifCond .eq 7, 3) := dk_153 0 7 (dk_at dksX3_sumOf_1 16 rfl rfl)
theorem dX3_sumOf_41 : decode cX3_sumOf 41 = .ok (.iconst 1, 1) := dk_4 (dk_at dksX3_sumOf_1 19 rfl rfl)
theorem dX3_sumOf_42 : decode cX3_sumOf 42 = .ok (.goto 24, 3) := dk_167 0 24 (dk_at dksX3_sumOf_1 20 rfl rfl)
theorem dX3_sumOf_45 : decode cX3_sumOf 45 = .ok (.iconst 0, 1) := dk_3 (dk_at dksX3_sumOf_1 23 rfl rfl)
theorem dX3_sumOf_46 : decode cX3_sumOf 46 = .ok (.goto 20, 3) := dk_167 0 20 (dk_at dksX3_sumOf_2 0 rfl rfl)
theorem dX3_sumOf_49 : decode cX3_sumOf 49 = .ok (.aload_n 0, 1) := dk_42 (dk_at dksX3_sumOf_2 3 rfl rfl)
theorem dX3_sumOf_50 : decode cX3_sumOf 50 = .ok (.iload_n 3, 1) := dk_29 (dk_at dksX3_sumOf_2 4 rfl rfl)
theorem dX3_sumOf_51 : decode cX3_sumOf 51 = .ok (.iconst 1, 1) := dk_4 (dk_at dksX3_sumOf_2 5 rfl rfl)
theorem dX3_sumOf_52 : decode cX3_sumOf 52 = .ok (.invokevirtual 41, 3) := dk_182 0 41 (dk_at dksX3_sumOf_2 6 rfl rfl)
theorem dX3_sumOf_55 : decode cX3_sumOf 55 = .ok (.iload_n 1, 1) := dk_27 (dk_at dksX3_sumOf_2 9 rfl rfl)
theorem dX3_sumOf_56 : decode cX3_sumOf 56 = .ok (.iconst 1, 1) := dk_4 (dk_at dksX3_sumOf_2 10 rfl rfl)
theorem dX3_sumOf_57 : decode cX3_sumOf 57 = .ok (.isub, 1) := dk_100 (dk_at dksX3_sumOf_2 11 rfl rfl)
theorem dX3_sumOf_58 : decode cX3_sumOf 58 = .ok (.if_icmp .ne 7, 3) := dk_160 0 7 (dk_at dksX3_sumOf_2 12 rfl rfl)
theorem dX3_sumOf_61 : decode cX3_sumOf 61 = .ok (.iconst 1, 1) := dk_4 (dk_at dksX3_sumOf_2 15 rfl rfl)
theorem dX3_sumOf_62 : decode cX3_sumOf 62 = .ok (.goto 4, 3) := dk_167 0 4 (dk_at dksX3_sumOf_2 16 rfl rfl)
theorem dX3_sumOf_65 : decode cX3_sumOf 65 = .ok (.iconst 0, 1) := dk_3 (dk_at dksX3_sumOf_2 19 rfl rfl)
theorem dX3_sumOf_66 : decode cX3_sumOf 66 = .ok (.iadd, 1) := dk_96 (dk_at dksX3_sumOf_2 20 rfl rfl)
theorem dX3_sumOf_67 : decode cX3_sumOf 67 = .ok (.istore_n 2, 1) := dk_61 (dk_at dksX3_sumOf_2 21 rfl rfl)
theorem dX3_sumOf_68 : decode cX3_sumOf 68 = .ok (.iinc 3 1, 3) := dk_132 3 1 (dk_at dksX3_sumOf_3 0 rfl rfl)
theorem dX3_sumOf_71 : decode cX3_sumOf 71 = .ok (.goto (-67), 3) := dk_167 255 189 (dk_at dksX3_sumOf_3 3 rfl rfl)
theorem dX3_sumOf_74 : decode cX3_sumOf 74 = .ok (.iload_n 2, 1) := dk_28 (dk_at dksX3_sumOf_3 6 rfl rfl)
theorem dX3_sumOf_75 : decode cX3_sumOf 75 = .ok (.ireturn, 1) := dk_172 (dk_at dksX3_sumOf_3 7 rfl rfl)
abbrev cX3_triplesNow : ByteArray := prog_9_method_18_code
def yX3_triplesNow : MethodName := ⟨RX3, "triplesNow", "()I"⟩
def dkwX3_triplesNow_0 : List UInt8 := [42, 16, 250, 16, 250, 3, 182, 0, 61, 172]
abbrev dktX3_triplesNow_0 : List UInt8 := dkwX3_triplesNow_0 ++ []
theorem dksX3_triplesNow_0 : cX3_triplesNow.data.toList.drop 0 = dktX3_triplesNow_0 := by decide +kernel
theorem dX3_triplesNow_0 : decode cX3_triplesNow 0 = .ok (.aload_n 0, 1) := dk_42 (dk_at dksX3_triplesNow_0 0 rfl rfl)
theorem dX3_triplesNow_1 : decode cX3_triplesNow 1 = .ok (.bipush (-6), 2) := dk_16 250 (dk_at dksX3_triplesNow_0 1 rfl rfl)
theorem dX3_triplesNow_3 : decode cX3_triplesNow 3 = .ok (.bipush (-6), 2) := dk_16 250 (dk_at dksX3_triplesNow_0 3 rfl rfl)
theorem dX3_triplesNow_5 : decode cX3_triplesNow 5 = .ok (.iconst 0, 1) := dk_3 (dk_at dksX3_triplesNow_0 5 rfl rfl)
theorem dX3_triplesNow_6 : decode cX3_triplesNow 6 = .ok (.invokevirtual 61, 3) := dk_182 0 61 (dk_at dksX3_triplesNow_0 6 rfl rfl)
theorem dX3_triplesNow_9 : decode cX3_triplesNow 9 = .ok (.ireturn, 1) := dk_172 (dk_at dksX3_triplesNow_0 9 rfl rfl)
abbrev cX3_triples : ByteArray := prog_9_method_17_code
def yX3_triples : MethodName := ⟨RX3, "triples", "(III)I"⟩
def dkwX3_triples_1 : List UInt8 := [21, 5, 16, 6, 112, 27, 28, 29, 182, 0, 54, 100, 96, 54, 4, 132, 5, 1, 167, 255, 221, 21, 4, 172]
abbrev dktX3_triples_1 : List UInt8 := dkwX3_triples_1 ++ []
def dkwX3_triples_0 : List UInt8 := [3, 54, 4, 3, 54, 5, 21, 5, 16, 30, 162, 0, 34, 21, 4, 16, 10, 42, 21, 5, 16, 6, 108]
abbrev dktX3_triples_0 : List UInt8 := dkwX3_triples_0 ++ dktX3_triples_1
theorem dksX3_triples_0 : cX3_triples.data.toList.drop 0 = dktX3_triples_0 := by decide +kernel
theorem dksX3_triples_1 : cX3_triples.data.toList.drop 23 = dktX3_triples_1 := dk_seg dksX3_triples_0 23 rfl rfl
theorem dX3_triples_0 : decode cX3_triples 0 = .ok (.iconst 0, 1) := dk_3 (dk_at dksX3_triples_0 0 rfl rfl)
theorem dX3_triples_1 : decode cX3_triples 1 = .ok (.istore 4, 2) := dk_54 4 (dk_at dksX3_triples_0 1 rfl rfl)
theorem dX3_triples_3 : decode cX3_triples 3 = .ok (.iconst 0, 1) := dk_3 (dk_at dksX3_triples_0 3 rfl rfl)
theorem dX3_triples_4 : decode cX3_triples 4 = .ok (.istore 5, 2) := dk_54 5 (dk_at dksX3_triples_0 4 rfl rfl)
theorem dX3_triples_6 : decode cX3_triples 6 = .ok (.iload 5, 2) := dk_21 5 (dk_at dksX3_triples_0 6 rfl rfl)
theorem dX3_triples_8 : decode cX3_triples 8 = .ok (.bipush 30, 2) := dk_16 30 (dk_at dksX3_triples_0 8 rfl rfl)
theorem dX3_triples_10 : decode cX3_triples 10 = .ok (.if_icmp .ge 34, 3) := dk_162 0 34 (dk_at dksX3_triples_0 10 rfl rfl)
theorem dX3_triples_13 : decode cX3_triples 13 = .ok (.iload 4, 2) := dk_21 4 (dk_at dksX3_triples_0 13 rfl rfl)
theorem dX3_triples_15 : decode cX3_triples 15 = .ok (.bipush 10, 2) := dk_16 10 (dk_at dksX3_triples_0 15 rfl rfl)
theorem dX3_triples_17 : decode cX3_triples 17 = .ok (.aload_n 0, 1) := dk_42 (dk_at dksX3_triples_0 17 rfl rfl)
theorem dX3_triples_18 : decode cX3_triples 18 = .ok (.iload 5, 2) := dk_21 5 (dk_at dksX3_triples_0 18 rfl rfl)
theorem dX3_triples_20 : decode cX3_triples 20 = .ok (.bipush 6, 2) := dk_16 6 (dk_at dksX3_triples_0 20 rfl rfl)
theorem dX3_triples_22 : decode cX3_triples 22 = .ok (.idiv, 1) := dk_108 (dk_at dksX3_triples_0 22 rfl rfl)
theorem dX3_triples_23 : decode cX3_triples 23 = .ok (.iload 5, 2) := dk_21 5 (dk_at dksX3_triples_1 0 rfl rfl)
theorem dX3_triples_25 : decode cX3_triples 25 = .ok (.bipush 6, 2) := dk_16 6 (dk_at dksX3_triples_1 2 rfl rfl)
theorem dX3_triples_27 : decode cX3_triples 27 = .ok (.irem, 1) := dk_112 (dk_at dksX3_triples_1 4 rfl rfl)
theorem dX3_triples_28 : decode cX3_triples 28 = .ok (.iload_n 1, 1) := dk_27 (dk_at dksX3_triples_1 5 rfl rfl)
theorem dX3_triples_29 : decode cX3_triples 29 = .ok (.iload_n 2, 1) := dk_28 (dk_at dksX3_triples_1 6 rfl rfl)
theorem dX3_triples_30 : decode cX3_triples 30 = .ok (.iload_n 3, 1) := dk_29 (dk_at dksX3_triples_1 7 rfl rfl)
theorem dX3_triples_31 : decode cX3_triples 31 = .ok (.invokevirtual 54, 3) := dk_182 0 54 (dk_at dksX3_triples_1 8 rfl rfl)
theorem dX3_triples_34 : decode cX3_triples 34 = .ok (.isub, 1) := dk_100 (dk_at dksX3_triples_1 11 rfl rfl)
theorem dX3_triples_35 : decode cX3_triples 35 = .ok (.iadd, 1) := dk_96 (dk_at dksX3_triples_1 12 rfl rfl)
theorem dX3_triples_36 : decode cX3_triples 36 = .ok (.istore 4, 2) := dk_54 4 (dk_at dksX3_triples_1 13 rfl rfl)
theorem dX3_triples_38 : decode cX3_triples 38 = .ok (.iinc 5 1, 3) := dk_132 5 1 (dk_at dksX3_triples_1 15 rfl rfl)
theorem dX3_triples_41 : decode cX3_triples 41 = .ok (.goto (-35), 3) := dk_167 255 221 (dk_at dksX3_triples_1 18 rfl rfl)
theorem dX3_triples_44 : decode cX3_triples 44 = .ok (.iload 4, 2) := dk_21 4 (dk_at dksX3_triples_1 21 rfl rfl)
theorem dX3_triples_46 : decode cX3_triples 46 = .ok (.ireturn, 1) := dk_172 (dk_at dksX3_triples_1 23 rfl rfl)
abbrev cX3_leastRank : ByteArray := prog_9_method_42_code
def yX3_leastRank : MethodName := ⟨RX3, "leastRank", "(II)I"⟩
def dkwX3_leastRank_1 : List UInt8 := [16, 250, 167, 0, 4, 29, 172]
abbrev dktX3_leastRank_1 : List UInt8 := dkwX3_leastRank_1 ++ []
def dkwX3_leastRank_0 : List UInt8 := [27, 28, 184, 0, 109, 154, 0, 5, 2, 172, 42, 27, 28, 182, 0, 58, 62, 29, 16, 10, 160, 0, 8]
abbrev dktX3_leastRank_0 : List UInt8 := dkwX3_leastRank_0 ++ dktX3_leastRank_1
theorem dksX3_leastRank_0 : cX3_leastRank.data.toList.drop 0 = dktX3_leastRank_0 := by decide +kernel
theorem dksX3_leastRank_1 : cX3_leastRank.data.toList.drop 23 = dktX3_leastRank_1 := dk_seg dksX3_leastRank_0 23 rfl rfl
theorem dX3_leastRank_0 : decode cX3_leastRank 0 = .ok (.iload_n 1, 1) := dk_27 (dk_at dksX3_leastRank_0 0 rfl rfl)
theorem dX3_leastRank_1 : decode cX3_leastRank 1 = .ok (.iload_n 2, 1) := dk_28 (dk_at dksX3_leastRank_0 1 rfl rfl)
theorem dX3_leastRank_2 : decode cX3_leastRank 2 = .ok (.invokestatic 109, 3) := dk_184 0 109 (dk_at dksX3_leastRank_0 2 rfl rfl)
theorem dX3_leastRank_5 : decode cX3_leastRank 5 = .ok (.ifCond .ne 5, 3) := dk_154 0 5 (dk_at dksX3_leastRank_0 5 rfl rfl)
theorem dX3_leastRank_8 : decode cX3_leastRank 8 = .ok (.iconst (-1), 1) := dk_2 (dk_at dksX3_leastRank_0 8 rfl rfl)
theorem dX3_leastRank_9 : decode cX3_leastRank 9 = .ok (.ireturn, 1) := dk_172 (dk_at dksX3_leastRank_0 9 rfl rfl)
theorem dX3_leastRank_10 : decode cX3_leastRank 10 = .ok (.aload_n 0, 1) := dk_42 (dk_at dksX3_leastRank_0 10 rfl rfl)
theorem dX3_leastRank_11 : decode cX3_leastRank 11 = .ok (.iload_n 1, 1) := dk_27 (dk_at dksX3_leastRank_0 11 rfl rfl)
theorem dX3_leastRank_12 : decode cX3_leastRank 12 = .ok (.iload_n 2, 1) := dk_28 (dk_at dksX3_leastRank_0 12 rfl rfl)
theorem dX3_leastRank_13 : decode cX3_leastRank 13 = .ok (.invokevirtual 58, 3) := dk_182 0 58 (dk_at dksX3_leastRank_0 13 rfl rfl)
theorem dX3_leastRank_16 : decode cX3_leastRank 16 = .ok (.istore_n 3, 1) := dk_62 (dk_at dksX3_leastRank_0 16 rfl rfl)
theorem dX3_leastRank_17 : decode cX3_leastRank 17 = .ok (.iload_n 3, 1) := dk_29 (dk_at dksX3_leastRank_0 17 rfl rfl)
theorem dX3_leastRank_18 : decode cX3_leastRank 18 = .ok (.bipush 10, 2) := dk_16 10 (dk_at dksX3_leastRank_0 18 rfl rfl)
theorem dX3_leastRank_20 : decode cX3_leastRank 20 = .ok (.if_icmp .ne 8, 3) := dk_160 0 8 (dk_at dksX3_leastRank_0 20 rfl rfl)
theorem dX3_leastRank_23 : decode cX3_leastRank 23 = .ok (.bipush (-6), 2) := dk_16 250 (dk_at dksX3_leastRank_1 0 rfl rfl)
theorem dX3_leastRank_25 : decode cX3_leastRank 25 = .ok (.goto 4, 3) := dk_167 0 4 (dk_at dksX3_leastRank_1 2 rfl rfl)
theorem dX3_leastRank_28 : decode cX3_leastRank 28 = .ok (.iload_n 3, 1) := dk_29 (dk_at dksX3_leastRank_1 5 rfl rfl)
theorem dX3_leastRank_29 : decode cX3_leastRank 29 = .ok (.ireturn, 1) := dk_172 (dk_at dksX3_leastRank_1 6 rfl rfl)
abbrev cX3_ifStruck : ByteArray := prog_9_method_43_code
def yX3_ifStruck : MethodName := ⟨RX3, "ifStruck", "(I)I"⟩
def dkwX3_ifStruck_1 : List UInt8 := [100, 167, 0, 4, 2, 172]
abbrev dktX3_ifStruck_1 : List UInt8 := dkwX3_ifStruck_1 ++ []
def dkwX3_ifStruck_0 : List UInt8 := [42, 27, 182, 0, 71, 153, 0, 23, 17, 3, 232, 42, 27, 16, 250, 3, 182, 0, 61, 96, 42, 182, 0, 115]
abbrev dktX3_ifStruck_0 : List UInt8 := dkwX3_ifStruck_0 ++ dktX3_ifStruck_1
theorem dksX3_ifStruck_0 : cX3_ifStruck.data.toList.drop 0 = dktX3_ifStruck_0 := by decide +kernel
theorem dksX3_ifStruck_1 : cX3_ifStruck.data.toList.drop 24 = dktX3_ifStruck_1 := dk_seg dksX3_ifStruck_0 24 rfl rfl
theorem dX3_ifStruck_0 : decode cX3_ifStruck 0 = .ok (.aload_n 0, 1) := dk_42 (dk_at dksX3_ifStruck_0 0 rfl rfl)
theorem dX3_ifStruck_1 : decode cX3_ifStruck 1 = .ok (.iload_n 1, 1) := dk_27 (dk_at dksX3_ifStruck_0 1 rfl rfl)
theorem dX3_ifStruck_2 : decode cX3_ifStruck 2 = .ok (.invokevirtual 71, 3) := dk_182 0 71 (dk_at dksX3_ifStruck_0 2 rfl rfl)
theorem dX3_ifStruck_5 : decode cX3_ifStruck 5 = .ok (.ifCond .eq 23, 3) := dk_153 0 23 (dk_at dksX3_ifStruck_0 5 rfl rfl)
theorem dX3_ifStruck_8 : decode cX3_ifStruck 8 = .ok (.sipush 1000, 3) := dk_17 3 232 (dk_at dksX3_ifStruck_0 8 rfl rfl)
theorem dX3_ifStruck_11 : decode cX3_ifStruck 11 = .ok (.aload_n 0, 1) := dk_42 (dk_at dksX3_ifStruck_0 11 rfl rfl)
theorem dX3_ifStruck_12 : decode cX3_ifStruck 12 = .ok (.iload_n 1, 1) := dk_27 (dk_at dksX3_ifStruck_0 12 rfl rfl)
theorem dX3_ifStruck_13 : decode cX3_ifStruck 13 = .ok (.bipush (-6), 2) := dk_16 250 (dk_at dksX3_ifStruck_0 13 rfl rfl)
theorem dX3_ifStruck_15 : decode cX3_ifStruck 15 = .ok (.iconst 0, 1) := dk_3 (dk_at dksX3_ifStruck_0 15 rfl rfl)
theorem dX3_ifStruck_16 : decode cX3_ifStruck 16 = .ok (.invokevirtual 61, 3) := dk_182 0 61 (dk_at dksX3_ifStruck_0 16 rfl rfl)
theorem dX3_ifStruck_19 : decode cX3_ifStruck 19 = .ok (.iadd, 1) := dk_96 (dk_at dksX3_ifStruck_0 19 rfl rfl)
theorem dX3_ifStruck_20 : decode cX3_ifStruck 20 = .ok (.aload_n 0, 1) := dk_42 (dk_at dksX3_ifStruck_0 20 rfl rfl)
theorem dX3_ifStruck_21 : decode cX3_ifStruck 21 = .ok (.invokevirtual 115, 3) := dk_182 0 115 (dk_at dksX3_ifStruck_0 21 rfl rfl)
theorem dX3_ifStruck_24 : decode cX3_ifStruck 24 = .ok (.isub, 1) := dk_100 (dk_at dksX3_ifStruck_1 0 rfl rfl)
theorem dX3_ifStruck_25 : decode cX3_ifStruck 25 = .ok (.goto 4, 3) := dk_167 0 4 (dk_at dksX3_ifStruck_1 1 rfl rfl)
theorem dX3_ifStruck_28 : decode cX3_ifStruck 28 = .ok (.iconst (-1), 1) := dk_2 (dk_at dksX3_ifStruck_1 4 rfl rfl)
theorem dX3_ifStruck_29 : decode cX3_ifStruck 29 = .ok (.ireturn, 1) := dk_172 (dk_at dksX3_ifStruck_1 5 rfl rfl)
abbrev cX3_worstBan : ByteArray := prog_9_method_44_code
def yX3_worstBan : MethodName := ⟨RX3, "worstBan", "()I"⟩
def dkwX3_worstBan_3 : List UInt8 := [153, 0, 8, 21, 4, 167, 0, 4, 28, 61, 132, 3, 1, 167, 255, 181, 27, 172]
abbrev dktX3_worstBan_3 : List UInt8 := dkwX3_worstBan_3 ++ []
def dkwX3_worstBan_2 : List UInt8 := [164, 0, 7, 4, 167, 0, 4, 3, 54, 5, 21, 5, 153, 0, 7, 29, 167, 0, 4, 27, 60, 21, 5]
abbrev dktX3_worstBan_2 : List UInt8 := dkwX3_worstBan_2 ++ dktX3_worstBan_3
def dkwX3_worstBan_1 : List UInt8 := [160, 0, 55, 42, 29, 16, 250, 3, 182, 0, 61, 54, 4, 27, 16, 250, 159, 0, 9, 21, 4, 28]
abbrev dktX3_worstBan_1 : List UInt8 := dkwX3_worstBan_1 ++ dktX3_worstBan_2
def dkwX3_worstBan_0 : List UInt8 := [16, 250, 60, 3, 61, 3, 62, 29, 42, 180, 0, 7, 3, 46, 162, 0, 71, 42, 29, 4, 182, 0, 41, 4]
abbrev dktX3_worstBan_0 : List UInt8 := dkwX3_worstBan_0 ++ dktX3_worstBan_1
theorem dksX3_worstBan_0 : cX3_worstBan.data.toList.drop 0 = dktX3_worstBan_0 := by decide +kernel
theorem dksX3_worstBan_1 : cX3_worstBan.data.toList.drop 24 = dktX3_worstBan_1 := dk_seg dksX3_worstBan_0 24 rfl rfl
theorem dksX3_worstBan_2 : cX3_worstBan.data.toList.drop 46 = dktX3_worstBan_2 := dk_seg dksX3_worstBan_1 22 rfl rfl
theorem dksX3_worstBan_3 : cX3_worstBan.data.toList.drop 69 = dktX3_worstBan_3 := dk_seg dksX3_worstBan_2 23 rfl rfl
theorem dX3_worstBan_0 : decode cX3_worstBan 0 = .ok (.bipush (-6), 2) := dk_16 250 (dk_at dksX3_worstBan_0 0 rfl rfl)
theorem dX3_worstBan_2 : decode cX3_worstBan 2 = .ok (.istore_n 1, 1) := dk_60 (dk_at dksX3_worstBan_0 2 rfl rfl)
theorem dX3_worstBan_3 : decode cX3_worstBan 3 = .ok (.iconst 0, 1) := dk_3 (dk_at dksX3_worstBan_0 3 rfl rfl)
theorem dX3_worstBan_4 : decode cX3_worstBan 4 = .ok (.istore_n 2, 1) := dk_61 (dk_at dksX3_worstBan_0 4 rfl rfl)
theorem dX3_worstBan_5 : decode cX3_worstBan 5 = .ok (.iconst 0, 1) := dk_3 (dk_at dksX3_worstBan_0 5 rfl rfl)
theorem dX3_worstBan_6 : decode cX3_worstBan 6 = .ok (.istore_n 3, 1) := dk_62 (dk_at dksX3_worstBan_0 6 rfl rfl)
theorem dX3_worstBan_7 : decode cX3_worstBan 7 = .ok (.iload_n 3, 1) := dk_29 (dk_at dksX3_worstBan_0 7 rfl rfl)
theorem dX3_worstBan_8 : decode cX3_worstBan 8 = .ok (.aload_n 0, 1) := dk_42 (dk_at dksX3_worstBan_0 8 rfl rfl)
theorem dX3_worstBan_9 : decode cX3_worstBan 9 = .ok (.getfield 7, 3) := dk_180 0 7 (dk_at dksX3_worstBan_0 9 rfl rfl)
theorem dX3_worstBan_12 : decode cX3_worstBan 12 = .ok (.iconst 0, 1) := dk_3 (dk_at dksX3_worstBan_0 12 rfl rfl)
theorem dX3_worstBan_13 : decode cX3_worstBan 13 = .ok (.iaload, 1) := dk_46 (dk_at dksX3_worstBan_0 13 rfl rfl)
theorem dX3_worstBan_14 : decode cX3_worstBan 14 = .ok (.if_icmp .ge 71, 3) := dk_162 0 71 (dk_at dksX3_worstBan_0 14 rfl rfl)
theorem dX3_worstBan_17 : decode cX3_worstBan 17 = .ok (.aload_n 0, 1) := dk_42 (dk_at dksX3_worstBan_0 17 rfl rfl)
theorem dX3_worstBan_18 : decode cX3_worstBan 18 = .ok (.iload_n 3, 1) := dk_29 (dk_at dksX3_worstBan_0 18 rfl rfl)
theorem dX3_worstBan_19 : decode cX3_worstBan 19 = .ok (.iconst 1, 1) := dk_4 (dk_at dksX3_worstBan_0 19 rfl rfl)
theorem dX3_worstBan_20 : decode cX3_worstBan 20 = .ok (.invokevirtual 41, 3) := dk_182 0 41 (dk_at dksX3_worstBan_0 20 rfl rfl)
theorem dX3_worstBan_23 : decode cX3_worstBan 23 = .ok (.iconst 1, 1) := dk_4 (dk_at dksX3_worstBan_0 23 rfl rfl)
theorem dX3_worstBan_24 : decode cX3_worstBan 24 = .ok (.if_icmp .ne 55, 3) := dk_160 0 55 (dk_at dksX3_worstBan_1 0 rfl rfl)
theorem dX3_worstBan_27 : decode cX3_worstBan 27 = .ok (.aload_n 0, 1) := dk_42 (dk_at dksX3_worstBan_1 3 rfl rfl)
theorem dX3_worstBan_28 : decode cX3_worstBan 28 = .ok (.iload_n 3, 1) := dk_29 (dk_at dksX3_worstBan_1 4 rfl rfl)
theorem dX3_worstBan_29 : decode cX3_worstBan 29 = .ok (.bipush (-6), 2) := dk_16 250 (dk_at dksX3_worstBan_1 5 rfl rfl)
theorem dX3_worstBan_31 : decode cX3_worstBan 31 = .ok (.iconst 0, 1) := dk_3 (dk_at dksX3_worstBan_1 7 rfl rfl)
theorem dX3_worstBan_32 : decode cX3_worstBan 32 = .ok (.invokevirtual 61, 3) := dk_182 0 61 (dk_at dksX3_worstBan_1 8 rfl rfl)
theorem dX3_worstBan_35 : decode cX3_worstBan 35 = .ok (.istore 4, 2) := dk_54 4 (dk_at dksX3_worstBan_1 11 rfl rfl)
theorem dX3_worstBan_37 : decode cX3_worstBan 37 = .ok (.iload_n 1, 1) := dk_27 (dk_at dksX3_worstBan_1 13 rfl rfl)
theorem dX3_worstBan_38 : decode cX3_worstBan 38 = .ok (.bipush (-6), 2) := dk_16 250 (dk_at dksX3_worstBan_1 14 rfl rfl)
theorem dX3_worstBan_40 : decode cX3_worstBan 40 = .ok (.if_icmp .eq 9, 3) := dk_159 0 9 (dk_at dksX3_worstBan_1 16 rfl rfl)
theorem dX3_worstBan_43 : decode cX3_worstBan 43 = .ok (.iload 4, 2) := dk_21 4 (dk_at dksX3_worstBan_1 19 rfl rfl)
theorem dX3_worstBan_45 : decode cX3_worstBan 45 = .ok (.iload_n 2, 1) := dk_28 (dk_at dksX3_worstBan_1 21 rfl rfl)
theorem dX3_worstBan_46 : decode cX3_worstBan 46 = .ok (.if_icmp .le 7, 3) := dk_164 0 7 (dk_at dksX3_worstBan_2 0 rfl rfl)
theorem dX3_worstBan_49 : decode cX3_worstBan 49 = .ok (.iconst 1, 1) := dk_4 (dk_at dksX3_worstBan_2 3 rfl rfl)
theorem dX3_worstBan_50 : decode cX3_worstBan 50 = .ok (.goto 4, 3) := dk_167 0 4 (dk_at dksX3_worstBan_2 4 rfl rfl)
theorem dX3_worstBan_53 : decode cX3_worstBan 53 = .ok (.iconst 0, 1) := dk_3 (dk_at dksX3_worstBan_2 7 rfl rfl)
theorem dX3_worstBan_54 : decode cX3_worstBan 54 = .ok (.istore 5, 2) := dk_54 5 (dk_at dksX3_worstBan_2 8 rfl rfl)
theorem dX3_worstBan_56 : decode cX3_worstBan 56 = .ok (.iload 5, 2) := dk_21 5 (dk_at dksX3_worstBan_2 10 rfl rfl)
theorem dX3_worstBan_58 : decode cX3_worstBan 58 = .ok (.ifCond .eq 7, 3) := dk_153 0 7 (dk_at dksX3_worstBan_2 12 rfl rfl)
theorem dX3_worstBan_61 : decode cX3_worstBan 61 = .ok (.iload_n 3, 1) := dk_29 (dk_at dksX3_worstBan_2 15 rfl rfl)
theorem dX3_worstBan_62 : decode cX3_worstBan 62 = .ok (.goto 4, 3) := dk_167 0 4 (dk_at dksX3_worstBan_2 16 rfl rfl)
theorem dX3_worstBan_65 : decode cX3_worstBan 65 = .ok (.iload_n 1, 1) := dk_27 (dk_at dksX3_worstBan_2 19 rfl rfl)
theorem dX3_worstBan_66 : decode cX3_worstBan 66 = .ok (.istore_n 1, 1) := dk_60 (dk_at dksX3_worstBan_2 20 rfl rfl)
theorem dX3_worstBan_67 : decode cX3_worstBan 67 = .ok (.iload 5, 2) := dk_21 5 (dk_at dksX3_worstBan_2 21 rfl rfl)
theorem dX3_worstBan_69 : decode cX3_worstBan 69 = .ok (.ifCond .eq 8, 3) := dk_153 0 8 (dk_at dksX3_worstBan_3 0 rfl rfl)
theorem dX3_worstBan_72 : decode cX3_worstBan 72 = .ok (.iload 4, 2) := dk_21 4 (dk_at dksX3_worstBan_3 3 rfl rfl)
theorem dX3_worstBan_74 : decode cX3_worstBan 74 = .ok (.goto 4, 3) := dk_167 0 4 (dk_at dksX3_worstBan_3 5 rfl rfl)
theorem dX3_worstBan_77 : decode cX3_worstBan 77 = .ok (.iload_n 2, 1) := dk_28 (dk_at dksX3_worstBan_3 8 rfl rfl)
theorem dX3_worstBan_78 : decode cX3_worstBan 78 = .ok (.istore_n 2, 1) := dk_61 (dk_at dksX3_worstBan_3 9 rfl rfl)
theorem dX3_worstBan_79 : decode cX3_worstBan 79 = .ok (.iinc 3 1, 3) := dk_132 3 1 (dk_at dksX3_worstBan_3 10 rfl rfl)
theorem dX3_worstBan_82 : decode cX3_worstBan 82 = .ok (.goto (-75), 3) := dk_167 255 181 (dk_at dksX3_worstBan_3 13 rfl rfl)
theorem dX3_worstBan_85 : decode cX3_worstBan 85 = .ok (.iload_n 1, 1) := dk_27 (dk_at dksX3_worstBan_3 16 rfl rfl)
theorem dX3_worstBan_86 : decode cX3_worstBan 86 = .ok (.ireturn, 1) := dk_172 (dk_at dksX3_worstBan_3 17 rfl rfl)
abbrev cX3_bestWaiver : ByteArray := prog_9_method_45_code
def yX3_bestWaiver : MethodName := ⟨RX3, "bestWaiver", "(I)I"⟩
def dkwX3_bestWaiver_3 : List UInt8 := [28, 172]
abbrev dktX3_bestWaiver_3 : List UInt8 := dkwX3_bestWaiver_3 ++ []
def dkwX3_bestWaiver_2 : List UInt8 := [167, 0, 4, 28, 61, 21, 5, 29, 161, 0, 8, 21, 5, 167, 0, 4, 29, 62, 132, 4, 1, 167, 255, 210]
abbrev dktX3_bestWaiver_2 : List UInt8 := dkwX3_bestWaiver_2 ++ dktX3_bestWaiver_3
def dkwX3_bestWaiver_1 : List UInt8 := [162, 0, 46, 42, 16, 250, 21, 4, 27, 182, 0, 61, 54, 5, 21, 5, 29, 161, 0, 8, 21, 4]
abbrev dktX3_bestWaiver_1 : List UInt8 := dkwX3_bestWaiver_1 ++ dktX3_bestWaiver_2
def dkwX3_bestWaiver_0 : List UInt8 := [27, 4, 16, 9, 184, 0, 29, 154, 0, 6, 16, 254, 172, 3, 61, 3, 62, 3, 54, 4, 21, 4, 8]
abbrev dktX3_bestWaiver_0 : List UInt8 := dkwX3_bestWaiver_0 ++ dktX3_bestWaiver_1
theorem dksX3_bestWaiver_0 : cX3_bestWaiver.data.toList.drop 0 = dktX3_bestWaiver_0 := by decide +kernel
theorem dksX3_bestWaiver_1 : cX3_bestWaiver.data.toList.drop 23 = dktX3_bestWaiver_1 := dk_seg dksX3_bestWaiver_0 23 rfl rfl
theorem dksX3_bestWaiver_2 : cX3_bestWaiver.data.toList.drop 45 = dktX3_bestWaiver_2 := dk_seg dksX3_bestWaiver_1 22 rfl rfl
theorem dksX3_bestWaiver_3 : cX3_bestWaiver.data.toList.drop 69 = dktX3_bestWaiver_3 := dk_seg dksX3_bestWaiver_2 24 rfl rfl
theorem dX3_bestWaiver_0 : decode cX3_bestWaiver 0 = .ok (.iload_n 1, 1) := dk_27 (dk_at dksX3_bestWaiver_0 0 rfl rfl)
theorem dX3_bestWaiver_1 : decode cX3_bestWaiver 1 = .ok (.iconst 1, 1) := dk_4 (dk_at dksX3_bestWaiver_0 1 rfl rfl)
theorem dX3_bestWaiver_2 : decode cX3_bestWaiver 2 = .ok (.bipush 9, 2) := dk_16 9 (dk_at dksX3_bestWaiver_0 2 rfl rfl)
theorem dX3_bestWaiver_4 : decode cX3_bestWaiver 4 = .ok (.invokestatic 29, 3) := dk_184 0 29 (dk_at dksX3_bestWaiver_0 4 rfl rfl)
theorem dX3_bestWaiver_7 : decode cX3_bestWaiver 7 = .ok (.ifCond .ne 6, 3) := dk_154 0 6 (dk_at dksX3_bestWaiver_0 7 rfl rfl)
theorem dX3_bestWaiver_10 : decode cX3_bestWaiver 10 = .ok (.bipush (-2), 2) := dk_16 254 (dk_at dksX3_bestWaiver_0 10 rfl rfl)
theorem dX3_bestWaiver_12 : decode cX3_bestWaiver 12 = .ok (.ireturn, 1) := dk_172 (dk_at dksX3_bestWaiver_0 12 rfl rfl)
theorem dX3_bestWaiver_13 : decode cX3_bestWaiver 13 = .ok (.iconst 0, 1) := dk_3 (dk_at dksX3_bestWaiver_0 13 rfl rfl)
theorem dX3_bestWaiver_14 : decode cX3_bestWaiver 14 = .ok (.istore_n 2, 1) := dk_61 (dk_at dksX3_bestWaiver_0 14 rfl rfl)
theorem dX3_bestWaiver_15 : decode cX3_bestWaiver 15 = .ok (.iconst 0, 1) := dk_3 (dk_at dksX3_bestWaiver_0 15 rfl rfl)
theorem dX3_bestWaiver_16 : decode cX3_bestWaiver 16 = .ok (.istore_n 3, 1) := dk_62 (dk_at dksX3_bestWaiver_0 16 rfl rfl)
theorem dX3_bestWaiver_17 : decode cX3_bestWaiver 17 = .ok (.iconst 0, 1) := dk_3 (dk_at dksX3_bestWaiver_0 17 rfl rfl)
theorem dX3_bestWaiver_18 : decode cX3_bestWaiver 18 = .ok (.istore 4, 2) := dk_54 4 (dk_at dksX3_bestWaiver_0 18 rfl rfl)
theorem dX3_bestWaiver_20 : decode cX3_bestWaiver 20 = .ok (.iload 4, 2) := dk_21 4 (dk_at dksX3_bestWaiver_0 20 rfl rfl)
theorem dX3_bestWaiver_22 : decode cX3_bestWaiver 22 = .ok (.iconst 5, 1) := dk_8 (dk_at dksX3_bestWaiver_0 22 rfl rfl)
theorem dX3_bestWaiver_23 : decode cX3_bestWaiver 23 = .ok (.if_icmp .ge 46, 3) := dk_162 0 46 (dk_at dksX3_bestWaiver_1 0 rfl rfl)
theorem dX3_bestWaiver_26 : decode cX3_bestWaiver 26 = .ok (.aload_n 0, 1) := dk_42 (dk_at dksX3_bestWaiver_1 3 rfl rfl)
theorem dX3_bestWaiver_27 : decode cX3_bestWaiver 27 = .ok (.bipush (-6), 2) := dk_16 250 (dk_at dksX3_bestWaiver_1 4 rfl rfl)
theorem dX3_bestWaiver_29 : decode cX3_bestWaiver 29 = .ok (.iload 4, 2) := dk_21 4 (dk_at dksX3_bestWaiver_1 6 rfl rfl)
theorem dX3_bestWaiver_31 : decode cX3_bestWaiver 31 = .ok (.iload_n 1, 1) := dk_27 (dk_at dksX3_bestWaiver_1 8 rfl rfl)
theorem dX3_bestWaiver_32 : decode cX3_bestWaiver 32 = .ok (.invokevirtual 61, 3) := dk_182 0 61 (dk_at dksX3_bestWaiver_1 9 rfl rfl)
theorem dX3_bestWaiver_35 : decode cX3_bestWaiver 35 = .ok (.istore 5, 2) := dk_54 5 (dk_at dksX3_bestWaiver_1 12 rfl rfl)
theorem dX3_bestWaiver_37 : decode cX3_bestWaiver 37 = .ok (.iload 5, 2) := dk_21 5 (dk_at dksX3_bestWaiver_1 14 rfl rfl)
theorem dX3_bestWaiver_39 : decode cX3_bestWaiver 39 = .ok (.iload_n 3, 1) := dk_29 (dk_at dksX3_bestWaiver_1 16 rfl rfl)
theorem dX3_bestWaiver_40 : decode cX3_bestWaiver 40 = .ok (.if_icmp .lt 8, 3) := dk_161 0 8 (dk_at dksX3_bestWaiver_1 17 rfl rfl)
theorem dX3_bestWaiver_43 : decode cX3_bestWaiver 43 = .ok (.iload 4, 2) := dk_21 4 (dk_at dksX3_bestWaiver_1 20 rfl rfl)
theorem dX3_bestWaiver_45 : decode cX3_bestWaiver 45 = .ok (.goto 4, 3) := dk_167 0 4 (dk_at dksX3_bestWaiver_2 0 rfl rfl)
theorem dX3_bestWaiver_48 : decode cX3_bestWaiver 48 = .ok (.iload_n 2, 1) := dk_28 (dk_at dksX3_bestWaiver_2 3 rfl rfl)
theorem dX3_bestWaiver_49 : decode cX3_bestWaiver 49 = .ok (.istore_n 2, 1) := dk_61 (dk_at dksX3_bestWaiver_2 4 rfl rfl)
theorem dX3_bestWaiver_50 : decode cX3_bestWaiver 50 = .ok (.iload 5, 2) := dk_21 5 (dk_at dksX3_bestWaiver_2 5 rfl rfl)
theorem dX3_bestWaiver_52 : decode cX3_bestWaiver 52 = .ok (.iload_n 3, 1) := dk_29 (dk_at dksX3_bestWaiver_2 7 rfl rfl)
theorem dX3_bestWaiver_53 : decode cX3_bestWaiver 53 = .ok (.if_icmp .lt 8, 3) := dk_161 0 8 (dk_at dksX3_bestWaiver_2 8 rfl rfl)
theorem dX3_bestWaiver_56 : decode cX3_bestWaiver 56 = .ok (.iload 5, 2) := dk_21 5 (dk_at dksX3_bestWaiver_2 11 rfl rfl)
theorem dX3_bestWaiver_58 : decode cX3_bestWaiver 58 = .ok (.goto 4, 3) := dk_167 0 4 (dk_at dksX3_bestWaiver_2 13 rfl rfl)
theorem dX3_bestWaiver_61 : decode cX3_bestWaiver 61 = .ok (.iload_n 3, 1) := dk_29 (dk_at dksX3_bestWaiver_2 16 rfl rfl)
theorem dX3_bestWaiver_62 : decode cX3_bestWaiver 62 = .ok (.istore_n 3, 1) := dk_62 (dk_at dksX3_bestWaiver_2 17 rfl rfl)
theorem dX3_bestWaiver_63 : decode cX3_bestWaiver 63 = .ok (.iinc 4 1, 3) := dk_132 4 1 (dk_at dksX3_bestWaiver_2 18 rfl rfl)
theorem dX3_bestWaiver_66 : decode cX3_bestWaiver 66 = .ok (.goto (-46), 3) := dk_167 255 210 (dk_at dksX3_bestWaiver_2 21 rfl rfl)
theorem dX3_bestWaiver_69 : decode cX3_bestWaiver 69 = .ok (.iload_n 2, 1) := dk_28 (dk_at dksX3_bestWaiver_3 0 rfl rfl)
theorem dX3_bestWaiver_70 : decode cX3_bestWaiver 70 = .ok (.ireturn, 1) := dk_172 (dk_at dksX3_bestWaiver_3 1 rfl rfl)
abbrev cX3_put : ByteArray := prog_9_method_46_code
def yX3_put : MethodName := ⟨RX3, "put", "(J)I"⟩
def dkwX3_put_7 : List UInt8 := [167, 255, 219, 42, 89, 180, 0, 118, 29, 96, 181, 0, 118, 42, 180, 0, 118, 172]
abbrev dktX3_put_7 : List UInt8 := dkwX3_put_7 ++ []
def dkwX3_put_6 : List UInt8 := [96, 4, 100, 21, 5, 100, 31, 16, 8, 21, 5, 104, 125, 20, 0, 121, 127, 136, 79, 132, 5, 1]
abbrev dktX3_put_6 : List UInt8 := dkwX3_put_6 ++ dktX3_put_7
def dkwX3_put_5 : List UInt8 := [164, 0, 6, 16, 252, 172, 3, 54, 5, 21, 5, 29, 162, 0, 37, 42, 180, 0, 23, 42, 180, 0, 118, 29]
abbrev dktX3_put_5 : List UInt8 := dkwX3_put_5 ++ dktX3_put_6
def dkwX3_put_4 : List UInt8 := [96, 62, 132, 5, 1, 167, 255, 166, 21, 4, 153, 0, 6, 16, 254, 172, 42, 180, 0, 118, 29, 96, 16, 60]
abbrev dktX3_put_4 : List UInt8 := dkwX3_put_4 ++ dktX3_put_5
def dkwX3_put_3 : List UInt8 := [184, 0, 29, 154, 0, 7, 4, 167, 0, 4, 3, 54, 4, 29, 21, 7, 153, 0, 7, 3, 167, 0, 4, 4]
abbrev dktX3_put_3 : List UInt8 := dkwX3_put_3 ++ dktX3_put_4
def dkwX3_put_2 : List UInt8 := [4, 167, 0, 4, 3, 54, 7, 21, 4, 154, 0, 20, 21, 7, 154, 0, 19, 21, 6, 16, 33, 16, 126]
abbrev dktX3_put_2 : List UInt8 := dkwX3_put_2 ++ dktX3_put_3
def dkwX3_put_1 : List UInt8 := [20, 0, 121, 127, 136, 54, 6, 21, 5, 158, 0, 19, 31, 16, 8, 21, 5, 104, 125, 9, 148, 154, 0, 7]
abbrev dktX3_put_1 : List UInt8 := dkwX3_put_1 ++ dktX3_put_2
def dkwX3_put_0 : List UInt8 := [3, 62, 3, 54, 4, 3, 54, 5, 21, 5, 16, 8, 162, 0, 89, 31, 16, 8, 21, 5, 104, 125]
abbrev dktX3_put_0 : List UInt8 := dkwX3_put_0 ++ dktX3_put_1
theorem dksX3_put_0 : cX3_put.data.toList.drop 0 = dktX3_put_0 := by decide +kernel
theorem dksX3_put_1 : cX3_put.data.toList.drop 22 = dktX3_put_1 := dk_seg dksX3_put_0 22 rfl rfl
theorem dksX3_put_2 : cX3_put.data.toList.drop 46 = dktX3_put_2 := dk_seg dksX3_put_1 24 rfl rfl
theorem dksX3_put_3 : cX3_put.data.toList.drop 69 = dktX3_put_3 := dk_seg dksX3_put_2 23 rfl rfl
theorem dksX3_put_4 : cX3_put.data.toList.drop 93 = dktX3_put_4 := dk_seg dksX3_put_3 24 rfl rfl
theorem dksX3_put_5 : cX3_put.data.toList.drop 117 = dktX3_put_5 := dk_seg dksX3_put_4 24 rfl rfl
theorem dksX3_put_6 : cX3_put.data.toList.drop 141 = dktX3_put_6 := dk_seg dksX3_put_5 24 rfl rfl
theorem dksX3_put_7 : cX3_put.data.toList.drop 163 = dktX3_put_7 := dk_seg dksX3_put_6 22 rfl rfl
theorem dX3_put_0 : decode cX3_put 0 = .ok (.iconst 0, 1) := dk_3 (dk_at dksX3_put_0 0 rfl rfl)
theorem dX3_put_1 : decode cX3_put 1 = .ok (.istore_n 3, 1) := dk_62 (dk_at dksX3_put_0 1 rfl rfl)
theorem dX3_put_2 : decode cX3_put 2 = .ok (.iconst 0, 1) := dk_3 (dk_at dksX3_put_0 2 rfl rfl)
theorem dX3_put_3 : decode cX3_put 3 = .ok (.istore 4, 2) := dk_54 4 (dk_at dksX3_put_0 3 rfl rfl)
theorem dX3_put_5 : decode cX3_put 5 = .ok (.iconst 0, 1) := dk_3 (dk_at dksX3_put_0 5 rfl rfl)
theorem dX3_put_6 : decode cX3_put 6 = .ok (.istore 5, 2) := dk_54 5 (dk_at dksX3_put_0 6 rfl rfl)
theorem dX3_put_8 : decode cX3_put 8 = .ok (.iload 5, 2) := dk_21 5 (dk_at dksX3_put_0 8 rfl rfl)
theorem dX3_put_10 : decode cX3_put 10 = .ok (.bipush 8, 2) := dk_16 8 (dk_at dksX3_put_0 10 rfl rfl)
theorem dX3_put_12 : decode cX3_put 12 = .ok (.if_icmp .ge 89, 3) := dk_162 0 89 (dk_at dksX3_put_0 12 rfl rfl)
theorem dX3_put_15 : decode cX3_put 15 = .ok (.lload_n 1, 1) := dk_31 (dk_at dksX3_put_0 15 rfl rfl)
theorem dX3_put_16 : decode cX3_put 16 = .ok (.bipush 8, 2) := dk_16 8 (dk_at dksX3_put_0 16 rfl rfl)
theorem dX3_put_18 : decode cX3_put 18 = .ok (.iload 5, 2) := dk_21 5 (dk_at dksX3_put_0 18 rfl rfl)
theorem dX3_put_20 : decode cX3_put 20 = .ok (.imul, 1) := dk_104 (dk_at dksX3_put_0 20 rfl rfl)
theorem dX3_put_21 : decode cX3_put 21 = .ok (.lushr, 1) := dk_125 (dk_at dksX3_put_0 21 rfl rfl)
theorem dX3_put_22 : decode cX3_put 22 = .ok (.ldc2_w 121, 3) := dk_20 0 121 (dk_at dksX3_put_1 0 rfl rfl)
theorem dX3_put_25 : decode cX3_put 25 = .ok (.land, 1) := dk_127 (dk_at dksX3_put_1 3 rfl rfl)
theorem dX3_put_26 : decode cX3_put 26 = .ok (.l2i, 1) := dk_136 (dk_at dksX3_put_1 4 rfl rfl)
theorem dX3_put_27 : decode cX3_put 27 = .ok (.istore 6, 2) := dk_54 6 (dk_at dksX3_put_1 5 rfl rfl)
theorem dX3_put_29 : decode cX3_put 29 = .ok (.iload 5, 2) := dk_21 5 (dk_at dksX3_put_1 7 rfl rfl)
theorem dX3_put_31 : decode cX3_put 31 = .ok (.ifCond .le 19, 3) := dk_158 0 19 (dk_at dksX3_put_1 9 rfl rfl)
theorem dX3_put_34 : decode cX3_put 34 = .ok (.lload_n 1, 1) := dk_31 (dk_at dksX3_put_1 12 rfl rfl)
theorem dX3_put_35 : decode cX3_put 35 = .ok (.bipush 8, 2) := dk_16 8 (dk_at dksX3_put_1 13 rfl rfl)
theorem dX3_put_37 : decode cX3_put 37 = .ok (.iload 5, 2) := dk_21 5 (dk_at dksX3_put_1 15 rfl rfl)
theorem dX3_put_39 : decode cX3_put 39 = .ok (.imul, 1) := dk_104 (dk_at dksX3_put_1 17 rfl rfl)
theorem dX3_put_40 : decode cX3_put 40 = .ok (.lushr, 1) := dk_125 (dk_at dksX3_put_1 18 rfl rfl)
theorem dX3_put_41 : decode cX3_put 41 = .ok (.lconst 0, 1) := dk_9 (dk_at dksX3_put_1 19 rfl rfl)
theorem dX3_put_42 : decode cX3_put 42 = .ok (.lcmp, 1) := dk_148 (dk_at dksX3_put_1 20 rfl rfl)
theorem dX3_put_43 : decode cX3_put 43 = .ok (.ifCond .ne 7, 3) := dk_154 0 7 (dk_at dksX3_put_1 21 rfl rfl)
theorem dX3_put_46 : decode cX3_put 46 = .ok (.iconst 1, 1) := dk_4 (dk_at dksX3_put_2 0 rfl rfl)
theorem dX3_put_47 : decode cX3_put 47 = .ok (.goto 4, 3) := dk_167 0 4 (dk_at dksX3_put_2 1 rfl rfl)
theorem dX3_put_50 : decode cX3_put 50 = .ok (.iconst 0, 1) := dk_3 (dk_at dksX3_put_2 4 rfl rfl)
theorem dX3_put_51 : decode cX3_put 51 = .ok (.istore 7, 2) := dk_54 7 (dk_at dksX3_put_2 5 rfl rfl)
theorem dX3_put_53 : decode cX3_put 53 = .ok (.iload 4, 2) := dk_21 4 (dk_at dksX3_put_2 7 rfl rfl)
theorem dX3_put_55 : decode cX3_put 55 = .ok (.ifCond .ne 20, 3) := dk_154 0 20 (dk_at dksX3_put_2 9 rfl rfl)
theorem dX3_put_58 : decode cX3_put 58 = .ok (.iload 7, 2) := dk_21 7 (dk_at dksX3_put_2 12 rfl rfl)
theorem dX3_put_60 : decode cX3_put 60 = .ok (.ifCond .ne 19, 3) := dk_154 0 19 (dk_at dksX3_put_2 14 rfl rfl)
theorem dX3_put_63 : decode cX3_put 63 = .ok (.iload 6, 2) := dk_21 6 (dk_at dksX3_put_2 17 rfl rfl)
theorem dX3_put_65 : decode cX3_put 65 = .ok (.bipush 33, 2) := dk_16 33 (dk_at dksX3_put_2 19 rfl rfl)
theorem dX3_put_67 : decode cX3_put 67 = .ok (.bipush 126, 2) := dk_16 126 (dk_at dksX3_put_2 21 rfl rfl)
theorem dX3_put_69 : decode cX3_put 69 = .ok (.invokestatic 29, 3) := dk_184 0 29 (dk_at dksX3_put_3 0 rfl rfl)
theorem dX3_put_72 : decode cX3_put 72 = .ok (.ifCond .ne 7, 3) := dk_154 0 7 (dk_at dksX3_put_3 3 rfl rfl)
theorem dX3_put_75 : decode cX3_put 75 = .ok (.iconst 1, 1) := dk_4 (dk_at dksX3_put_3 6 rfl rfl)
theorem dX3_put_76 : decode cX3_put 76 = .ok (.goto 4, 3) := dk_167 0 4 (dk_at dksX3_put_3 7 rfl rfl)
theorem dX3_put_79 : decode cX3_put 79 = .ok (.iconst 0, 1) := dk_3 (dk_at dksX3_put_3 10 rfl rfl)
theorem dX3_put_80 : decode cX3_put 80 = .ok (.istore 4, 2) := dk_54 4 (dk_at dksX3_put_3 11 rfl rfl)
theorem dX3_put_82 : decode cX3_put 82 = .ok (.iload_n 3, 1) := dk_29 (dk_at dksX3_put_3 13 rfl rfl)
theorem dX3_put_83 : decode cX3_put 83 = .ok (.iload 7, 2) := dk_21 7 (dk_at dksX3_put_3 14 rfl rfl)
theorem dX3_put_85 : decode cX3_put 85 = .ok (.ifCond .eq 7, 3) := dk_153 0 7 (dk_at dksX3_put_3 16 rfl rfl)
theorem dX3_put_88 : decode cX3_put 88 = .ok (.iconst 0, 1) := dk_3 (dk_at dksX3_put_3 19 rfl rfl)
theorem dX3_put_89 : decode cX3_put 89 = .ok (.goto 4, 3) := dk_167 0 4 (dk_at dksX3_put_3 20 rfl rfl)
theorem dX3_put_92 : decode cX3_put 92 = .ok (.iconst 1, 1) := dk_4 (dk_at dksX3_put_3 23 rfl rfl)
theorem dX3_put_93 : decode cX3_put 93 = .ok (.iadd, 1) := dk_96 (dk_at dksX3_put_4 0 rfl rfl)
theorem dX3_put_94 : decode cX3_put 94 = .ok (.istore_n 3, 1) := dk_62 (dk_at dksX3_put_4 1 rfl rfl)
theorem dX3_put_95 : decode cX3_put 95 = .ok (.iinc 5 1, 3) := dk_132 5 1 (dk_at dksX3_put_4 2 rfl rfl)
theorem dX3_put_98 : decode cX3_put 98 = .ok (.goto (-90), 3) := dk_167 255 166 (dk_at dksX3_put_4 5 rfl rfl)
theorem dX3_put_101 : decode cX3_put 101 = .ok (.iload 4, 2) := dk_21 4 (dk_at dksX3_put_4 8 rfl rfl)
theorem dX3_put_103 : decode cX3_put 103 = .ok (.ifCond .eq 6, 3) := dk_153 0 6 (dk_at dksX3_put_4 10 rfl rfl)
theorem dX3_put_106 : decode cX3_put 106 = .ok (.bipush (-2), 2) := dk_16 254 (dk_at dksX3_put_4 13 rfl rfl)
theorem dX3_put_108 : decode cX3_put 108 = .ok (.ireturn, 1) := dk_172 (dk_at dksX3_put_4 15 rfl rfl)
theorem dX3_put_109 : decode cX3_put 109 = .ok (.aload_n 0, 1) := dk_42 (dk_at dksX3_put_4 16 rfl rfl)
theorem dX3_put_110 : decode cX3_put 110 = .ok (.getfield 118, 3) := dk_180 0 118 (dk_at dksX3_put_4 17 rfl rfl)
theorem dX3_put_113 : decode cX3_put 113 = .ok (.iload_n 3, 1) := dk_29 (dk_at dksX3_put_4 20 rfl rfl)
theorem dX3_put_114 : decode cX3_put 114 = .ok (.iadd, 1) := dk_96 (dk_at dksX3_put_4 21 rfl rfl)
theorem dX3_put_115 : decode cX3_put 115 = .ok (.bipush 60, 2) := dk_16 60 (dk_at dksX3_put_4 22 rfl rfl)
theorem dX3_put_117 : decode cX3_put 117 = .ok (.if_icmp .le 6, 3) := dk_164 0 6 (dk_at dksX3_put_5 0 rfl rfl)
theorem dX3_put_120 : decode cX3_put 120 = .ok (.bipush (-4), 2) := dk_16 252 (dk_at dksX3_put_5 3 rfl rfl)
theorem dX3_put_122 : decode cX3_put 122 = .ok (.ireturn, 1) := dk_172 (dk_at dksX3_put_5 5 rfl rfl)
theorem dX3_put_123 : decode cX3_put 123 = .ok (.iconst 0, 1) := dk_3 (dk_at dksX3_put_5 6 rfl rfl)
theorem dX3_put_124 : decode cX3_put 124 = .ok (.istore 5, 2) := dk_54 5 (dk_at dksX3_put_5 7 rfl rfl)
theorem dX3_put_126 : decode cX3_put 126 = .ok (.iload 5, 2) := dk_21 5 (dk_at dksX3_put_5 9 rfl rfl)
theorem dX3_put_128 : decode cX3_put 128 = .ok (.iload_n 3, 1) := dk_29 (dk_at dksX3_put_5 11 rfl rfl)
theorem dX3_put_129 : decode cX3_put 129 = .ok (.if_icmp .ge 37, 3) := dk_162 0 37 (dk_at dksX3_put_5 12 rfl rfl)
theorem dX3_put_132 : decode cX3_put 132 = .ok (.aload_n 0, 1) := dk_42 (dk_at dksX3_put_5 15 rfl rfl)
theorem dX3_put_133 : decode cX3_put 133 = .ok (.getfield 23, 3) := dk_180 0 23 (dk_at dksX3_put_5 16 rfl rfl)
theorem dX3_put_136 : decode cX3_put 136 = .ok (.aload_n 0, 1) := dk_42 (dk_at dksX3_put_5 19 rfl rfl)
theorem dX3_put_137 : decode cX3_put 137 = .ok (.getfield 118, 3) := dk_180 0 118 (dk_at dksX3_put_5 20 rfl rfl)
theorem dX3_put_140 : decode cX3_put 140 = .ok (.iload_n 3, 1) := dk_29 (dk_at dksX3_put_5 23 rfl rfl)
theorem dX3_put_141 : decode cX3_put 141 = .ok (.iadd, 1) := dk_96 (dk_at dksX3_put_6 0 rfl rfl)
theorem dX3_put_142 : decode cX3_put 142 = .ok (.iconst 1, 1) := dk_4 (dk_at dksX3_put_6 1 rfl rfl)
theorem dX3_put_143 : decode cX3_put 143 = .ok (.isub, 1) := dk_100 (dk_at dksX3_put_6 2 rfl rfl)
theorem dX3_put_144 : decode cX3_put 144 = .ok (.iload 5, 2) := dk_21 5 (dk_at dksX3_put_6 3 rfl rfl)
theorem dX3_put_146 : decode cX3_put 146 = .ok (.isub, 1) := dk_100 (dk_at dksX3_put_6 5 rfl rfl)
theorem dX3_put_147 : decode cX3_put 147 = .ok (.lload_n 1, 1) := dk_31 (dk_at dksX3_put_6 6 rfl rfl)
theorem dX3_put_148 : decode cX3_put 148 = .ok (.bipush 8, 2) := dk_16 8 (dk_at dksX3_put_6 7 rfl rfl)
theorem dX3_put_150 : decode cX3_put 150 = .ok (.iload 5, 2) := dk_21 5 (dk_at dksX3_put_6 9 rfl rfl)
theorem dX3_put_152 : decode cX3_put 152 = .ok (.imul, 1) := dk_104 (dk_at dksX3_put_6 11 rfl rfl)
theorem dX3_put_153 : decode cX3_put 153 = .ok (.lushr, 1) := dk_125 (dk_at dksX3_put_6 12 rfl rfl)
theorem dX3_put_154 : decode cX3_put 154 = .ok (.ldc2_w 121, 3) := dk_20 0 121 (dk_at dksX3_put_6 13 rfl rfl)
theorem dX3_put_157 : decode cX3_put 157 = .ok (.land, 1) := dk_127 (dk_at dksX3_put_6 16 rfl rfl)
theorem dX3_put_158 : decode cX3_put 158 = .ok (.l2i, 1) := dk_136 (dk_at dksX3_put_6 17 rfl rfl)
theorem dX3_put_159 : decode cX3_put 159 = .ok (.iastore, 1) := dk_79 (dk_at dksX3_put_6 18 rfl rfl)
theorem dX3_put_160 : decode cX3_put 160 = .ok (.iinc 5 1, 3) := dk_132 5 1 (dk_at dksX3_put_6 19 rfl rfl)
theorem dX3_put_163 : decode cX3_put 163 = .ok (.goto (-37), 3) := dk_167 255 219 (dk_at dksX3_put_7 0 rfl rfl)
theorem dX3_put_166 : decode cX3_put 166 = .ok (.aload_n 0, 1) := dk_42 (dk_at dksX3_put_7 3 rfl rfl)
theorem dX3_put_167 : decode cX3_put 167 = .ok (.dup, 1) := dk_89 (dk_at dksX3_put_7 4 rfl rfl)
theorem dX3_put_168 : decode cX3_put 168 = .ok (.getfield 118, 3) := dk_180 0 118 (dk_at dksX3_put_7 5 rfl rfl)
theorem dX3_put_171 : decode cX3_put 171 = .ok (.iload_n 3, 1) := dk_29 (dk_at dksX3_put_7 8 rfl rfl)
theorem dX3_put_172 : decode cX3_put 172 = .ok (.iadd, 1) := dk_96 (dk_at dksX3_put_7 9 rfl rfl)
theorem dX3_put_173 : decode cX3_put 173 = .ok (.putfield 118, 3) := dk_181 0 118 (dk_at dksX3_put_7 10 rfl rfl)
theorem dX3_put_176 : decode cX3_put 176 = .ok (.aload_n 0, 1) := dk_42 (dk_at dksX3_put_7 13 rfl rfl)
theorem dX3_put_177 : decode cX3_put 177 = .ok (.getfield 118, 3) := dk_180 0 118 (dk_at dksX3_put_7 14 rfl rfl)
theorem dX3_put_180 : decode cX3_put 180 = .ok (.ireturn, 1) := dk_172 (dk_at dksX3_put_7 17 rfl rfl)
abbrev cX3_wipe : ByteArray := prog_9_method_47_code
def yX3_wipe : MethodName := ⟨RX3, "wipe", "()I"⟩
def dkwX3_wipe_0 : List UInt8 := [42, 180, 0, 118, 60, 42, 3, 181, 0, 118, 27, 172]
abbrev dktX3_wipe_0 : List UInt8 := dkwX3_wipe_0 ++ []
theorem dksX3_wipe_0 : cX3_wipe.data.toList.drop 0 = dktX3_wipe_0 := by decide +kernel
theorem dX3_wipe_0 : decode cX3_wipe 0 = .ok (.aload_n 0, 1) := dk_42 (dk_at dksX3_wipe_0 0 rfl rfl)
theorem dX3_wipe_1 : decode cX3_wipe 1 = .ok (.getfield 118, 3) := dk_180 0 118 (dk_at dksX3_wipe_0 1 rfl rfl)
theorem dX3_wipe_4 : decode cX3_wipe 4 = .ok (.istore_n 1, 1) := dk_60 (dk_at dksX3_wipe_0 4 rfl rfl)
theorem dX3_wipe_5 : decode cX3_wipe 5 = .ok (.aload_n 0, 1) := dk_42 (dk_at dksX3_wipe_0 5 rfl rfl)
theorem dX3_wipe_6 : decode cX3_wipe 6 = .ok (.iconst 0, 1) := dk_3 (dk_at dksX3_wipe_0 6 rfl rfl)
theorem dX3_wipe_7 : decode cX3_wipe 7 = .ok (.putfield 118, 3) := dk_181 0 118 (dk_at dksX3_wipe_0 7 rfl rfl)
theorem dX3_wipe_10 : decode cX3_wipe 10 = .ok (.iload_n 1, 1) := dk_27 (dk_at dksX3_wipe_0 10 rfl rfl)
theorem dX3_wipe_11 : decode cX3_wipe 11 = .ok (.ireturn, 1) := dk_172 (dk_at dksX3_wipe_0 11 rfl rfl)
abbrev cX3_fault : ByteArray := prog_9_method_53_code
def yX3_fault : MethodName := ⟨RX3, "fault", "()I"⟩
theorem dX3_fault_0 : decode cX3_fault 0 = .ok (.aload_n 0, 1) := by decide +kernel
theorem dX3_fault_1 : decode cX3_fault 1 = .ok (.invokevirtual 138, 3) := by decide +kernel
theorem dX3_fault_4 : decode cX3_fault 4 = .ok (.ireturn, 1) := by decide +kernel
abbrev cX3_wrong : ByteArray := prog_9_method_52_code
def yX3_wrong : MethodName := ⟨RX3, "wrong", "()I"⟩
def dkwX3_wrong_4 : List UInt8 := [172]
abbrev dktX3_wrong_4 : List UInt8 := dkwX3_wrong_4 ++ []
def dkwX3_wrong_3 : List UInt8 := [16, 59, 159, 0, 5, 27, 172, 27, 28, 153, 0, 7, 4, 167, 0, 4, 3, 96, 60, 167, 255, 176, 16, 250]
abbrev dktX3_wrong_3 : List UInt8 := dkwX3_wrong_3 ++ dktX3_wrong_4
def dkwX3_wrong_2 : List UInt8 := [27, 42, 180, 0, 118, 162, 0, 7, 4, 167, 0, 4, 3, 61, 28, 153, 0, 16, 42, 180, 0, 23, 27, 46]
abbrev dktX3_wrong_2 : List UInt8 := dkwX3_wrong_2 ++ dktX3_wrong_3
def dkwX3_wrong_1 : List UInt8 := [182, 0, 135, 162, 0, 7, 27, 29, 96, 172, 42, 89, 180, 0, 129, 4, 96, 181, 0, 129, 27, 29, 96, 60]
abbrev dktX3_wrong_1 : List UInt8 := dkwX3_wrong_1 ++ dktX3_wrong_2
def dkwX3_wrong_0 : List UInt8 := [3, 60, 42, 3, 181, 0, 129, 4, 61, 28, 153, 0, 82, 42, 27, 182, 0, 132, 62, 29, 42, 27]
abbrev dktX3_wrong_0 : List UInt8 := dkwX3_wrong_0 ++ dktX3_wrong_1
theorem dksX3_wrong_0 : cX3_wrong.data.toList.drop 0 = dktX3_wrong_0 := by decide +kernel
theorem dksX3_wrong_1 : cX3_wrong.data.toList.drop 22 = dktX3_wrong_1 := dk_seg dksX3_wrong_0 22 rfl rfl
theorem dksX3_wrong_2 : cX3_wrong.data.toList.drop 46 = dktX3_wrong_2 := dk_seg dksX3_wrong_1 24 rfl rfl
theorem dksX3_wrong_3 : cX3_wrong.data.toList.drop 70 = dktX3_wrong_3 := dk_seg dksX3_wrong_2 24 rfl rfl
theorem dksX3_wrong_4 : cX3_wrong.data.toList.drop 94 = dktX3_wrong_4 := dk_seg dksX3_wrong_3 24 rfl rfl
theorem dX3_wrong_0 : decode cX3_wrong 0 = .ok (.iconst 0, 1) := dk_3 (dk_at dksX3_wrong_0 0 rfl rfl)
theorem dX3_wrong_1 : decode cX3_wrong 1 = .ok (.istore_n 1, 1) := dk_60 (dk_at dksX3_wrong_0 1 rfl rfl)
theorem dX3_wrong_2 : decode cX3_wrong 2 = .ok (.aload_n 0, 1) := dk_42 (dk_at dksX3_wrong_0 2 rfl rfl)
theorem dX3_wrong_3 : decode cX3_wrong 3 = .ok (.iconst 0, 1) := dk_3 (dk_at dksX3_wrong_0 3 rfl rfl)
theorem dX3_wrong_4 : decode cX3_wrong 4 = .ok (.putfield 129, 3) := dk_181 0 129 (dk_at dksX3_wrong_0 4 rfl rfl)
theorem dX3_wrong_7 : decode cX3_wrong 7 = .ok (.iconst 1, 1) := dk_4 (dk_at dksX3_wrong_0 7 rfl rfl)
theorem dX3_wrong_8 : decode cX3_wrong 8 = .ok (.istore_n 2, 1) := dk_61 (dk_at dksX3_wrong_0 8 rfl rfl)
theorem dX3_wrong_9 : decode cX3_wrong 9 = .ok (.iload_n 2, 1) := dk_28 (dk_at dksX3_wrong_0 9 rfl rfl)
theorem dX3_wrong_10 : decode cX3_wrong 10 = .ok (.ifCond .eq 82, 3) := dk_153 0 82 (dk_at dksX3_wrong_0 10 rfl rfl)
theorem dX3_wrong_13 : decode cX3_wrong 13 = .ok (.aload_n 0, 1) := dk_42 (dk_at dksX3_wrong_0 13 rfl rfl)
theorem dX3_wrong_14 : decode cX3_wrong 14 = .ok (.iload_n 1, 1) := dk_27 (dk_at dksX3_wrong_0 14 rfl rfl)
theorem dX3_wrong_15 : decode cX3_wrong 15 = .ok (.invokevirtual 132, 3) := dk_182 0 132 (dk_at dksX3_wrong_0 15 rfl rfl)
theorem dX3_wrong_18 : decode cX3_wrong 18 = .ok (.istore_n 3, 1) := dk_62 (dk_at dksX3_wrong_0 18 rfl rfl)
theorem dX3_wrong_19 : decode cX3_wrong 19 = .ok (.iload_n 3, 1) := dk_29 (dk_at dksX3_wrong_0 19 rfl rfl)
theorem dX3_wrong_20 : decode cX3_wrong 20 = .ok (.aload_n 0, 1) := dk_42 (dk_at dksX3_wrong_0 20 rfl rfl)
theorem dX3_wrong_21 : decode cX3_wrong 21 = .ok (.iload_n 1, 1) := dk_27 (dk_at dksX3_wrong_0 21 rfl rfl)
theorem dX3_wrong_22 : decode cX3_wrong 22 = .ok (.invokevirtual 135, 3) := dk_182 0 135 (dk_at dksX3_wrong_1 0 rfl rfl)
theorem dX3_wrong_25 : decode cX3_wrong 25 = .ok (.if_icmp .ge 7, 3) := dk_162 0 7 (dk_at dksX3_wrong_1 3 rfl rfl)
theorem dX3_wrong_28 : decode cX3_wrong 28 = .ok (.iload_n 1, 1) := dk_27 (dk_at dksX3_wrong_1 6 rfl rfl)
theorem dX3_wrong_29 : decode cX3_wrong 29 = .ok (.iload_n 3, 1) := dk_29 (dk_at dksX3_wrong_1 7 rfl rfl)
theorem dX3_wrong_30 : decode cX3_wrong 30 = .ok (.iadd, 1) := dk_96 (dk_at dksX3_wrong_1 8 rfl rfl)
theorem dX3_wrong_31 : decode cX3_wrong 31 = .ok (.ireturn, 1) := dk_172 (dk_at dksX3_wrong_1 9 rfl rfl)
theorem dX3_wrong_32 : decode cX3_wrong 32 = .ok (.aload_n 0, 1) := dk_42 (dk_at dksX3_wrong_1 10 rfl rfl)
theorem dX3_wrong_33 : decode cX3_wrong 33 = .ok (.dup, 1) := dk_89 (dk_at dksX3_wrong_1 11 rfl rfl)
theorem dX3_wrong_34 : decode cX3_wrong 34 = .ok (.getfield 129, 3) := dk_180 0 129 (dk_at dksX3_wrong_1 12 rfl rfl)
theorem dX3_wrong_37 : decode cX3_wrong 37 = .ok (.iconst 1, 1) := dk_4 (dk_at dksX3_wrong_1 15 rfl rfl)
theorem dX3_wrong_38 : decode cX3_wrong 38 = .ok (.iadd, 1) := dk_96 (dk_at dksX3_wrong_1 16 rfl rfl)
theorem dX3_wrong_39 : decode cX3_wrong 39 = .ok (.putfield 129, 3) := dk_181 0 129 (dk_at dksX3_wrong_1 17 rfl rfl)
theorem dX3_wrong_42 : decode cX3_wrong 42 = .ok (.iload_n 1, 1) := dk_27 (dk_at dksX3_wrong_1 20 rfl rfl)
theorem dX3_wrong_43 : decode cX3_wrong 43 = .ok (.iload_n 3, 1) := dk_29 (dk_at dksX3_wrong_1 21 rfl rfl)
theorem dX3_wrong_44 : decode cX3_wrong 44 = .ok (.iadd, 1) := dk_96 (dk_at dksX3_wrong_1 22 rfl rfl)
theorem dX3_wrong_45 : decode cX3_wrong 45 = .ok (.istore_n 1, 1) := dk_60 (dk_at dksX3_wrong_1 23 rfl rfl)
theorem dX3_wrong_46 : decode cX3_wrong 46 = .ok (.iload_n 1, 1) := dk_27 (dk_at dksX3_wrong_2 0 rfl rfl)
theorem dX3_wrong_47 : decode cX3_wrong 47 = .ok (.aload_n 0, 1) := dk_42 (dk_at dksX3_wrong_2 1 rfl rfl)
theorem dX3_wrong_48 : decode cX3_wrong 48 = .ok (.getfield 118, 3) := dk_180 0 118 (dk_at dksX3_wrong_2 2 rfl rfl)
theorem dX3_wrong_51 : decode cX3_wrong 51 = .ok (.if_icmp .ge 7, 3) := dk_162 0 7 (dk_at dksX3_wrong_2 5 rfl rfl)
theorem dX3_wrong_54 : decode cX3_wrong 54 = .ok (.iconst 1, 1) := dk_4 (dk_at dksX3_wrong_2 8 rfl rfl)
theorem dX3_wrong_55 : decode cX3_wrong 55 = .ok (.goto 4, 3) := dk_167 0 4 (dk_at dksX3_wrong_2 9 rfl rfl)
theorem dX3_wrong_58 : decode cX3_wrong 58 = .ok (.iconst 0, 1) := dk_3 (dk_at dksX3_wrong_2 12 rfl rfl)
theorem dX3_wrong_59 : decode cX3_wrong 59 = .ok (.istore_n 2, 1) := dk_61 (dk_at dksX3_wrong_2 13 rfl rfl)
theorem dX3_wrong_60 : decode cX3_wrong 60 = .ok (.iload_n 2, 1) := dk_28 (dk_at dksX3_wrong_2 14 rfl rfl)
theorem dX3_wrong_61 : decode cX3_wrong 61 = .ok (.ifCond .eq 16, 3) := dk_153 0 16 (dk_at dksX3_wrong_2 15 rfl rfl)
theorem dX3_wrong_64 : decode cX3_wrong 64 = .ok (.aload_n 0, 1) := dk_42 (dk_at dksX3_wrong_2 18 rfl rfl)
theorem dX3_wrong_65 : decode cX3_wrong 65 = .ok (.getfield 23, 3) := dk_180 0 23 (dk_at dksX3_wrong_2 19 rfl rfl)
theorem dX3_wrong_68 : decode cX3_wrong 68 = .ok (.iload_n 1, 1) := dk_27 (dk_at dksX3_wrong_2 22 rfl rfl)
theorem dX3_wrong_69 : decode cX3_wrong 69 = .ok (.iaload, 1) := dk_46 (dk_at dksX3_wrong_2 23 rfl rfl)
theorem dX3_wrong_70 : decode cX3_wrong 70 = .ok (.bipush 59, 2) := dk_16 59 (dk_at dksX3_wrong_3 0 rfl rfl)
theorem dX3_wrong_72 : decode cX3_wrong 72 = .ok (.if_icmp .eq 5, 3) := dk_159 0 5 (dk_at dksX3_wrong_3 2 rfl rfl)
theorem dX3_wrong_75 : decode cX3_wrong 75 = .ok (.iload_n 1, 1) := dk_27 (dk_at dksX3_wrong_3 5 rfl rfl)
theorem dX3_wrong_76 : decode cX3_wrong 76 = .ok (.ireturn, 1) := dk_172 (dk_at dksX3_wrong_3 6 rfl rfl)
theorem dX3_wrong_77 : decode cX3_wrong 77 = .ok (.iload_n 1, 1) := dk_27 (dk_at dksX3_wrong_3 7 rfl rfl)
theorem dX3_wrong_78 : decode cX3_wrong 78 = .ok (.iload_n 2, 1) := dk_28 (dk_at dksX3_wrong_3 8 rfl rfl)
theorem dX3_wrong_79 : decode cX3_wrong 79 = .ok (.ifCond .eq 7, 3) := dk_153 0 7 (dk_at dksX3_wrong_3 9 rfl rfl)
theorem dX3_wrong_82 : decode cX3_wrong 82 = .ok (.iconst 1, 1) := dk_4 (dk_at dksX3_wrong_3 12 rfl rfl)
theorem dX3_wrong_83 : decode cX3_wrong 83 = .ok (.goto 4, 3) := dk_167 0 4 (dk_at dksX3_wrong_3 13 rfl rfl)
theorem dX3_wrong_86 : decode cX3_wrong 86 = .ok (.iconst 0, 1) := dk_3 (dk_at dksX3_wrong_3 16 rfl rfl)
theorem dX3_wrong_87 : decode cX3_wrong 87 = .ok (.iadd, 1) := dk_96 (dk_at dksX3_wrong_3 17 rfl rfl)
theorem dX3_wrong_88 : decode cX3_wrong 88 = .ok (.istore_n 1, 1) := dk_60 (dk_at dksX3_wrong_3 18 rfl rfl)
theorem dX3_wrong_89 : decode cX3_wrong 89 = .ok (.goto (-80), 3) := dk_167 255 176 (dk_at dksX3_wrong_3 19 rfl rfl)
theorem dX3_wrong_92 : decode cX3_wrong 92 = .ok (.bipush (-6), 2) := dk_16 250 (dk_at dksX3_wrong_3 22 rfl rfl)
theorem dX3_wrong_94 : decode cX3_wrong 94 = .ok (.ireturn, 1) := dk_172 (dk_at dksX3_wrong_4 0 rfl rfl)
abbrev cX3_right : ByteArray := prog_9_method_50_code
def yX3_right : MethodName := ⟨RX3, "right", "(I)I"⟩
def dkwX3_right_5 : List UInt8 := [27, 7, 96, 182, 0, 123, 16, 49, 16, 57, 184, 0, 29, 153, 0, 7, 8, 167, 0, 4, 7, 172]
abbrev dktX3_right_5 : List UInt8 := dkwX3_right_5 ++ []
def dkwX3_right_4 : List UInt8 := [42, 27, 6, 96, 182, 0, 123, 16, 48, 16, 53, 184, 0, 29, 154, 0, 5, 6, 172, 28, 153, 0, 24, 42]
abbrev dktX3_right_4 : List UInt8 := dkwX3_right_4 ++ dktX3_right_5
def dkwX3_right_3 : List UInt8 := [16, 48, 16, 52, 184, 0, 29, 154, 0, 5, 5, 172, 42, 27, 6, 96, 182, 0, 123, 16, 42, 159, 0, 22]
abbrev dktX3_right_3 : List UInt8 := dkwX3_right_3 ++ dktX3_right_4
def dkwX3_right_2 : List UInt8 := [159, 0, 5, 4, 172, 42, 27, 5, 96, 182, 0, 123, 16, 42, 159, 0, 22, 42, 27, 5, 96, 182, 0, 123]
abbrev dktX3_right_2 : List UInt8 := dkwX3_right_2 ++ dktX3_right_3
def dkwX3_right_1 : List UInt8 := [154, 0, 5, 3, 172, 28, 16, 250, 159, 0, 17, 28, 154, 0, 15, 42, 27, 182, 0, 123, 16, 48]
abbrev dktX3_right_1 : List UInt8 := dkwX3_right_1 ++ dktX3_right_2
def dkwX3_right_0 : List UInt8 := [42, 27, 4, 96, 182, 0, 123, 184, 0, 126, 61, 42, 27, 182, 0, 123, 16, 48, 16, 52, 184, 0, 29]
abbrev dktX3_right_0 : List UInt8 := dkwX3_right_0 ++ dktX3_right_1
theorem dksX3_right_0 : cX3_right.data.toList.drop 0 = dktX3_right_0 := by decide +kernel
theorem dksX3_right_1 : cX3_right.data.toList.drop 23 = dktX3_right_1 := dk_seg dksX3_right_0 23 rfl rfl
theorem dksX3_right_2 : cX3_right.data.toList.drop 45 = dktX3_right_2 := dk_seg dksX3_right_1 22 rfl rfl
theorem dksX3_right_3 : cX3_right.data.toList.drop 69 = dktX3_right_3 := dk_seg dksX3_right_2 24 rfl rfl
theorem dksX3_right_4 : cX3_right.data.toList.drop 93 = dktX3_right_4 := dk_seg dksX3_right_3 24 rfl rfl
theorem dksX3_right_5 : cX3_right.data.toList.drop 117 = dktX3_right_5 := dk_seg dksX3_right_4 24 rfl rfl
theorem dX3_right_0 : decode cX3_right 0 = .ok (.aload_n 0, 1) := dk_42 (dk_at dksX3_right_0 0 rfl rfl)
theorem dX3_right_1 : decode cX3_right 1 = .ok (.iload_n 1, 1) := dk_27 (dk_at dksX3_right_0 1 rfl rfl)
theorem dX3_right_2 : decode cX3_right 2 = .ok (.iconst 1, 1) := dk_4 (dk_at dksX3_right_0 2 rfl rfl)
theorem dX3_right_3 : decode cX3_right 3 = .ok (.iadd, 1) := dk_96 (dk_at dksX3_right_0 3 rfl rfl)
theorem dX3_right_4 : decode cX3_right 4 = .ok (.invokevirtual 123, 3) := dk_182 0 123 (dk_at dksX3_right_0 4 rfl rfl)
theorem dX3_right_7 : decode cX3_right 7 = .ok (.invokestatic 126, 3) := dk_184 0 126 (dk_at dksX3_right_0 7 rfl rfl)
theorem dX3_right_10 : decode cX3_right 10 = .ok (.istore_n 2, 1) := dk_61 (dk_at dksX3_right_0 10 rfl rfl)
theorem dX3_right_11 : decode cX3_right 11 = .ok (.aload_n 0, 1) := dk_42 (dk_at dksX3_right_0 11 rfl rfl)
theorem dX3_right_12 : decode cX3_right 12 = .ok (.iload_n 1, 1) := dk_27 (dk_at dksX3_right_0 12 rfl rfl)
theorem dX3_right_13 : decode cX3_right 13 = .ok (.invokevirtual 123, 3) := dk_182 0 123 (dk_at dksX3_right_0 13 rfl rfl)
theorem dX3_right_16 : decode cX3_right 16 = .ok (.bipush 48, 2) := dk_16 48 (dk_at dksX3_right_0 16 rfl rfl)
theorem dX3_right_18 : decode cX3_right 18 = .ok (.bipush 52, 2) := dk_16 52 (dk_at dksX3_right_0 18 rfl rfl)
theorem dX3_right_20 : decode cX3_right 20 = .ok (.invokestatic 29, 3) := dk_184 0 29 (dk_at dksX3_right_0 20 rfl rfl)
theorem dX3_right_23 : decode cX3_right 23 = .ok (.ifCond .ne 5, 3) := dk_154 0 5 (dk_at dksX3_right_1 0 rfl rfl)
theorem dX3_right_26 : decode cX3_right 26 = .ok (.iconst 0, 1) := dk_3 (dk_at dksX3_right_1 3 rfl rfl)
theorem dX3_right_27 : decode cX3_right 27 = .ok (.ireturn, 1) := dk_172 (dk_at dksX3_right_1 4 rfl rfl)
theorem dX3_right_28 : decode cX3_right 28 = .ok (.iload_n 2, 1) := dk_28 (dk_at dksX3_right_1 5 rfl rfl)
theorem dX3_right_29 : decode cX3_right 29 = .ok (.bipush (-6), 2) := dk_16 250 (dk_at dksX3_right_1 6 rfl rfl)
theorem dX3_right_31 : decode cX3_right 31 = .ok (.if_icmp .eq 17, 3) := dk_159 0 17 (dk_at dksX3_right_1 8 rfl rfl)
theorem dX3_right_34 : decode cX3_right 34 = .ok (.iload_n 2, 1) := dk_28 (dk_at dksX3_right_1 11 rfl rfl)
theorem dX3_right_35 : decode cX3_right 35 = .ok (.ifCond .ne 15, 3) := dk_154 0 15 (dk_at dksX3_right_1 12 rfl rfl)
theorem dX3_right_38 : decode cX3_right 38 = .ok (.aload_n 0, 1) := dk_42 (dk_at dksX3_right_1 15 rfl rfl)
theorem dX3_right_39 : decode cX3_right 39 = .ok (.iload_n 1, 1) := dk_27 (dk_at dksX3_right_1 16 rfl rfl)
theorem dX3_right_40 : decode cX3_right 40 = .ok (.invokevirtual 123, 3) := dk_182 0 123 (dk_at dksX3_right_1 17 rfl rfl)
theorem dX3_right_43 : decode cX3_right 43 = .ok (.bipush 48, 2) := dk_16 48 (dk_at dksX3_right_1 20 rfl rfl)
theorem dX3_right_45 : decode cX3_right 45 = .ok (.if_icmp .eq 5, 3) := dk_159 0 5 (dk_at dksX3_right_2 0 rfl rfl)
theorem dX3_right_48 : decode cX3_right 48 = .ok (.iconst 1, 1) := dk_4 (dk_at dksX3_right_2 3 rfl rfl)
theorem dX3_right_49 : decode cX3_right 49 = .ok (.ireturn, 1) := dk_172 (dk_at dksX3_right_2 4 rfl rfl)
theorem dX3_right_50 : decode cX3_right 50 = .ok (.aload_n 0, 1) := dk_42 (dk_at dksX3_right_2 5 rfl rfl)
theorem dX3_right_51 : decode cX3_right 51 = .ok (.iload_n 1, 1) := dk_27 (dk_at dksX3_right_2 6 rfl rfl)
theorem dX3_right_52 : decode cX3_right 52 = .ok (.iconst 2, 1) := dk_5 (dk_at dksX3_right_2 7 rfl rfl)
theorem dX3_right_53 : decode cX3_right 53 = .ok (.iadd, 1) := dk_96 (dk_at dksX3_right_2 8 rfl rfl)
theorem dX3_right_54 : decode cX3_right 54 = .ok (.invokevirtual 123, 3) := dk_182 0 123 (dk_at dksX3_right_2 9 rfl rfl)
theorem dX3_right_57 : decode cX3_right 57 = .ok (.bipush 42, 2) := dk_16 42 (dk_at dksX3_right_2 12 rfl rfl)
theorem dX3_right_59 : decode cX3_right 59 = .ok (.if_icmp .eq 22, 3) := dk_159 0 22 (dk_at dksX3_right_2 14 rfl rfl)
theorem dX3_right_62 : decode cX3_right 62 = .ok (.aload_n 0, 1) := dk_42 (dk_at dksX3_right_2 17 rfl rfl)
theorem dX3_right_63 : decode cX3_right 63 = .ok (.iload_n 1, 1) := dk_27 (dk_at dksX3_right_2 18 rfl rfl)
theorem dX3_right_64 : decode cX3_right 64 = .ok (.iconst 2, 1) := dk_5 (dk_at dksX3_right_2 19 rfl rfl)
theorem dX3_right_65 : decode cX3_right 65 = .ok (.iadd, 1) := dk_96 (dk_at dksX3_right_2 20 rfl rfl)
theorem dX3_right_66 : decode cX3_right 66 = .ok (.invokevirtual 123, 3) := dk_182 0 123 (dk_at dksX3_right_2 21 rfl rfl)
theorem dX3_right_69 : decode cX3_right 69 = .ok (.bipush 48, 2) := dk_16 48 (dk_at dksX3_right_3 0 rfl rfl)
theorem dX3_right_71 : decode cX3_right 71 = .ok (.bipush 52, 2) := dk_16 52 (dk_at dksX3_right_3 2 rfl rfl)
theorem dX3_right_73 : decode cX3_right 73 = .ok (.invokestatic 29, 3) := dk_184 0 29 (dk_at dksX3_right_3 4 rfl rfl)
theorem dX3_right_76 : decode cX3_right 76 = .ok (.ifCond .ne 5, 3) := dk_154 0 5 (dk_at dksX3_right_3 7 rfl rfl)
theorem dX3_right_79 : decode cX3_right 79 = .ok (.iconst 2, 1) := dk_5 (dk_at dksX3_right_3 10 rfl rfl)
theorem dX3_right_80 : decode cX3_right 80 = .ok (.ireturn, 1) := dk_172 (dk_at dksX3_right_3 11 rfl rfl)
theorem dX3_right_81 : decode cX3_right 81 = .ok (.aload_n 0, 1) := dk_42 (dk_at dksX3_right_3 12 rfl rfl)
theorem dX3_right_82 : decode cX3_right 82 = .ok (.iload_n 1, 1) := dk_27 (dk_at dksX3_right_3 13 rfl rfl)
theorem dX3_right_83 : decode cX3_right 83 = .ok (.iconst 3, 1) := dk_6 (dk_at dksX3_right_3 14 rfl rfl)
theorem dX3_right_84 : decode cX3_right 84 = .ok (.iadd, 1) := dk_96 (dk_at dksX3_right_3 15 rfl rfl)
theorem dX3_right_85 : decode cX3_right 85 = .ok (.invokevirtual 123, 3) := dk_182 0 123 (dk_at dksX3_right_3 16 rfl rfl)
theorem dX3_right_88 : decode cX3_right 88 = .ok (.bipush 42, 2) := dk_16 42 (dk_at dksX3_right_3 19 rfl rfl)
theorem dX3_right_90 : decode cX3_right 90 = .ok (.if_icmp .eq 22, 3) := dk_159 0 22 (dk_at dksX3_right_3 21 rfl rfl)
theorem dX3_right_93 : decode cX3_right 93 = .ok (.aload_n 0, 1) := dk_42 (dk_at dksX3_right_4 0 rfl rfl)
theorem dX3_right_94 : decode cX3_right 94 = .ok (.iload_n 1, 1) := dk_27 (dk_at dksX3_right_4 1 rfl rfl)
theorem dX3_right_95 : decode cX3_right 95 = .ok (.iconst 3, 1) := dk_6 (dk_at dksX3_right_4 2 rfl rfl)
theorem dX3_right_96 : decode cX3_right 96 = .ok (.iadd, 1) := dk_96 (dk_at dksX3_right_4 3 rfl rfl)
theorem dX3_right_97 : decode cX3_right 97 = .ok (.invokevirtual 123, 3) := dk_182 0 123 (dk_at dksX3_right_4 4 rfl rfl)
theorem dX3_right_100 : decode cX3_right 100 = .ok (.bipush 48, 2) := dk_16 48 (dk_at dksX3_right_4 7 rfl rfl)
theorem dX3_right_102 : decode cX3_right 102 = .ok (.bipush 53, 2) := dk_16 53 (dk_at dksX3_right_4 9 rfl rfl)
theorem dX3_right_104 : decode cX3_right 104 = .ok (.invokestatic 29, 3) := dk_184 0 29 (dk_at dksX3_right_4 11 rfl rfl)
theorem dX3_right_107 : decode cX3_right 107 = .ok (.ifCond .ne 5, 3) := dk_154 0 5 (dk_at dksX3_right_4 14 rfl rfl)
theorem dX3_right_110 : decode cX3_right 110 = .ok (.iconst 3, 1) := dk_6 (dk_at dksX3_right_4 17 rfl rfl)
theorem dX3_right_111 : decode cX3_right 111 = .ok (.ireturn, 1) := dk_172 (dk_at dksX3_right_4 18 rfl rfl)
theorem dX3_right_112 : decode cX3_right 112 = .ok (.iload_n 2, 1) := dk_28 (dk_at dksX3_right_4 19 rfl rfl)
theorem dX3_right_113 : decode cX3_right 113 = .ok (.ifCond .eq 24, 3) := dk_153 0 24 (dk_at dksX3_right_4 20 rfl rfl)
theorem dX3_right_116 : decode cX3_right 116 = .ok (.aload_n 0, 1) := dk_42 (dk_at dksX3_right_4 23 rfl rfl)
theorem dX3_right_117 : decode cX3_right 117 = .ok (.iload_n 1, 1) := dk_27 (dk_at dksX3_right_5 0 rfl rfl)
theorem dX3_right_118 : decode cX3_right 118 = .ok (.iconst 4, 1) := dk_7 (dk_at dksX3_right_5 1 rfl rfl)
theorem dX3_right_119 : decode cX3_right 119 = .ok (.iadd, 1) := dk_96 (dk_at dksX3_right_5 2 rfl rfl)
theorem dX3_right_120 : decode cX3_right 120 = .ok (.invokevirtual 123, 3) := dk_182 0 123 (dk_at dksX3_right_5 3 rfl rfl)
theorem dX3_right_123 : decode cX3_right 123 = .ok (.bipush 49, 2) := dk_16 49 (dk_at dksX3_right_5 6 rfl rfl)
theorem dX3_right_125 : decode cX3_right 125 = .ok (.bipush 57, 2) := dk_16 57 (dk_at dksX3_right_5 8 rfl rfl)
theorem dX3_right_127 : decode cX3_right 127 = .ok (.invokestatic 29, 3) := dk_184 0 29 (dk_at dksX3_right_5 10 rfl rfl)
theorem dX3_right_130 : decode cX3_right 130 = .ok (.ifCond .eq 7, 3) := dk_153 0 7 (dk_at dksX3_right_5 13 rfl rfl)
theorem dX3_right_133 : decode cX3_right 133 = .ok (.iconst 5, 1) := dk_8 (dk_at dksX3_right_5 16 rfl rfl)
theorem dX3_right_134 : decode cX3_right 134 = .ok (.goto 4, 3) := dk_167 0 4 (dk_at dksX3_right_5 17 rfl rfl)
theorem dX3_right_137 : decode cX3_right 137 = .ok (.iconst 4, 1) := dk_7 (dk_at dksX3_right_5 20 rfl rfl)
theorem dX3_right_138 : decode cX3_right 138 = .ok (.ireturn, 1) := dk_172 (dk_at dksX3_right_5 21 rfl rfl)
abbrev cX3_next : ByteArray := prog_9_method_48_code
def yX3_next : MethodName := ⟨RX3, "next", "(I)I"⟩
def dkwX3_next_0 : List UInt8 := [27, 42, 180, 0, 118, 162, 0, 12, 42, 180, 0, 23, 27, 46, 167, 0, 4, 3, 172]
abbrev dktX3_next_0 : List UInt8 := dkwX3_next_0 ++ []
theorem dksX3_next_0 : cX3_next.data.toList.drop 0 = dktX3_next_0 := by decide +kernel
theorem dX3_next_0 : decode cX3_next 0 = .ok (.iload_n 1, 1) := dk_27 (dk_at dksX3_next_0 0 rfl rfl)
theorem dX3_next_1 : decode cX3_next 1 = .ok (.aload_n 0, 1) := dk_42 (dk_at dksX3_next_0 1 rfl rfl)
theorem dX3_next_2 : decode cX3_next 2 = .ok (.getfield 118, 3) := dk_180 0 118 (dk_at dksX3_next_0 2 rfl rfl)
theorem dX3_next_5 : decode cX3_next 5 = .ok (.if_icmp .ge 12, 3) := dk_162 0 12 (dk_at dksX3_next_0 5 rfl rfl)
theorem dX3_next_8 : decode cX3_next 8 = .ok (.aload_n 0, 1) := dk_42 (dk_at dksX3_next_0 8 rfl rfl)
theorem dX3_next_9 : decode cX3_next 9 = .ok (.getfield 23, 3) := dk_180 0 23 (dk_at dksX3_next_0 9 rfl rfl)
theorem dX3_next_12 : decode cX3_next 12 = .ok (.iload_n 1, 1) := dk_27 (dk_at dksX3_next_0 12 rfl rfl)
theorem dX3_next_13 : decode cX3_next 13 = .ok (.iaload, 1) := dk_46 (dk_at dksX3_next_0 13 rfl rfl)
theorem dX3_next_14 : decode cX3_next 14 = .ok (.goto 4, 3) := dk_167 0 4 (dk_at dksX3_next_0 14 rfl rfl)
theorem dX3_next_17 : decode cX3_next 17 = .ok (.iconst 0, 1) := dk_3 (dk_at dksX3_next_0 17 rfl rfl)
theorem dX3_next_18 : decode cX3_next 18 = .ok (.ireturn, 1) := dk_172 (dk_at dksX3_next_0 18 rfl rfl)
abbrev cX3_kindFor : ByteArray := prog_9_method_49_code
def yX3_kindFor : MethodName := ⟨RX3, "kindFor", "(I)I"⟩
def dkwX3_kindFor_1 : List UInt8 := [160, 0, 7, 5, 167, 0, 5, 16, 250, 172]
abbrev dktX3_kindFor_1 : List UInt8 := dkwX3_kindFor_1 ++ []
def dkwX3_kindFor_0 : List UInt8 := [26, 16, 112, 160, 0, 7, 3, 167, 0, 25, 26, 16, 98, 160, 0, 7, 4, 167, 0, 15, 26, 16, 119]
abbrev dktX3_kindFor_0 : List UInt8 := dkwX3_kindFor_0 ++ dktX3_kindFor_1
theorem dksX3_kindFor_0 : cX3_kindFor.data.toList.drop 0 = dktX3_kindFor_0 := by decide +kernel
theorem dksX3_kindFor_1 : cX3_kindFor.data.toList.drop 23 = dktX3_kindFor_1 := dk_seg dksX3_kindFor_0 23 rfl rfl
theorem dX3_kindFor_0 : decode cX3_kindFor 0 = .ok (.iload_n 0, 1) := dk_26 (dk_at dksX3_kindFor_0 0 rfl rfl)
theorem dX3_kindFor_1 : decode cX3_kindFor 1 = .ok (.bipush 112, 2) := dk_16 112 (dk_at dksX3_kindFor_0 1 rfl rfl)
theorem dX3_kindFor_3 : decode cX3_kindFor 3 = .ok (.if_icmp .ne 7, 3) := dk_160 0 7 (dk_at dksX3_kindFor_0 3 rfl rfl)
theorem dX3_kindFor_6 : decode cX3_kindFor 6 = .ok (.iconst 0, 1) := dk_3 (dk_at dksX3_kindFor_0 6 rfl rfl)
theorem dX3_kindFor_7 : decode cX3_kindFor 7 = .ok (.goto 25, 3) := dk_167 0 25 (dk_at dksX3_kindFor_0 7 rfl rfl)
theorem dX3_kindFor_10 : decode cX3_kindFor 10 = .ok (.iload_n 0, 1) := dk_26 (dk_at dksX3_kindFor_0 10 rfl rfl)
theorem dX3_kindFor_11 : decode cX3_kindFor 11 = .ok (.bipush 98, 2) := dk_16 98 (dk_at dksX3_kindFor_0 11 rfl rfl)
theorem dX3_kindFor_13 : decode cX3_kindFor 13 = .ok (.if_icmp .ne 7, 3) := dk_160 0 7 (dk_at dksX3_kindFor_0 13 rfl rfl)
theorem dX3_kindFor_16 : decode cX3_kindFor 16 = .ok (.iconst 1, 1) := dk_4 (dk_at dksX3_kindFor_0 16 rfl rfl)
theorem dX3_kindFor_17 : decode cX3_kindFor 17 = .ok (.goto 15, 3) := dk_167 0 15 (dk_at dksX3_kindFor_0 17 rfl rfl)
theorem dX3_kindFor_20 : decode cX3_kindFor 20 = .ok (.iload_n 0, 1) := dk_26 (dk_at dksX3_kindFor_0 20 rfl rfl)
theorem dX3_kindFor_21 : decode cX3_kindFor 21 = .ok (.bipush 119, 2) := dk_16 119 (dk_at dksX3_kindFor_0 21 rfl rfl)
theorem dX3_kindFor_23 : decode cX3_kindFor 23 = .ok (.if_icmp .ne 7, 3) := dk_160 0 7 (dk_at dksX3_kindFor_1 0 rfl rfl)
theorem dX3_kindFor_26 : decode cX3_kindFor 26 = .ok (.iconst 2, 1) := dk_5 (dk_at dksX3_kindFor_1 3 rfl rfl)
theorem dX3_kindFor_27 : decode cX3_kindFor 27 = .ok (.goto 5, 3) := dk_167 0 5 (dk_at dksX3_kindFor_1 4 rfl rfl)
theorem dX3_kindFor_30 : decode cX3_kindFor 30 = .ok (.bipush (-6), 2) := dk_16 250 (dk_at dksX3_kindFor_1 7 rfl rfl)
theorem dX3_kindFor_32 : decode cX3_kindFor 32 = .ok (.ireturn, 1) := dk_172 (dk_at dksX3_kindFor_1 9 rfl rfl)
abbrev cX3_whole : ByteArray := prog_9_method_51_code
def yX3_whole : MethodName := ⟨RX3, "whole", "(I)I"⟩
def dkwX3_whole_0 : List UInt8 := [42, 27, 4, 96, 182, 0, 123, 16, 112, 160, 0, 7, 7, 167, 0, 4, 8, 172]
abbrev dktX3_whole_0 : List UInt8 := dkwX3_whole_0 ++ []
theorem dksX3_whole_0 : cX3_whole.data.toList.drop 0 = dktX3_whole_0 := by decide +kernel
theorem dX3_whole_0 : decode cX3_whole 0 = .ok (.aload_n 0, 1) := dk_42 (dk_at dksX3_whole_0 0 rfl rfl)
theorem dX3_whole_1 : decode cX3_whole 1 = .ok (.iload_n 1, 1) := dk_27 (dk_at dksX3_whole_0 1 rfl rfl)
theorem dX3_whole_2 : decode cX3_whole 2 = .ok (.iconst 1, 1) := dk_4 (dk_at dksX3_whole_0 2 rfl rfl)
theorem dX3_whole_3 : decode cX3_whole 3 = .ok (.iadd, 1) := dk_96 (dk_at dksX3_whole_0 3 rfl rfl)
theorem dX3_whole_4 : decode cX3_whole 4 = .ok (.invokevirtual 123, 3) := dk_182 0 123 (dk_at dksX3_whole_0 4 rfl rfl)
theorem dX3_whole_7 : decode cX3_whole 7 = .ok (.bipush 112, 2) := dk_16 112 (dk_at dksX3_whole_0 7 rfl rfl)
theorem dX3_whole_9 : decode cX3_whole 9 = .ok (.if_icmp .ne 7, 3) := dk_160 0 7 (dk_at dksX3_whole_0 9 rfl rfl)
theorem dX3_whole_12 : decode cX3_whole 12 = .ok (.iconst 4, 1) := dk_7 (dk_at dksX3_whole_0 12 rfl rfl)
theorem dX3_whole_13 : decode cX3_whole 13 = .ok (.goto 4, 3) := dk_167 0 4 (dk_at dksX3_whole_0 13 rfl rfl)
theorem dX3_whole_16 : decode cX3_whole 16 = .ok (.iconst 5, 1) := dk_8 (dk_at dksX3_whole_0 16 rfl rfl)
theorem dX3_whole_17 : decode cX3_whole 17 = .ok (.ireturn, 1) := dk_172 (dk_at dksX3_whole_0 17 rfl rfl)
abbrev cX3_read : ByteArray := prog_9_method_54_code
def yX3_read : MethodName := ⟨RX3, "read", "()I"⟩
def dkwX3_read_7 : List UInt8 := [42, 3, 181, 0, 118, 42, 180, 0, 7, 3, 46, 172]
abbrev dktX3_read_7 : List UInt8 := dkwX3_read_7 ++ []
def dkwX3_read_6 : List UInt8 := [182, 0, 123, 16, 48, 100, 182, 0, 68, 54, 5, 27, 42, 27, 182, 0, 135, 4, 96, 96, 60, 167, 255, 134]
abbrev dktX3_read_6 : List UInt8 := dkwX3_read_6 ++ dktX3_read_7
def dkwX3_read_5 : List UInt8 := [182, 0, 123, 16, 48, 100, 21, 4, 28, 29, 21, 4, 154, 0, 7, 4, 167, 0, 13, 42, 27, 7, 96]
abbrev dktX3_read_5 : List UInt8 := dkwX3_read_5 ++ dktX3_read_6
def dkwX3_read_4 : List UInt8 := [182, 0, 123, 16, 48, 100, 62, 42, 27, 4, 96, 182, 0, 123, 184, 0, 126, 54, 4, 42, 42, 27]
abbrev dktX3_read_4 : List UInt8 := dkwX3_read_4 ++ dktX3_read_5
def dkwX3_read_3 : List UInt8 := [61, 42, 27, 6, 96, 182, 0, 123, 16, 42, 160, 0, 8, 16, 6, 167, 0, 13, 42, 27, 6, 96]
abbrev dktX3_read_3 : List UInt8 := dkwX3_read_3 ++ dktX3_read_4
def dkwX3_read_2 : List UInt8 := [5, 96, 182, 0, 123, 16, 42, 160, 0, 7, 8, 167, 0, 13, 42, 27, 5, 96, 182, 0, 123, 16, 48, 100]
abbrev dktX3_read_2 : List UInt8 := dkwX3_read_2 ++ dktX3_read_3
def dkwX3_read_1 : List UInt8 := [16, 24, 164, 0, 6, 16, 252, 172, 42, 182, 0, 65, 3, 60, 27, 42, 180, 0, 118, 162, 0, 120, 42, 27]
abbrev dktX3_read_1 : List UInt8 := dkwX3_read_1 ++ dktX3_read_2
def dkwX3_read_0 : List UInt8 := [42, 182, 0, 138, 16, 250, 159, 0, 6, 16, 253, 172, 42, 180, 0, 7, 3, 46, 42, 180, 0, 129, 96]
abbrev dktX3_read_0 : List UInt8 := dkwX3_read_0 ++ dktX3_read_1
theorem dksX3_read_0 : cX3_read.data.toList.drop 0 = dktX3_read_0 := by decide +kernel
theorem dksX3_read_1 : cX3_read.data.toList.drop 23 = dktX3_read_1 := dk_seg dksX3_read_0 23 rfl rfl
theorem dksX3_read_2 : cX3_read.data.toList.drop 47 = dktX3_read_2 := dk_seg dksX3_read_1 24 rfl rfl
theorem dksX3_read_3 : cX3_read.data.toList.drop 71 = dktX3_read_3 := dk_seg dksX3_read_2 24 rfl rfl
theorem dksX3_read_4 : cX3_read.data.toList.drop 93 = dktX3_read_4 := dk_seg dksX3_read_3 22 rfl rfl
theorem dksX3_read_5 : cX3_read.data.toList.drop 115 = dktX3_read_5 := dk_seg dksX3_read_4 22 rfl rfl
theorem dksX3_read_6 : cX3_read.data.toList.drop 138 = dktX3_read_6 := dk_seg dksX3_read_5 23 rfl rfl
theorem dksX3_read_7 : cX3_read.data.toList.drop 162 = dktX3_read_7 := dk_seg dksX3_read_6 24 rfl rfl
theorem dX3_read_0 : decode cX3_read 0 = .ok (.aload_n 0, 1) := dk_42 (dk_at dksX3_read_0 0 rfl rfl)
theorem dX3_read_1 : decode cX3_read 1 = .ok (.invokevirtual 138, 3) := dk_182 0 138 (dk_at dksX3_read_0 1 rfl rfl)
theorem dX3_read_4 : decode cX3_read 4 = .ok (.bipush (-6), 2) := dk_16 250 (dk_at dksX3_read_0 4 rfl rfl)
theorem dX3_read_6 : decode cX3_read 6 = .ok (.if_icmp .eq 6, 3) := dk_159 0 6 (dk_at dksX3_read_0 6 rfl rfl)
theorem dX3_read_9 : decode cX3_read 9 = .ok (.bipush (-3), 2) := dk_16 253 (dk_at dksX3_read_0 9 rfl rfl)
theorem dX3_read_11 : decode cX3_read 11 = .ok (.ireturn, 1) := dk_172 (dk_at dksX3_read_0 11 rfl rfl)
theorem dX3_read_12 : decode cX3_read 12 = .ok (.aload_n 0, 1) := dk_42 (dk_at dksX3_read_0 12 rfl rfl)
theorem dX3_read_13 : decode cX3_read 13 = .ok (.getfield 7, 3) := dk_180 0 7 (dk_at dksX3_read_0 13 rfl rfl)
theorem dX3_read_16 : decode cX3_read 16 = .ok (.iconst 0, 1) := dk_3 (dk_at dksX3_read_0 16 rfl rfl)
theorem dX3_read_17 : decode cX3_read 17 = .ok (.iaload, 1) := dk_46 (dk_at dksX3_read_0 17 rfl rfl)
theorem dX3_read_18 : decode cX3_read 18 = .ok (.aload_n 0, 1) := dk_42 (dk_at dksX3_read_0 18 rfl rfl)
theorem dX3_read_19 : decode cX3_read 19 = .ok (.getfield 129, 3) := dk_180 0 129 (dk_at dksX3_read_0 19 rfl rfl)
theorem dX3_read_22 : decode cX3_read 22 = .ok (.iadd, 1) := dk_96 (dk_at dksX3_read_0 22 rfl rfl)
theorem dX3_read_23 : decode cX3_read 23 = .ok (.bipush 24, 2) := dk_16 24 (dk_at dksX3_read_1 0 rfl rfl)
theorem dX3_read_25 : decode cX3_read 25 = .ok (.if_icmp .le 6, 3) := dk_164 0 6 (dk_at dksX3_read_1 2 rfl rfl)
theorem dX3_read_28 : decode cX3_read 28 = .ok (.bipush (-4), 2) := dk_16 252 (dk_at dksX3_read_1 5 rfl rfl)
theorem dX3_read_30 : decode cX3_read 30 = .ok (.ireturn, 1) := dk_172 (dk_at dksX3_read_1 7 rfl rfl)
theorem dX3_read_31 : decode cX3_read 31 = .ok (.aload_n 0, 1) := dk_42 (dk_at dksX3_read_1 8 rfl rfl)
theorem dX3_read_32 : decode cX3_read 32 = .ok (.invokevirtual 65, 3) := dk_182 0 65 (dk_at dksX3_read_1 9 rfl rfl)
theorem dX3_read_35 : decode cX3_read 35 = .ok (.iconst 0, 1) := dk_3 (dk_at dksX3_read_1 12 rfl rfl)
theorem dX3_read_36 : decode cX3_read 36 = .ok (.istore_n 1, 1) := dk_60 (dk_at dksX3_read_1 13 rfl rfl)
theorem dX3_read_37 : decode cX3_read 37 = .ok (.iload_n 1, 1) := dk_27 (dk_at dksX3_read_1 14 rfl rfl)
theorem dX3_read_38 : decode cX3_read 38 = .ok (.aload_n 0, 1) := dk_42 (dk_at dksX3_read_1 15 rfl rfl)
theorem dX3_read_39 : decode cX3_read 39 = .ok (.getfield 118, 3) := dk_180 0 118 (dk_at dksX3_read_1 16 rfl rfl)
theorem dX3_read_42 : decode cX3_read 42 = .ok (.if_icmp .ge 120, 3) := dk_162 0 120 (dk_at dksX3_read_1 19 rfl rfl)
theorem dX3_read_45 : decode cX3_read 45 = .ok (.aload_n 0, 1) := dk_42 (dk_at dksX3_read_1 22 rfl rfl)
theorem dX3_read_46 : decode cX3_read 46 = .ok (.iload_n 1, 1) := dk_27 (dk_at dksX3_read_1 23 rfl rfl)
theorem dX3_read_47 : decode cX3_read 47 = .ok (.iconst 2, 1) := dk_5 (dk_at dksX3_read_2 0 rfl rfl)
theorem dX3_read_48 : decode cX3_read 48 = .ok (.iadd, 1) := dk_96 (dk_at dksX3_read_2 1 rfl rfl)
theorem dX3_read_49 : decode cX3_read 49 = .ok (.invokevirtual 123, 3) := dk_182 0 123 (dk_at dksX3_read_2 2 rfl rfl)
theorem dX3_read_52 : decode cX3_read 52 = .ok (.bipush 42, 2) := dk_16 42 (dk_at dksX3_read_2 5 rfl rfl)
theorem dX3_read_54 : decode cX3_read 54 = .ok (.if_icmp .ne 7, 3) := dk_160 0 7 (dk_at dksX3_read_2 7 rfl rfl)
theorem dX3_read_57 : decode cX3_read 57 = .ok (.iconst 5, 1) := dk_8 (dk_at dksX3_read_2 10 rfl rfl)
theorem dX3_read_58 : decode cX3_read 58 = .ok (.goto 13, 3) := dk_167 0 13 (dk_at dksX3_read_2 11 rfl rfl)
theorem dX3_read_61 : decode cX3_read 61 = .ok (.aload_n 0, 1) := dk_42 (dk_at dksX3_read_2 14 rfl rfl)
theorem dX3_read_62 : decode cX3_read 62 = .ok (.iload_n 1, 1) := dk_27 (dk_at dksX3_read_2 15 rfl rfl)
theorem dX3_read_63 : decode cX3_read 63 = .ok (.iconst 2, 1) := dk_5 (dk_at dksX3_read_2 16 rfl rfl)
theorem dX3_read_64 : decode cX3_read 64 = .ok (.iadd, 1) := dk_96 (dk_at dksX3_read_2 17 rfl rfl)
theorem dX3_read_65 : decode cX3_read 65 = .ok (.invokevirtual 123, 3) := dk_182 0 123 (dk_at dksX3_read_2 18 rfl rfl)
theorem dX3_read_68 : decode cX3_read 68 = .ok (.bipush 48, 2) := dk_16 48 (dk_at dksX3_read_2 21 rfl rfl)
theorem dX3_read_70 : decode cX3_read 70 = .ok (.isub, 1) := dk_100 (dk_at dksX3_read_2 23 rfl rfl)
theorem dX3_read_71 : decode cX3_read 71 = .ok (.istore_n 2, 1) := dk_61 (dk_at dksX3_read_3 0 rfl rfl)
theorem dX3_read_72 : decode cX3_read 72 = .ok (.aload_n 0, 1) := dk_42 (dk_at dksX3_read_3 1 rfl rfl)
theorem dX3_read_73 : decode cX3_read 73 = .ok (.iload_n 1, 1) := dk_27 (dk_at dksX3_read_3 2 rfl rfl)
theorem dX3_read_74 : decode cX3_read 74 = .ok (.iconst 3, 1) := dk_6 (dk_at dksX3_read_3 3 rfl rfl)
theorem dX3_read_75 : decode cX3_read 75 = .ok (.iadd, 1) := dk_96 (dk_at dksX3_read_3 4 rfl rfl)
theorem dX3_read_76 : decode cX3_read 76 = .ok (.invokevirtual 123, 3) := dk_182 0 123 (dk_at dksX3_read_3 5 rfl rfl)
theorem dX3_read_79 : decode cX3_read 79 = .ok (.bipush 42, 2) := dk_16 42 (dk_at dksX3_read_3 8 rfl rfl)
theorem dX3_read_81 : decode cX3_read 81 = .ok (.if_icmp .ne 8, 3) := dk_160 0 8 (dk_at dksX3_read_3 10 rfl rfl)
theorem dX3_read_84 : decode cX3_read 84 = .ok (.bipush 6, 2) := dk_16 6 (dk_at dksX3_read_3 13 rfl rfl)
theorem dX3_read_86 : decode cX3_read 86 = .ok (.goto 13, 3) := dk_167 0 13 (dk_at dksX3_read_3 15 rfl rfl)
theorem dX3_read_89 : decode cX3_read 89 = .ok (.aload_n 0, 1) := dk_42 (dk_at dksX3_read_3 18 rfl rfl)
theorem dX3_read_90 : decode cX3_read 90 = .ok (.iload_n 1, 1) := dk_27 (dk_at dksX3_read_3 19 rfl rfl)
theorem dX3_read_91 : decode cX3_read 91 = .ok (.iconst 3, 1) := dk_6 (dk_at dksX3_read_3 20 rfl rfl)
theorem dX3_read_92 : decode cX3_read 92 = .ok (.iadd, 1) := dk_96 (dk_at dksX3_read_3 21 rfl rfl)
theorem dX3_read_93 : decode cX3_read 93 = .ok (.invokevirtual 123, 3) := dk_182 0 123 (dk_at dksX3_read_4 0 rfl rfl)
theorem dX3_read_96 : decode cX3_read 96 = .ok (.bipush 48, 2) := dk_16 48 (dk_at dksX3_read_4 3 rfl rfl)
theorem dX3_read_98 : decode cX3_read 98 = .ok (.isub, 1) := dk_100 (dk_at dksX3_read_4 5 rfl rfl)
theorem dX3_read_99 : decode cX3_read 99 = .ok (.istore_n 3, 1) := dk_62 (dk_at dksX3_read_4 6 rfl rfl)
theorem dX3_read_100 : decode cX3_read 100 = .ok (.aload_n 0, 1) := dk_42 (dk_at dksX3_read_4 7 rfl rfl)
theorem dX3_read_101 : decode cX3_read 101 = .ok (.iload_n 1, 1) := dk_27 (dk_at dksX3_read_4 8 rfl rfl)
theorem dX3_read_102 : decode cX3_read 102 = .ok (.iconst 1, 1) := dk_4 (dk_at dksX3_read_4 9 rfl rfl)
theorem dX3_read_103 : decode cX3_read 103 = .ok (.iadd, 1) := dk_96 (dk_at dksX3_read_4 10 rfl rfl)
theorem dX3_read_104 : decode cX3_read 104 = .ok (.invokevirtual 123, 3) := dk_182 0 123 (dk_at dksX3_read_4 11 rfl rfl)
theorem dX3_read_107 : decode cX3_read 107 = .ok (.invokestatic 126, 3) := dk_184 0 126 (dk_at dksX3_read_4 14 rfl rfl)
theorem dX3_read_110 : decode cX3_read 110 = .ok (.istore 4, 2) := dk_54 4 (dk_at dksX3_read_4 17 rfl rfl)
theorem dX3_read_112 : decode cX3_read 112 = .ok (.aload_n 0, 1) := dk_42 (dk_at dksX3_read_4 19 rfl rfl)
theorem dX3_read_113 : decode cX3_read 113 = .ok (.aload_n 0, 1) := dk_42 (dk_at dksX3_read_4 20 rfl rfl)
theorem dX3_read_114 : decode cX3_read 114 = .ok (.iload_n 1, 1) := dk_27 (dk_at dksX3_read_4 21 rfl rfl)
theorem dX3_read_115 : decode cX3_read 115 = .ok (.invokevirtual 123, 3) := dk_182 0 123 (dk_at dksX3_read_5 0 rfl rfl)
theorem dX3_read_118 : decode cX3_read 118 = .ok (.bipush 48, 2) := dk_16 48 (dk_at dksX3_read_5 3 rfl rfl)
theorem dX3_read_120 : decode cX3_read 120 = .ok (.isub, 1) := dk_100 (dk_at dksX3_read_5 5 rfl rfl)
theorem dX3_read_121 : decode cX3_read 121 = .ok (.iload 4, 2) := dk_21 4 (dk_at dksX3_read_5 6 rfl rfl)
theorem dX3_read_123 : decode cX3_read 123 = .ok (.iload_n 2, 1) := dk_28 (dk_at dksX3_read_5 8 rfl rfl)
theorem dX3_read_124 : decode cX3_read 124 = .ok (.iload_n 3, 1) := dk_29 (dk_at dksX3_read_5 9 rfl rfl)
theorem dX3_read_125 : decode cX3_read 125 = .ok (.iload 4, 2) := dk_21 4 (dk_at dksX3_read_5 10 rfl rfl)
theorem dX3_read_127 : decode cX3_read 127 = .ok (.ifCond .ne 7, 3) := dk_154 0 7 (dk_at dksX3_read_5 12 rfl rfl)
theorem dX3_read_130 : decode cX3_read 130 = .ok (.iconst 1, 1) := dk_4 (dk_at dksX3_read_5 15 rfl rfl)
theorem dX3_read_131 : decode cX3_read 131 = .ok (.goto 13, 3) := dk_167 0 13 (dk_at dksX3_read_5 16 rfl rfl)
theorem dX3_read_134 : decode cX3_read 134 = .ok (.aload_n 0, 1) := dk_42 (dk_at dksX3_read_5 19 rfl rfl)
theorem dX3_read_135 : decode cX3_read 135 = .ok (.iload_n 1, 1) := dk_27 (dk_at dksX3_read_5 20 rfl rfl)
theorem dX3_read_136 : decode cX3_read 136 = .ok (.iconst 4, 1) := dk_7 (dk_at dksX3_read_5 21 rfl rfl)
theorem dX3_read_137 : decode cX3_read 137 = .ok (.iadd, 1) := dk_96 (dk_at dksX3_read_5 22 rfl rfl)
theorem dX3_read_138 : decode cX3_read 138 = .ok (.invokevirtual 123, 3) := dk_182 0 123 (dk_at dksX3_read_6 0 rfl rfl)
theorem dX3_read_141 : decode cX3_read 141 = .ok (.bipush 48, 2) := dk_16 48 (dk_at dksX3_read_6 3 rfl rfl)
theorem dX3_read_143 : decode cX3_read 143 = .ok (.isub, 1) := dk_100 (dk_at dksX3_read_6 5 rfl rfl)
theorem dX3_read_144 : decode cX3_read 144 = .ok (.invokevirtual 68, 3) := dk_182 0 68 (dk_at dksX3_read_6 6 rfl rfl)
theorem dX3_read_147 : decode cX3_read 147 = .ok (.istore 5, 2) := dk_54 5 (dk_at dksX3_read_6 9 rfl rfl)
theorem dX3_read_149 : decode cX3_read 149 = .ok (.iload_n 1, 1) := dk_27 (dk_at dksX3_read_6 11 rfl rfl)
theorem dX3_read_150 : decode cX3_read 150 = .ok (.aload_n 0, 1) := dk_42 (dk_at dksX3_read_6 12 rfl rfl)
theorem dX3_read_151 : decode cX3_read 151 = .ok (.iload_n 1, 1) := dk_27 (dk_at dksX3_read_6 13 rfl rfl)
theorem dX3_read_152 : decode cX3_read 152 = .ok (.invokevirtual 135, 3) := dk_182 0 135 (dk_at dksX3_read_6 14 rfl rfl)
theorem dX3_read_155 : decode cX3_read 155 = .ok (.iconst 1, 1) := dk_4 (dk_at dksX3_read_6 17 rfl rfl)
theorem dX3_read_156 : decode cX3_read 156 = .ok (.iadd, 1) := dk_96 (dk_at dksX3_read_6 18 rfl rfl)
theorem dX3_read_157 : decode cX3_read 157 = .ok (.iadd, 1) := dk_96 (dk_at dksX3_read_6 19 rfl rfl)
theorem dX3_read_158 : decode cX3_read 158 = .ok (.istore_n 1, 1) := dk_60 (dk_at dksX3_read_6 20 rfl rfl)
theorem dX3_read_159 : decode cX3_read 159 = .ok (.goto (-122), 3) := dk_167 255 134 (dk_at dksX3_read_6 21 rfl rfl)
theorem dX3_read_162 : decode cX3_read 162 = .ok (.aload_n 0, 1) := dk_42 (dk_at dksX3_read_7 0 rfl rfl)
theorem dX3_read_163 : decode cX3_read 163 = .ok (.iconst 0, 1) := dk_3 (dk_at dksX3_read_7 1 rfl rfl)
theorem dX3_read_164 : decode cX3_read 164 = .ok (.putfield 118, 3) := dk_181 0 118 (dk_at dksX3_read_7 2 rfl rfl)
theorem dX3_read_167 : decode cX3_read 167 = .ok (.aload_n 0, 1) := dk_42 (dk_at dksX3_read_7 5 rfl rfl)
theorem dX3_read_168 : decode cX3_read 168 = .ok (.getfield 7, 3) := dk_180 0 7 (dk_at dksX3_read_7 6 rfl rfl)
theorem dX3_read_171 : decode cX3_read 171 = .ok (.iconst 0, 1) := dk_3 (dk_at dksX3_read_7 9 rfl rfl)
theorem dX3_read_172 : decode cX3_read 172 = .ok (.iaload, 1) := dk_46 (dk_at dksX3_read_7 10 rfl rfl)
theorem dX3_read_173 : decode cX3_read 173 = .ok (.ireturn, 1) := dk_172 (dk_at dksX3_read_7 11 rfl rfl)
abbrev cX3_undo : ByteArray := prog_9_method_55_code
def yX3_undo : MethodName := ⟨RX3, "undo", "()I"⟩
def dkwX3_undo_2 : List UInt8 := [96, 46, 79, 132, 1, 1, 167, 255, 225, 42, 180, 0, 37, 172]
abbrev dktX3_undo_2 : List UInt8 := dkwX3_undo_2 ++ []
def dkwX3_undo_1 : List UInt8 := [17, 0, 169, 162, 0, 30, 42, 180, 0, 7, 27, 42, 180, 0, 13, 17, 0, 169, 42, 180, 0, 37, 104, 27]
abbrev dktX3_undo_1 : List UInt8 := dkwX3_undo_1 ++ dktX3_undo_2
def dkwX3_undo_0 : List UInt8 := [42, 180, 0, 37, 154, 0, 6, 16, 251, 172, 42, 89, 180, 0, 37, 4, 100, 181, 0, 37, 3, 60, 27]
abbrev dktX3_undo_0 : List UInt8 := dkwX3_undo_0 ++ dktX3_undo_1
theorem dksX3_undo_0 : cX3_undo.data.toList.drop 0 = dktX3_undo_0 := by decide +kernel
theorem dksX3_undo_1 : cX3_undo.data.toList.drop 23 = dktX3_undo_1 := dk_seg dksX3_undo_0 23 rfl rfl
theorem dksX3_undo_2 : cX3_undo.data.toList.drop 47 = dktX3_undo_2 := dk_seg dksX3_undo_1 24 rfl rfl
theorem dX3_undo_0 : decode cX3_undo 0 = .ok (.aload_n 0, 1) := dk_42 (dk_at dksX3_undo_0 0 rfl rfl)
theorem dX3_undo_1 : decode cX3_undo 1 = .ok (.getfield 37, 3) := dk_180 0 37 (dk_at dksX3_undo_0 1 rfl rfl)
theorem dX3_undo_4 : decode cX3_undo 4 = .ok (.ifCond .ne 6, 3) := dk_154 0 6 (dk_at dksX3_undo_0 4 rfl rfl)
theorem dX3_undo_7 : decode cX3_undo 7 = .ok (.bipush (-5), 2) := dk_16 251 (dk_at dksX3_undo_0 7 rfl rfl)
theorem dX3_undo_9 : decode cX3_undo 9 = .ok (.ireturn, 1) := dk_172 (dk_at dksX3_undo_0 9 rfl rfl)
theorem dX3_undo_10 : decode cX3_undo 10 = .ok (.aload_n 0, 1) := dk_42 (dk_at dksX3_undo_0 10 rfl rfl)
theorem dX3_undo_11 : decode cX3_undo 11 = .ok (.dup, 1) := dk_89 (dk_at dksX3_undo_0 11 rfl rfl)
theorem dX3_undo_12 : decode cX3_undo 12 = .ok (.getfield 37, 3) := dk_180 0 37 (dk_at dksX3_undo_0 12 rfl rfl)
theorem dX3_undo_15 : decode cX3_undo 15 = .ok (.iconst 1, 1) := dk_4 (dk_at dksX3_undo_0 15 rfl rfl)
theorem dX3_undo_16 : decode cX3_undo 16 = .ok (.isub, 1) := dk_100 (dk_at dksX3_undo_0 16 rfl rfl)
theorem dX3_undo_17 : decode cX3_undo 17 = .ok (.putfield 37, 3) := dk_181 0 37 (dk_at dksX3_undo_0 17 rfl rfl)
theorem dX3_undo_20 : decode cX3_undo 20 = .ok (.iconst 0, 1) := dk_3 (dk_at dksX3_undo_0 20 rfl rfl)
theorem dX3_undo_21 : decode cX3_undo 21 = .ok (.istore_n 1, 1) := dk_60 (dk_at dksX3_undo_0 21 rfl rfl)
theorem dX3_undo_22 : decode cX3_undo 22 = .ok (.iload_n 1, 1) := dk_27 (dk_at dksX3_undo_0 22 rfl rfl)
theorem dX3_undo_23 : decode cX3_undo 23 = .ok (.sipush 169, 3) := dk_17 0 169 (dk_at dksX3_undo_1 0 rfl rfl)
theorem dX3_undo_26 : decode cX3_undo 26 = .ok (.if_icmp .ge 30, 3) := dk_162 0 30 (dk_at dksX3_undo_1 3 rfl rfl)
theorem dX3_undo_29 : decode cX3_undo 29 = .ok (.aload_n 0, 1) := dk_42 (dk_at dksX3_undo_1 6 rfl rfl)
theorem dX3_undo_30 : decode cX3_undo 30 = .ok (.getfield 7, 3) := dk_180 0 7 (dk_at dksX3_undo_1 7 rfl rfl)
theorem dX3_undo_33 : decode cX3_undo 33 = .ok (.iload_n 1, 1) := dk_27 (dk_at dksX3_undo_1 10 rfl rfl)
theorem dX3_undo_34 : decode cX3_undo 34 = .ok (.aload_n 0, 1) := dk_42 (dk_at dksX3_undo_1 11 rfl rfl)
theorem dX3_undo_35 : decode cX3_undo 35 = .ok (.getfield 13, 3) := dk_180 0 13 (dk_at dksX3_undo_1 12 rfl rfl)
theorem dX3_undo_38 : decode cX3_undo 38 = .ok (.sipush 169, 3) := dk_17 0 169 (dk_at dksX3_undo_1 15 rfl rfl)
theorem dX3_undo_41 : decode cX3_undo 41 = .ok (.aload_n 0, 1) := dk_42 (dk_at dksX3_undo_1 18 rfl rfl)
theorem dX3_undo_42 : decode cX3_undo 42 = .ok (.getfield 37, 3) := dk_180 0 37 (dk_at dksX3_undo_1 19 rfl rfl)
theorem dX3_undo_45 : decode cX3_undo 45 = .ok (.imul, 1) := dk_104 (dk_at dksX3_undo_1 22 rfl rfl)
theorem dX3_undo_46 : decode cX3_undo 46 = .ok (.iload_n 1, 1) := dk_27 (dk_at dksX3_undo_1 23 rfl rfl)
theorem dX3_undo_47 : decode cX3_undo 47 = .ok (.iadd, 1) := dk_96 (dk_at dksX3_undo_2 0 rfl rfl)
theorem dX3_undo_48 : decode cX3_undo 48 = .ok (.iaload, 1) := dk_46 (dk_at dksX3_undo_2 1 rfl rfl)
theorem dX3_undo_49 : decode cX3_undo 49 = .ok (.iastore, 1) := dk_79 (dk_at dksX3_undo_2 2 rfl rfl)
theorem dX3_undo_50 : decode cX3_undo 50 = .ok (.iinc 1 1, 3) := dk_132 1 1 (dk_at dksX3_undo_2 3 rfl rfl)
theorem dX3_undo_53 : decode cX3_undo 53 = .ok (.goto (-31), 3) := dk_167 255 225 (dk_at dksX3_undo_2 6 rfl rfl)
theorem dX3_undo_56 : decode cX3_undo 56 = .ok (.aload_n 0, 1) := dk_42 (dk_at dksX3_undo_2 9 rfl rfl)
theorem dX3_undo_57 : decode cX3_undo 57 = .ok (.getfield 37, 3) := dk_180 0 37 (dk_at dksX3_undo_2 10 rfl rfl)
theorem dX3_undo_60 : decode cX3_undo 60 = .ok (.ireturn, 1) := dk_172 (dk_at dksX3_undo_2 13 rfl rfl)
abbrev cX3_save : ByteArray := prog_9_method_56_code
def yX3_save : MethodName := ⟨RX3, "save", "(I)I"⟩
def dkwX3_save_2 : List UInt8 := [180, 0, 19, 27, 4, 84, 42, 180, 0, 7, 3, 46, 172]
abbrev dktX3_save_2 : List UInt8 := dkwX3_save_2 ++ []
def dkwX3_save_1 : List UInt8 := [180, 0, 16, 17, 0, 169, 27, 104, 28, 96, 42, 180, 0, 7, 28, 46, 79, 132, 2, 1, 167, 255, 228, 42]
abbrev dktX3_save_1 : List UInt8 := dkwX3_save_1 ++ dktX3_save_2
def dkwX3_save_0 : List UInt8 := [27, 3, 4, 184, 0, 29, 154, 0, 6, 16, 254, 172, 3, 61, 28, 17, 0, 169, 162, 0, 27, 42]
abbrev dktX3_save_0 : List UInt8 := dkwX3_save_0 ++ dktX3_save_1
theorem dksX3_save_0 : cX3_save.data.toList.drop 0 = dktX3_save_0 := by decide +kernel
theorem dksX3_save_1 : cX3_save.data.toList.drop 22 = dktX3_save_1 := dk_seg dksX3_save_0 22 rfl rfl
theorem dksX3_save_2 : cX3_save.data.toList.drop 46 = dktX3_save_2 := dk_seg dksX3_save_1 24 rfl rfl
theorem dX3_save_0 : decode cX3_save 0 = .ok (.iload_n 1, 1) := dk_27 (dk_at dksX3_save_0 0 rfl rfl)
theorem dX3_save_1 : decode cX3_save 1 = .ok (.iconst 0, 1) := dk_3 (dk_at dksX3_save_0 1 rfl rfl)
theorem dX3_save_2 : decode cX3_save 2 = .ok (.iconst 1, 1) := dk_4 (dk_at dksX3_save_0 2 rfl rfl)
theorem dX3_save_3 : decode cX3_save 3 = .ok (.invokestatic 29, 3) := dk_184 0 29 (dk_at dksX3_save_0 3 rfl rfl)
theorem dX3_save_6 : decode cX3_save 6 = .ok (.ifCond .ne 6, 3) := dk_154 0 6 (dk_at dksX3_save_0 6 rfl rfl)
theorem dX3_save_9 : decode cX3_save 9 = .ok (.bipush (-2), 2) := dk_16 254 (dk_at dksX3_save_0 9 rfl rfl)
theorem dX3_save_11 : decode cX3_save 11 = .ok (.ireturn, 1) := dk_172 (dk_at dksX3_save_0 11 rfl rfl)
theorem dX3_save_12 : decode cX3_save 12 = .ok (.iconst 0, 1) := dk_3 (dk_at dksX3_save_0 12 rfl rfl)
theorem dX3_save_13 : decode cX3_save 13 = .ok (.istore_n 2, 1) := dk_61 (dk_at dksX3_save_0 13 rfl rfl)
theorem dX3_save_14 : decode cX3_save 14 = .ok (.iload_n 2, 1) := dk_28 (dk_at dksX3_save_0 14 rfl rfl)
theorem dX3_save_15 : decode cX3_save 15 = .ok (.sipush 169, 3) := dk_17 0 169 (dk_at dksX3_save_0 15 rfl rfl)
theorem dX3_save_18 : decode cX3_save 18 = .ok (.if_icmp .ge 27, 3) := dk_162 0 27 (dk_at dksX3_save_0 18 rfl rfl)
theorem dX3_save_21 : decode cX3_save 21 = .ok (.aload_n 0, 1) := dk_42 (dk_at dksX3_save_0 21 rfl rfl)
theorem dX3_save_22 : decode cX3_save 22 = .ok (.getfield 16, 3) := dk_180 0 16 (dk_at dksX3_save_1 0 rfl rfl)
theorem dX3_save_25 : decode cX3_save 25 = .ok (.sipush 169, 3) := dk_17 0 169 (dk_at dksX3_save_1 3 rfl rfl)
theorem dX3_save_28 : decode cX3_save 28 = .ok (.iload_n 1, 1) := dk_27 (dk_at dksX3_save_1 6 rfl rfl)
theorem dX3_save_29 : decode cX3_save 29 = .ok (.imul, 1) := dk_104 (dk_at dksX3_save_1 7 rfl rfl)
theorem dX3_save_30 : decode cX3_save 30 = .ok (.iload_n 2, 1) := dk_28 (dk_at dksX3_save_1 8 rfl rfl)
theorem dX3_save_31 : decode cX3_save 31 = .ok (.iadd, 1) := dk_96 (dk_at dksX3_save_1 9 rfl rfl)
theorem dX3_save_32 : decode cX3_save 32 = .ok (.aload_n 0, 1) := dk_42 (dk_at dksX3_save_1 10 rfl rfl)
theorem dX3_save_33 : decode cX3_save 33 = .ok (.getfield 7, 3) := dk_180 0 7 (dk_at dksX3_save_1 11 rfl rfl)
theorem dX3_save_36 : decode cX3_save 36 = .ok (.iload_n 2, 1) := dk_28 (dk_at dksX3_save_1 14 rfl rfl)
theorem dX3_save_37 : decode cX3_save 37 = .ok (.iaload, 1) := dk_46 (dk_at dksX3_save_1 15 rfl rfl)
theorem dX3_save_38 : decode cX3_save 38 = .ok (.iastore, 1) := dk_79 (dk_at dksX3_save_1 16 rfl rfl)
theorem dX3_save_39 : decode cX3_save 39 = .ok (.iinc 2 1, 3) := dk_132 2 1 (dk_at dksX3_save_1 17 rfl rfl)
theorem dX3_save_42 : decode cX3_save 42 = .ok (.goto (-28), 3) := dk_167 255 228 (dk_at dksX3_save_1 20 rfl rfl)
theorem dX3_save_45 : decode cX3_save 45 = .ok (.aload_n 0, 1) := dk_42 (dk_at dksX3_save_1 23 rfl rfl)
theorem dX3_save_46 : decode cX3_save 46 = .ok (.getfield 19, 3) := dk_180 0 19 (dk_at dksX3_save_2 0 rfl rfl)
theorem dX3_save_49 : decode cX3_save 49 = .ok (.iload_n 1, 1) := dk_27 (dk_at dksX3_save_2 3 rfl rfl)
theorem dX3_save_50 : decode cX3_save 50 = .ok (.iconst 1, 1) := dk_4 (dk_at dksX3_save_2 4 rfl rfl)
theorem dX3_save_51 : decode cX3_save 51 = .ok (.bastore, 1) := dk_84 (dk_at dksX3_save_2 5 rfl rfl)
theorem dX3_save_52 : decode cX3_save 52 = .ok (.aload_n 0, 1) := dk_42 (dk_at dksX3_save_2 6 rfl rfl)
theorem dX3_save_53 : decode cX3_save 53 = .ok (.getfield 7, 3) := dk_180 0 7 (dk_at dksX3_save_2 7 rfl rfl)
theorem dX3_save_56 : decode cX3_save 56 = .ok (.iconst 0, 1) := dk_3 (dk_at dksX3_save_2 10 rfl rfl)
theorem dX3_save_57 : decode cX3_save 57 = .ok (.iaload, 1) := dk_46 (dk_at dksX3_save_2 11 rfl rfl)
theorem dX3_save_58 : decode cX3_save 58 = .ok (.ireturn, 1) := dk_172 (dk_at dksX3_save_2 12 rfl rfl)
abbrev cX3_restore : ByteArray := prog_9_method_57_code
def yX3_restore : MethodName := ⟨RX3, "restore", "(I)I"⟩
def dkwX3_restore_2 : List UInt8 := [17, 0, 169, 27, 104, 28, 96, 46, 79, 132, 2, 1, 167, 255, 228, 42, 180, 0, 7, 3, 46, 172]
abbrev dktX3_restore_2 : List UInt8 := dkwX3_restore_2 ++ []
def dkwX3_restore_1 : List UInt8 := [42, 182, 0, 65, 3, 61, 28, 17, 0, 169, 162, 0, 27, 42, 180, 0, 7, 28, 42, 180, 0, 16]
abbrev dktX3_restore_1 : List UInt8 := dkwX3_restore_1 ++ dktX3_restore_2
def dkwX3_restore_0 : List UInt8 := [27, 3, 4, 184, 0, 29, 154, 0, 6, 16, 254, 172, 42, 180, 0, 19, 27, 51, 154, 0, 6, 16, 251, 172]
abbrev dktX3_restore_0 : List UInt8 := dkwX3_restore_0 ++ dktX3_restore_1
theorem dksX3_restore_0 : cX3_restore.data.toList.drop 0 = dktX3_restore_0 := by decide +kernel
theorem dksX3_restore_1 : cX3_restore.data.toList.drop 24 = dktX3_restore_1 := dk_seg dksX3_restore_0 24 rfl rfl
theorem dksX3_restore_2 : cX3_restore.data.toList.drop 46 = dktX3_restore_2 := dk_seg dksX3_restore_1 22 rfl rfl
theorem dX3_restore_0 : decode cX3_restore 0 = .ok (.iload_n 1, 1) := dk_27 (dk_at dksX3_restore_0 0 rfl rfl)
theorem dX3_restore_1 : decode cX3_restore 1 = .ok (.iconst 0, 1) := dk_3 (dk_at dksX3_restore_0 1 rfl rfl)
theorem dX3_restore_2 : decode cX3_restore 2 = .ok (.iconst 1, 1) := dk_4 (dk_at dksX3_restore_0 2 rfl rfl)
theorem dX3_restore_3 : decode cX3_restore 3 = .ok (.invokestatic 29, 3) := dk_184 0 29 (dk_at dksX3_restore_0 3 rfl rfl)
theorem dX3_restore_6 : decode cX3_restore 6 = .ok (.ifCond .ne 6, 3) := dk_154 0 6 (dk_at dksX3_restore_0 6 rfl rfl)
theorem dX3_restore_9 : decode cX3_restore 9 = .ok (.bipush (-2), 2) := dk_16 254 (dk_at dksX3_restore_0 9 rfl rfl)
theorem dX3_restore_11 : decode cX3_restore 11 = .ok (.ireturn, 1) := dk_172 (dk_at dksX3_restore_0 11 rfl rfl)
theorem dX3_restore_12 : decode cX3_restore 12 = .ok (.aload_n 0, 1) := dk_42 (dk_at dksX3_restore_0 12 rfl rfl)
theorem dX3_restore_13 : decode cX3_restore 13 = .ok (.getfield 19, 3) := dk_180 0 19 (dk_at dksX3_restore_0 13 rfl rfl)
theorem dX3_restore_16 : decode cX3_restore 16 = .ok (.iload_n 1, 1) := dk_27 (dk_at dksX3_restore_0 16 rfl rfl)
theorem dX3_restore_17 : decode cX3_restore 17 = .ok (.baload, 1) := dk_51 (dk_at dksX3_restore_0 17 rfl rfl)
theorem dX3_restore_18 : decode cX3_restore 18 = .ok (.ifCond .ne 6, 3) := dk_154 0 6 (dk_at dksX3_restore_0 18 rfl rfl)
theorem dX3_restore_21 : decode cX3_restore 21 = .ok (.bipush (-5), 2) := dk_16 251 (dk_at dksX3_restore_0 21 rfl rfl)
theorem dX3_restore_23 : decode cX3_restore 23 = .ok (.ireturn, 1) := dk_172 (dk_at dksX3_restore_0 23 rfl rfl)
theorem dX3_restore_24 : decode cX3_restore 24 = .ok (.aload_n 0, 1) := dk_42 (dk_at dksX3_restore_1 0 rfl rfl)
theorem dX3_restore_25 : decode cX3_restore 25 = .ok (.invokevirtual 65, 3) := dk_182 0 65 (dk_at dksX3_restore_1 1 rfl rfl)
theorem dX3_restore_28 : decode cX3_restore 28 = .ok (.iconst 0, 1) := dk_3 (dk_at dksX3_restore_1 4 rfl rfl)
theorem dX3_restore_29 : decode cX3_restore 29 = .ok (.istore_n 2, 1) := dk_61 (dk_at dksX3_restore_1 5 rfl rfl)
theorem dX3_restore_30 : decode cX3_restore 30 = .ok (.iload_n 2, 1) := dk_28 (dk_at dksX3_restore_1 6 rfl rfl)
theorem dX3_restore_31 : decode cX3_restore 31 = .ok (.sipush 169, 3) := dk_17 0 169 (dk_at dksX3_restore_1 7 rfl rfl)
theorem dX3_restore_34 : decode cX3_restore 34 = .ok (.if_icmp .ge 27, 3) := dk_162 0 27 (dk_at dksX3_restore_1 10 rfl rfl)
theorem dX3_restore_37 : decode cX3_restore 37 = .ok (.aload_n 0, 1) := dk_42 (dk_at dksX3_restore_1 13 rfl rfl)
theorem dX3_restore_38 : decode cX3_restore 38 = .ok (.getfield 7, 3) := dk_180 0 7 (dk_at dksX3_restore_1 14 rfl rfl)
theorem dX3_restore_41 : decode cX3_restore 41 = .ok (.iload_n 2, 1) := dk_28 (dk_at dksX3_restore_1 17 rfl rfl)
theorem dX3_restore_42 : decode cX3_restore 42 = .ok (.aload_n 0, 1) := dk_42 (dk_at dksX3_restore_1 18 rfl rfl)
theorem dX3_restore_43 : decode cX3_restore 43 = .ok (.getfield 16, 3) := dk_180 0 16 (dk_at dksX3_restore_1 19 rfl rfl)
theorem dX3_restore_46 : decode cX3_restore 46 = .ok (.sipush 169, 3) := dk_17 0 169 (dk_at dksX3_restore_2 0 rfl rfl)
theorem dX3_restore_49 : decode cX3_restore 49 = .ok (.iload_n 1, 1) := dk_27 (dk_at dksX3_restore_2 3 rfl rfl)
theorem dX3_restore_50 : decode cX3_restore 50 = .ok (.imul, 1) := dk_104 (dk_at dksX3_restore_2 4 rfl rfl)
theorem dX3_restore_51 : decode cX3_restore 51 = .ok (.iload_n 2, 1) := dk_28 (dk_at dksX3_restore_2 5 rfl rfl)
theorem dX3_restore_52 : decode cX3_restore 52 = .ok (.iadd, 1) := dk_96 (dk_at dksX3_restore_2 6 rfl rfl)
theorem dX3_restore_53 : decode cX3_restore 53 = .ok (.iaload, 1) := dk_46 (dk_at dksX3_restore_2 7 rfl rfl)
theorem dX3_restore_54 : decode cX3_restore 54 = .ok (.iastore, 1) := dk_79 (dk_at dksX3_restore_2 8 rfl rfl)
theorem dX3_restore_55 : decode cX3_restore 55 = .ok (.iinc 2 1, 3) := dk_132 2 1 (dk_at dksX3_restore_2 9 rfl rfl)
theorem dX3_restore_58 : decode cX3_restore 58 = .ok (.goto (-28), 3) := dk_167 255 228 (dk_at dksX3_restore_2 12 rfl rfl)
theorem dX3_restore_61 : decode cX3_restore 61 = .ok (.aload_n 0, 1) := dk_42 (dk_at dksX3_restore_2 15 rfl rfl)
theorem dX3_restore_62 : decode cX3_restore 62 = .ok (.getfield 7, 3) := dk_180 0 7 (dk_at dksX3_restore_2 16 rfl rfl)
theorem dX3_restore_65 : decode cX3_restore 65 = .ok (.iconst 0, 1) := dk_3 (dk_at dksX3_restore_2 19 rfl rfl)
theorem dX3_restore_66 : decode cX3_restore 66 = .ok (.iaload, 1) := dk_46 (dk_at dksX3_restore_2 20 rfl rfl)
theorem dX3_restore_67 : decode cX3_restore 67 = .ok (.ireturn, 1) := dk_172 (dk_at dksX3_restore_2 21 rfl rfl)
theorem q52 : (Jvm.Cond.initialized "LayeredChartersModel") ∈ lw_all := lw_g (lw_at lw_m1 11 rfl) rfl
theorem q266 : (Jvm.Cond.selects "LayeredChartersModel" ({ cls := "java/lang/Object", name := "getClass", desc := "()Ljava/lang/Class;" } : Jvm.MethodName) ({ cls := "java/lang/Object", name := "getClass", desc := "()Ljava/lang/Class;" } : Jvm.MethodName)) ∈ lw_all := lw_g (lw_at lw_m1 225 rfl) rfl
theorem q1011 : (Jvm.Cond.instantiable "LayeredChartersModel" (9 : Nat)) ∈ lw_all := lw_g (lw_at lw_m5 10 rfl) rfl
theorem q1013 : (Jvm.Cond.instanceMethod ({ cls := "LayeredChartersModel", name := "<init>", desc := "()V" } : Jvm.MethodName)) ∈ lw_all := lw_g (lw_at lw_m5 12 rfl) rfl
theorem q1014 : (Jvm.Cond.code ({ cls := "LayeredChartersModel", name := "<init>", desc := "()V" } : Jvm.MethodName) prog_9_method_1_code (1 : Nat) (Option.none : Option Jvm.ClassFile.FieldType)) ∈ lw_all := lw_g (lw_at lw_m5 13 rfl) rfl
theorem q1015 : (Jvm.Cond.methodLink "LayeredChartersModel" (1 : Nat) ({ cls := "java/lang/Object", name := "<init>", desc := "()V" } : Jvm.MethodName)) ∈ lw_all := lw_g (lw_at lw_m5 14 rfl) rfl
theorem q1016 : (Jvm.Cond.fieldLink "LayeredChartersModel" (7 : Nat) "LayeredChartersModel" "s" "[I") ∈ lw_all := lw_g (lw_at lw_m5 15 rfl) rfl
theorem q1017 : (Jvm.Cond.fieldLink "LayeredChartersModel" (13 : Nat) "LayeredChartersModel" "history" "[I") ∈ lw_all := lw_g (lw_at lw_m5 16 rfl) rfl
theorem q1018 : (Jvm.Cond.fieldLink "LayeredChartersModel" (37 : Nat) "LayeredChartersModel" "kept" "I") ∈ lw_all := lw_g (lw_at lw_m5 17 rfl) rfl
theorem q1019 : (Jvm.Cond.fieldLink "LayeredChartersModel" (16 : Nat) "LayeredChartersModel" "slots" "[I") ∈ lw_all := lw_g (lw_at lw_m5 18 rfl) rfl
theorem q1020 : (Jvm.Cond.fieldLink "LayeredChartersModel" (19 : Nat) "LayeredChartersModel" "isSaved" "[Z") ∈ lw_all := lw_g (lw_at lw_m5 19 rfl) rfl
theorem q1021 : (Jvm.Cond.fieldLink "LayeredChartersModel" (23 : Nat) "LayeredChartersModel" "pad" "[I") ∈ lw_all := lw_g (lw_at lw_m5 20 rfl) rfl
theorem q1022 : (Jvm.Cond.fieldLink "LayeredChartersModel" (118 : Nat) "LayeredChartersModel" "length" "I") ∈ lw_all := lw_g (lw_at lw_m5 21 rfl) rfl
theorem q1023 : (Jvm.Cond.fieldLink "LayeredChartersModel" (26 : Nat) "LayeredChartersModel" "strong" "[I") ∈ lw_all := lw_g (lw_at lw_m5 22 rfl) rfl
theorem q1024 : (Jvm.Cond.fieldLink "LayeredChartersModel" (129 : Nat) "LayeredChartersModel" "told" "I") ∈ lw_all := lw_g (lw_at lw_m5 23 rfl) rfl
theorem q1025 : (Jvm.Cond.laysFinal "LayeredChartersModel" "LayeredChartersModel" "s" "[I") ∈ lw_all := lw_g (lw_at lw_m5 24 rfl) rfl
theorem q1026 : (Jvm.Cond.soleField "LayeredChartersModel" "s") ∈ lw_all := lw_g (lw_at lw_m5 25 rfl) rfl
theorem q1027 : (Jvm.Cond.laysFinal "LayeredChartersModel" "LayeredChartersModel" "history" "[I") ∈ lw_all := lw_g (lw_at lw_m5 26 rfl) rfl
theorem q1028 : (Jvm.Cond.soleField "LayeredChartersModel" "history") ∈ lw_all := lw_g (lw_at lw_m5 27 rfl) rfl
theorem q1029 : (Jvm.Cond.lays "LayeredChartersModel" "LayeredChartersModel" "kept" "I") ∈ lw_all := lw_g (lw_at lw_m5 28 rfl) rfl
theorem q1030 : (Jvm.Cond.soleField "LayeredChartersModel" "kept") ∈ lw_all := lw_g (lw_at lw_m5 29 rfl) rfl
theorem q1031 : (Jvm.Cond.laysFinal "LayeredChartersModel" "LayeredChartersModel" "slots" "[I") ∈ lw_all := lw_g (lw_at lw_m5 30 rfl) rfl
theorem q1032 : (Jvm.Cond.soleField "LayeredChartersModel" "slots") ∈ lw_all := lw_g (lw_at lw_m5 31 rfl) rfl
theorem q1033 : (Jvm.Cond.laysFinal "LayeredChartersModel" "LayeredChartersModel" "isSaved" "[Z") ∈ lw_all := lw_g (lw_at lw_m5 32 rfl) rfl
theorem q1034 : (Jvm.Cond.soleField "LayeredChartersModel" "isSaved") ∈ lw_all := lw_g (lw_at lw_m5 33 rfl) rfl
theorem q1035 : (Jvm.Cond.laysFinal "LayeredChartersModel" "LayeredChartersModel" "pad" "[I") ∈ lw_all := lw_g (lw_at lw_m5 34 rfl) rfl
theorem q1036 : (Jvm.Cond.soleField "LayeredChartersModel" "pad") ∈ lw_all := lw_g (lw_at lw_m5 35 rfl) rfl
theorem q1037 : (Jvm.Cond.lays "LayeredChartersModel" "LayeredChartersModel" "length" "I") ∈ lw_all := lw_g (lw_at lw_m5 36 rfl) rfl
theorem q1038 : (Jvm.Cond.soleField "LayeredChartersModel" "length") ∈ lw_all := lw_g (lw_at lw_m5 37 rfl) rfl
theorem q1039 : (Jvm.Cond.laysFinal "LayeredChartersModel" "LayeredChartersModel" "strong" "[I") ∈ lw_all := lw_g (lw_at lw_m5 38 rfl) rfl
theorem q1040 : (Jvm.Cond.soleField "LayeredChartersModel" "strong") ∈ lw_all := lw_g (lw_at lw_m5 39 rfl) rfl
theorem q1041 : (Jvm.Cond.lays "LayeredChartersModel" "LayeredChartersModel" "told" "I") ∈ lw_all := lw_g (lw_at lw_m5 40 rfl) rfl
theorem q1042 : (Jvm.Cond.soleField "LayeredChartersModel" "told") ∈ lw_all := lw_g (lw_at lw_m5 41 rfl) rfl
theorem q1043 : (Jvm.Cond.superclass "LayeredChartersModel" "java/lang/Object") ∈ lw_all := lw_g (lw_at lw_m5 42 rfl) rfl
theorem q1046 : (Jvm.Cond.instanceMethod ({ cls := "LayeredChartersModel", name := "add", desc := "(IIIII)I" } : Jvm.MethodName)) ∈ lw_all := lw_g (lw_at lw_m5 45 rfl) rfl
theorem q1047 : (Jvm.Cond.selects "LayeredChartersModel" ({ cls := "LayeredChartersModel", name := "add", desc := "(IIIII)I" } : Jvm.MethodName) ({ cls := "LayeredChartersModel", name := "add", desc := "(IIIII)I" } : Jvm.MethodName)) ∈ lw_all := lw_g (lw_at lw_m5 46 rfl) rfl
theorem q1048 : (Jvm.Cond.code ({ cls := "LayeredChartersModel", name := "add", desc := "(IIIII)I" } : Jvm.MethodName) prog_9_method_23_code (6 : Nat) (Option.some Jvm.ClassFile.FieldType.int)) ∈ lw_all := lw_g (lw_at lw_m5 47 rfl) rfl
theorem q1049 : (Jvm.Cond.methodLink "LayeredChartersModel" (29 : Nat) ({ cls := "LayeredChartersModel", name := "in", desc := "(III)Z" } : Jvm.MethodName)) ∈ lw_all := lw_g (lw_at lw_m5 48 rfl) rfl
theorem q1050 : (Jvm.Cond.static ({ cls := "LayeredChartersModel", name := "in", desc := "(III)Z" } : Jvm.MethodName)) ∈ lw_all := lw_g (lw_at lw_m5 49 rfl) rfl
theorem q1051 : (Jvm.Cond.code ({ cls := "LayeredChartersModel", name := "in", desc := "(III)Z" } : Jvm.MethodName) prog_9_method_3_code (3 : Nat) (Option.some Jvm.ClassFile.FieldType.boolean)) ∈ lw_all := lw_g (lw_at lw_m5 50 rfl) rfl
theorem q1052 : (Jvm.Cond.methodLink "LayeredChartersModel" (65 : Nat) ({ cls := "LayeredChartersModel", name := "record", desc := "()V" } : Jvm.MethodName)) ∈ lw_all := lw_g (lw_at lw_m5 51 rfl) rfl
theorem q1053 : (Jvm.Cond.privateMethod ({ cls := "LayeredChartersModel", name := "record", desc := "()V" } : Jvm.MethodName)) ∈ lw_tbl := lw_at lw_m5 52 rfl
theorem q1054 : (Jvm.Cond.instanceMethod ({ cls := "LayeredChartersModel", name := "record", desc := "()V" } : Jvm.MethodName)) ∈ lw_all := lw_g (lw_at lw_m5 53 rfl) rfl
theorem q1055 : (Jvm.Cond.code ({ cls := "LayeredChartersModel", name := "record", desc := "()V" } : Jvm.MethodName) prog_9_method_10_code (2 : Nat) (Option.none : Option Jvm.ClassFile.FieldType)) ∈ lw_all := lw_g (lw_at lw_m5 54 rfl) rfl
theorem q1056 : (Jvm.Cond.methodLink "LayeredChartersModel" (68 : Nat) ({ cls := "LayeredChartersModel", name := "adds", desc := "(IIIII)I" } : Jvm.MethodName)) ∈ lw_all := lw_g (lw_at lw_m5 55 rfl) rfl
theorem q1057 : (Jvm.Cond.privateMethod ({ cls := "LayeredChartersModel", name := "adds", desc := "(IIIII)I" } : Jvm.MethodName)) ∈ lw_tbl := lw_at lw_m5 56 rfl
theorem q1058 : (Jvm.Cond.instanceMethod ({ cls := "LayeredChartersModel", name := "adds", desc := "(IIIII)I" } : Jvm.MethodName)) ∈ lw_all := lw_g (lw_at lw_m5 57 rfl) rfl
theorem q1059 : (Jvm.Cond.code ({ cls := "LayeredChartersModel", name := "adds", desc := "(IIIII)I" } : Jvm.MethodName) prog_9_method_21_code (7 : Nat) (Option.some Jvm.ClassFile.FieldType.int)) ∈ lw_all := lw_g (lw_at lw_m5 58 rfl) rfl
theorem q1060 : (Jvm.Cond.methodLink "LayeredChartersModel" (33 : Nat) ({ cls := "LayeredChartersModel", name := "at", desc := "(II)I" } : Jvm.MethodName)) ∈ lw_all := lw_g (lw_at lw_m5 59 rfl) rfl
theorem q1061 : (Jvm.Cond.static ({ cls := "LayeredChartersModel", name := "at", desc := "(II)I" } : Jvm.MethodName)) ∈ lw_all := lw_g (lw_at lw_m5 60 rfl) rfl
theorem q1062 : (Jvm.Cond.code ({ cls := "LayeredChartersModel", name := "at", desc := "(II)I" } : Jvm.MethodName) prog_9_method_7_code (2 : Nat) (Option.some Jvm.ClassFile.FieldType.int)) ∈ lw_all := lw_g (lw_at lw_m5 61 rfl) rfl
theorem q1064 : (Jvm.Cond.instanceMethod ({ cls := "LayeredChartersModel", name := "strike", desc := "(I)I" } : Jvm.MethodName)) ∈ lw_all := lw_g (lw_at lw_m5 63 rfl) rfl
theorem q1065 : (Jvm.Cond.selects "LayeredChartersModel" ({ cls := "LayeredChartersModel", name := "strike", desc := "(I)I" } : Jvm.MethodName) ({ cls := "LayeredChartersModel", name := "strike", desc := "(I)I" } : Jvm.MethodName)) ∈ lw_all := lw_g (lw_at lw_m5 64 rfl) rfl
theorem q1066 : (Jvm.Cond.code ({ cls := "LayeredChartersModel", name := "strike", desc := "(I)I" } : Jvm.MethodName) prog_9_method_24_code (2 : Nat) (Option.some Jvm.ClassFile.FieldType.int)) ∈ lw_all := lw_g (lw_at lw_m5 65 rfl) rfl
theorem q1067 : (Jvm.Cond.methodLink "LayeredChartersModel" (71 : Nat) ({ cls := "LayeredChartersModel", name := "isRule", desc := "(I)Z" } : Jvm.MethodName)) ∈ lw_all := lw_g (lw_at lw_m5 66 rfl) rfl
theorem q1068 : (Jvm.Cond.privateMethod ({ cls := "LayeredChartersModel", name := "isRule", desc := "(I)Z" } : Jvm.MethodName)) ∈ lw_tbl := lw_at lw_m5 67 rfl
theorem q1069 : (Jvm.Cond.instanceMethod ({ cls := "LayeredChartersModel", name := "isRule", desc := "(I)Z" } : Jvm.MethodName)) ∈ lw_all := lw_g (lw_at lw_m5 68 rfl) rfl
theorem q1070 : (Jvm.Cond.code ({ cls := "LayeredChartersModel", name := "isRule", desc := "(I)Z" } : Jvm.MethodName) prog_9_method_4_code (2 : Nat) (Option.some Jvm.ClassFile.FieldType.boolean)) ∈ lw_all := lw_g (lw_at lw_m5 69 rfl) rfl
theorem q1071 : (Jvm.Cond.methodLink "LayeredChartersModel" (75 : Nat) ({ cls := "LayeredChartersModel", name := "strikes", desc := "(I)V" } : Jvm.MethodName)) ∈ lw_all := lw_g (lw_at lw_m5 70 rfl) rfl
theorem q1072 : (Jvm.Cond.privateMethod ({ cls := "LayeredChartersModel", name := "strikes", desc := "(I)V" } : Jvm.MethodName)) ∈ lw_tbl := lw_at lw_m5 71 rfl
theorem q1073 : (Jvm.Cond.instanceMethod ({ cls := "LayeredChartersModel", name := "strikes", desc := "(I)V" } : Jvm.MethodName)) ∈ lw_all := lw_g (lw_at lw_m5 72 rfl) rfl
theorem q1074 : (Jvm.Cond.code ({ cls := "LayeredChartersModel", name := "strikes", desc := "(I)V" } : Jvm.MethodName) prog_9_method_22_code (3 : Nat) (Option.none : Option Jvm.ClassFile.FieldType)) ∈ lw_all := lw_g (lw_at lw_m5 73 rfl) rfl
theorem q1076 : (Jvm.Cond.instanceMethod ({ cls := "LayeredChartersModel", name := "seal", desc := "(II)I" } : Jvm.MethodName)) ∈ lw_all := lw_g (lw_at lw_m5 75 rfl) rfl
theorem q1077 : (Jvm.Cond.selects "LayeredChartersModel" ({ cls := "LayeredChartersModel", name := "seal", desc := "(II)I" } : Jvm.MethodName) ({ cls := "LayeredChartersModel", name := "seal", desc := "(II)I" } : Jvm.MethodName)) ∈ lw_all := lw_g (lw_at lw_m5 76 rfl) rfl
theorem q1078 : (Jvm.Cond.code ({ cls := "LayeredChartersModel", name := "seal", desc := "(II)I" } : Jvm.MethodName) prog_9_method_26_code (3 : Nat) (Option.some Jvm.ClassFile.FieldType.int)) ∈ lw_all := lw_g (lw_at lw_m5 77 rfl) rfl
theorem q1079 : (Jvm.Cond.methodLink "LayeredChartersModel" (79 : Nat) ({ cls := "LayeredChartersModel", name := "lays", desc := "(II)I" } : Jvm.MethodName)) ∈ lw_all := lw_g (lw_at lw_m5 78 rfl) rfl
theorem q1080 : (Jvm.Cond.privateMethod ({ cls := "LayeredChartersModel", name := "lays", desc := "(II)I" } : Jvm.MethodName)) ∈ lw_tbl := lw_at lw_m5 79 rfl
theorem q1081 : (Jvm.Cond.instanceMethod ({ cls := "LayeredChartersModel", name := "lays", desc := "(II)I" } : Jvm.MethodName)) ∈ lw_all := lw_g (lw_at lw_m5 80 rfl) rfl
theorem q1082 : (Jvm.Cond.code ({ cls := "LayeredChartersModel", name := "lays", desc := "(II)I" } : Jvm.MethodName) prog_9_method_25_code (4 : Nat) (Option.some Jvm.ClassFile.FieldType.int)) ∈ lw_all := lw_g (lw_at lw_m5 81 rfl) rfl
theorem q1084 : (Jvm.Cond.instanceMethod ({ cls := "LayeredChartersModel", name := "move", desc := "(II)I" } : Jvm.MethodName)) ∈ lw_all := lw_g (lw_at lw_m5 83 rfl) rfl
theorem q1085 : (Jvm.Cond.selects "LayeredChartersModel" ({ cls := "LayeredChartersModel", name := "move", desc := "(II)I" } : Jvm.MethodName) ({ cls := "LayeredChartersModel", name := "move", desc := "(II)I" } : Jvm.MethodName)) ∈ lw_all := lw_g (lw_at lw_m5 84 rfl) rfl
theorem q1086 : (Jvm.Cond.code ({ cls := "LayeredChartersModel", name := "move", desc := "(II)I" } : Jvm.MethodName) prog_9_method_27_code (3 : Nat) (Option.some Jvm.ClassFile.FieldType.int)) ∈ lw_all := lw_g (lw_at lw_m5 85 rfl) rfl
theorem q1087 : (Jvm.Cond.methodLink "LayeredChartersModel" (41 : Nat) ({ cls := "LayeredChartersModel", name := "of", desc := "(II)I" } : Jvm.MethodName)) ∈ lw_all := lw_g (lw_at lw_m5 86 rfl) rfl
theorem q1088 : (Jvm.Cond.privateMethod ({ cls := "LayeredChartersModel", name := "of", desc := "(II)I" } : Jvm.MethodName)) ∈ lw_tbl := lw_at lw_m5 87 rfl
theorem q1089 : (Jvm.Cond.instanceMethod ({ cls := "LayeredChartersModel", name := "of", desc := "(II)I" } : Jvm.MethodName)) ∈ lw_all := lw_g (lw_at lw_m5 88 rfl) rfl
theorem q1090 : (Jvm.Cond.code ({ cls := "LayeredChartersModel", name := "of", desc := "(II)I" } : Jvm.MethodName) prog_9_method_8_code (3 : Nat) (Option.some Jvm.ClassFile.FieldType.int)) ∈ lw_all := lw_g (lw_at lw_m5 89 rfl) rfl
theorem q1092 : (Jvm.Cond.instanceMethod ({ cls := "LayeredChartersModel", name := "tidy", desc := "()I" } : Jvm.MethodName)) ∈ lw_all := lw_g (lw_at lw_m5 91 rfl) rfl
theorem q1093 : (Jvm.Cond.selects "LayeredChartersModel" ({ cls := "LayeredChartersModel", name := "tidy", desc := "()I" } : Jvm.MethodName) ({ cls := "LayeredChartersModel", name := "tidy", desc := "()I" } : Jvm.MethodName)) ∈ lw_all := lw_g (lw_at lw_m5 92 rfl) rfl
theorem q1094 : (Jvm.Cond.code ({ cls := "LayeredChartersModel", name := "tidy", desc := "()I" } : Jvm.MethodName) prog_9_method_29_code (3 : Nat) (Option.some Jvm.ClassFile.FieldType.int)) ∈ lw_all := lw_g (lw_at lw_m5 93 rfl) rfl
theorem q1095 : (Jvm.Cond.methodLink "LayeredChartersModel" (85 : Nat) ({ cls := "LayeredChartersModel", name := "firstIdle", desc := "()I" } : Jvm.MethodName)) ∈ lw_all := lw_g (lw_at lw_m5 94 rfl) rfl
theorem q1096 : (Jvm.Cond.privateMethod ({ cls := "LayeredChartersModel", name := "firstIdle", desc := "()I" } : Jvm.MethodName)) ∈ lw_tbl := lw_at lw_m5 95 rfl
theorem q1097 : (Jvm.Cond.instanceMethod ({ cls := "LayeredChartersModel", name := "firstIdle", desc := "()I" } : Jvm.MethodName)) ∈ lw_all := lw_g (lw_at lw_m5 96 rfl) rfl
theorem q1098 : (Jvm.Cond.code ({ cls := "LayeredChartersModel", name := "firstIdle", desc := "()I" } : Jvm.MethodName) prog_9_method_28_code (2 : Nat) (Option.some Jvm.ClassFile.FieldType.int)) ∈ lw_all := lw_g (lw_at lw_m5 97 rfl) rfl
theorem q1099 : (Jvm.Cond.methodLink "LayeredChartersModel" (82 : Nat) ({ cls := "LayeredChartersModel", name := "isIdle", desc := "(I)Z" } : Jvm.MethodName)) ∈ lw_all := lw_g (lw_at lw_m5 98 rfl) rfl
theorem q1100 : (Jvm.Cond.privateMethod ({ cls := "LayeredChartersModel", name := "isIdle", desc := "(I)Z" } : Jvm.MethodName)) ∈ lw_tbl := lw_at lw_m5 99 rfl
theorem q1101 : (Jvm.Cond.instanceMethod ({ cls := "LayeredChartersModel", name := "isIdle", desc := "(I)Z" } : Jvm.MethodName)) ∈ lw_all := lw_g (lw_at lw_m5 100 rfl) rfl
theorem q1102 : (Jvm.Cond.code ({ cls := "LayeredChartersModel", name := "isIdle", desc := "(I)Z" } : Jvm.MethodName) prog_9_method_19_code (4 : Nat) (Option.some Jvm.ClassFile.FieldType.boolean)) ∈ lw_all := lw_g (lw_at lw_m5 101 rfl) rfl
theorem q1103 : (Jvm.Cond.methodLink "LayeredChartersModel" (58 : Nat) ({ cls := "LayeredChartersModel", name := "leastNow", desc := "(II)I" } : Jvm.MethodName)) ∈ lw_all := lw_g (lw_at lw_m5 102 rfl) rfl
theorem q1104 : (Jvm.Cond.privateMethod ({ cls := "LayeredChartersModel", name := "leastNow", desc := "(II)I" } : Jvm.MethodName)) ∈ lw_tbl := lw_at lw_m5 103 rfl
theorem q1105 : (Jvm.Cond.instanceMethod ({ cls := "LayeredChartersModel", name := "leastNow", desc := "(II)I" } : Jvm.MethodName)) ∈ lw_all := lw_g (lw_at lw_m5 104 rfl) rfl
theorem q1106 : (Jvm.Cond.code ({ cls := "LayeredChartersModel", name := "leastNow", desc := "(II)I" } : Jvm.MethodName) prog_9_method_15_code (3 : Nat) (Option.some Jvm.ClassFile.FieldType.int)) ∈ lw_all := lw_g (lw_at lw_m5 105 rfl) rfl
theorem q1107 : (Jvm.Cond.methodLink "LayeredChartersModel" (54 : Nat) ({ cls := "LayeredChartersModel", name := "least", desc := "(IIIII)I" } : Jvm.MethodName)) ∈ lw_all := lw_g (lw_at lw_m5 106 rfl) rfl
theorem q1108 : (Jvm.Cond.privateMethod ({ cls := "LayeredChartersModel", name := "least", desc := "(IIIII)I" } : Jvm.MethodName)) ∈ lw_tbl := lw_at lw_m5 107 rfl
theorem q1109 : (Jvm.Cond.instanceMethod ({ cls := "LayeredChartersModel", name := "least", desc := "(IIIII)I" } : Jvm.MethodName)) ∈ lw_all := lw_g (lw_at lw_m5 108 rfl) rfl
theorem q1110 : (Jvm.Cond.code ({ cls := "LayeredChartersModel", name := "least", desc := "(IIIII)I" } : Jvm.MethodName) prog_9_method_14_code (9 : Nat) (Option.some Jvm.ClassFile.FieldType.int)) ∈ lw_all := lw_g (lw_at lw_m5 109 rfl) rfl
theorem q1111 : (Jvm.Cond.methodLink "LayeredChartersModel" (47 : Nat) ({ cls := "LayeredChartersModel", name := "isPermitted", desc := "(III)Z" } : Jvm.MethodName)) ∈ lw_all := lw_g (lw_at lw_m5 110 rfl) rfl
theorem q1112 : (Jvm.Cond.privateMethod ({ cls := "LayeredChartersModel", name := "isPermitted", desc := "(III)Z" } : Jvm.MethodName)) ∈ lw_tbl := lw_at lw_m5 111 rfl
theorem q1113 : (Jvm.Cond.instanceMethod ({ cls := "LayeredChartersModel", name := "isPermitted", desc := "(III)Z" } : Jvm.MethodName)) ∈ lw_all := lw_g (lw_at lw_m5 112 rfl) rfl
theorem q1114 : (Jvm.Cond.code ({ cls := "LayeredChartersModel", name := "isPermitted", desc := "(III)Z" } : Jvm.MethodName) prog_9_method_13_code (6 : Nat) (Option.some Jvm.ClassFile.FieldType.boolean)) ∈ lw_all := lw_g (lw_at lw_m5 113 rfl) rfl
theorem q1115 : (Jvm.Cond.methodLink "LayeredChartersModel" (44 : Nat) ({ cls := "LayeredChartersModel", name := "fits", desc := "(III)Z" } : Jvm.MethodName)) ∈ lw_all := lw_g (lw_at lw_m5 114 rfl) rfl
theorem q1116 : (Jvm.Cond.privateMethod ({ cls := "LayeredChartersModel", name := "fits", desc := "(III)Z" } : Jvm.MethodName)) ∈ lw_tbl := lw_at lw_m5 115 rfl
theorem q1117 : (Jvm.Cond.instanceMethod ({ cls := "LayeredChartersModel", name := "fits", desc := "(III)Z" } : Jvm.MethodName)) ∈ lw_all := lw_g (lw_at lw_m5 116 rfl) rfl
theorem q1118 : (Jvm.Cond.code ({ cls := "LayeredChartersModel", name := "fits", desc := "(III)Z" } : Jvm.MethodName) prog_9_method_11_code (4 : Nat) (Option.some Jvm.ClassFile.FieldType.boolean)) ∈ lw_all := lw_g (lw_at lw_m5 117 rfl) rfl
theorem q1119 : (Jvm.Cond.methodLink "LayeredChartersModel" (50 : Nat) ({ cls := "LayeredChartersModel", name := "layStrong", desc := "(IIIII)V" } : Jvm.MethodName)) ∈ lw_all := lw_g (lw_at lw_m5 118 rfl) rfl
theorem q1120 : (Jvm.Cond.privateMethod ({ cls := "LayeredChartersModel", name := "layStrong", desc := "(IIIII)V" } : Jvm.MethodName)) ∈ lw_tbl := lw_at lw_m5 119 rfl
theorem q1121 : (Jvm.Cond.instanceMethod ({ cls := "LayeredChartersModel", name := "layStrong", desc := "(IIIII)V" } : Jvm.MethodName)) ∈ lw_all := lw_g (lw_at lw_m5 120 rfl) rfl
theorem q1122 : (Jvm.Cond.code ({ cls := "LayeredChartersModel", name := "layStrong", desc := "(IIIII)V" } : Jvm.MethodName) prog_9_method_12_code (8 : Nat) (Option.none : Option Jvm.ClassFile.FieldType)) ∈ lw_all := lw_g (lw_at lw_m5 121 rfl) rfl
theorem q1124 : (Jvm.Cond.instanceMethod ({ cls := "LayeredChartersModel", name := "join", desc := "(II)I" } : Jvm.MethodName)) ∈ lw_all := lw_g (lw_at lw_m5 123 rfl) rfl
theorem q1125 : (Jvm.Cond.selects "LayeredChartersModel" ({ cls := "LayeredChartersModel", name := "join", desc := "(II)I" } : Jvm.MethodName) ({ cls := "LayeredChartersModel", name := "join", desc := "(II)I" } : Jvm.MethodName)) ∈ lw_all := lw_g (lw_at lw_m5 124 rfl) rfl
theorem q1126 : (Jvm.Cond.code ({ cls := "LayeredChartersModel", name := "join", desc := "(II)I" } : Jvm.MethodName) prog_9_method_30_code (4 : Nat) (Option.some Jvm.ClassFile.FieldType.int)) ∈ lw_all := lw_g (lw_at lw_m5 125 rfl) rfl
theorem q1127 : (Jvm.Cond.methodLink "LayeredChartersModel" (89 : Nat) ({ cls := "LayeredChartersModel", name := "ofGuild", desc := "(II)I" } : Jvm.MethodName)) ∈ lw_all := lw_g (lw_at lw_m5 126 rfl) rfl
theorem q1128 : (Jvm.Cond.static ({ cls := "LayeredChartersModel", name := "ofGuild", desc := "(II)I" } : Jvm.MethodName)) ∈ lw_all := lw_g (lw_at lw_m5 127 rfl) rfl
theorem q1129 : (Jvm.Cond.code ({ cls := "LayeredChartersModel", name := "ofGuild", desc := "(II)I" } : Jvm.MethodName) prog_9_method_9_code (2 : Nat) (Option.some Jvm.ClassFile.FieldType.int)) ∈ lw_all := lw_g (lw_at lw_m5 128 rfl) rfl
theorem q1131 : (Jvm.Cond.instanceMethod ({ cls := "LayeredChartersModel", name := "leave", desc := "(I)I" } : Jvm.MethodName)) ∈ lw_all := lw_g (lw_at lw_m5 130 rfl) rfl
theorem q1132 : (Jvm.Cond.selects "LayeredChartersModel" ({ cls := "LayeredChartersModel", name := "leave", desc := "(I)I" } : Jvm.MethodName) ({ cls := "LayeredChartersModel", name := "leave", desc := "(I)I" } : Jvm.MethodName)) ∈ lw_all := lw_g (lw_at lw_m5 131 rfl) rfl
theorem q1133 : (Jvm.Cond.code ({ cls := "LayeredChartersModel", name := "leave", desc := "(I)I" } : Jvm.MethodName) prog_9_method_31_code (4 : Nat) (Option.some Jvm.ClassFile.FieldType.int)) ∈ lw_all := lw_g (lw_at lw_m5 132 rfl) rfl
theorem q1134 : (Jvm.Cond.methodLink "LayeredChartersModel" (92 : Nat) ({ cls := "LayeredChartersModel", name := "isMember", desc := "(I)Z" } : Jvm.MethodName)) ∈ lw_all := lw_g (lw_at lw_m5 133 rfl) rfl
theorem q1135 : (Jvm.Cond.privateMethod ({ cls := "LayeredChartersModel", name := "isMember", desc := "(I)Z" } : Jvm.MethodName)) ∈ lw_tbl := lw_at lw_m5 134 rfl
theorem q1136 : (Jvm.Cond.instanceMethod ({ cls := "LayeredChartersModel", name := "isMember", desc := "(I)Z" } : Jvm.MethodName)) ∈ lw_all := lw_g (lw_at lw_m5 135 rfl) rfl
theorem q1137 : (Jvm.Cond.code ({ cls := "LayeredChartersModel", name := "isMember", desc := "(I)Z" } : Jvm.MethodName) prog_9_method_5_code (2 : Nat) (Option.some Jvm.ClassFile.FieldType.boolean)) ∈ lw_all := lw_g (lw_at lw_m5 136 rfl) rfl
theorem q1139 : (Jvm.Cond.instanceMethod ({ cls := "LayeredChartersModel", name := "rank", desc := "(II)I" } : Jvm.MethodName)) ∈ lw_all := lw_g (lw_at lw_m5 138 rfl) rfl
theorem q1140 : (Jvm.Cond.selects "LayeredChartersModel" ({ cls := "LayeredChartersModel", name := "rank", desc := "(II)I" } : Jvm.MethodName) ({ cls := "LayeredChartersModel", name := "rank", desc := "(II)I" } : Jvm.MethodName)) ∈ lw_all := lw_g (lw_at lw_m5 139 rfl) rfl
theorem q1141 : (Jvm.Cond.code ({ cls := "LayeredChartersModel", name := "rank", desc := "(II)I" } : Jvm.MethodName) prog_9_method_32_code (3 : Nat) (Option.some Jvm.ClassFile.FieldType.int)) ∈ lw_all := lw_g (lw_at lw_m5 140 rfl) rfl
theorem q1143 : (Jvm.Cond.instanceMethod ({ cls := "LayeredChartersModel", name := "act", desc := "(II)I" } : Jvm.MethodName)) ∈ lw_all := lw_g (lw_at lw_m5 142 rfl) rfl
theorem q1144 : (Jvm.Cond.selects "LayeredChartersModel" ({ cls := "LayeredChartersModel", name := "act", desc := "(II)I" } : Jvm.MethodName) ({ cls := "LayeredChartersModel", name := "act", desc := "(II)I" } : Jvm.MethodName)) ∈ lw_all := lw_g (lw_at lw_m5 143 rfl) rfl
theorem q1145 : (Jvm.Cond.code ({ cls := "LayeredChartersModel", name := "act", desc := "(II)I" } : Jvm.MethodName) prog_9_method_33_code (5 : Nat) (Option.some Jvm.ClassFile.FieldType.int)) ∈ lw_all := lw_g (lw_at lw_m5 144 rfl) rfl
theorem q1146 : (Jvm.Cond.methodLink "LayeredChartersModel" (95 : Nat) ({ cls := "LayeredChartersModel", name := "reason", desc := "(III)I" } : Jvm.MethodName)) ∈ lw_all := lw_g (lw_at lw_m5 145 rfl) rfl
theorem q1147 : (Jvm.Cond.privateMethod ({ cls := "LayeredChartersModel", name := "reason", desc := "(III)I" } : Jvm.MethodName)) ∈ lw_tbl := lw_at lw_m5 146 rfl
theorem q1148 : (Jvm.Cond.instanceMethod ({ cls := "LayeredChartersModel", name := "reason", desc := "(III)I" } : Jvm.MethodName)) ∈ lw_all := lw_g (lw_at lw_m5 147 rfl) rfl
theorem q1149 : (Jvm.Cond.code ({ cls := "LayeredChartersModel", name := "reason", desc := "(III)I" } : Jvm.MethodName) prog_9_method_16_code (8 : Nat) (Option.some Jvm.ClassFile.FieldType.int)) ∈ lw_all := lw_g (lw_at lw_m5 148 rfl) rfl
theorem q1151 : (Jvm.Cond.instanceMethod ({ cls := "LayeredChartersModel", name := "rule", desc := "(II)I" } : Jvm.MethodName)) ∈ lw_all := lw_g (lw_at lw_m5 150 rfl) rfl
theorem q1152 : (Jvm.Cond.selects "LayeredChartersModel" ({ cls := "LayeredChartersModel", name := "rule", desc := "(II)I" } : Jvm.MethodName) ({ cls := "LayeredChartersModel", name := "rule", desc := "(II)I" } : Jvm.MethodName)) ∈ lw_all := lw_g (lw_at lw_m5 151 rfl) rfl
theorem q1153 : (Jvm.Cond.code ({ cls := "LayeredChartersModel", name := "rule", desc := "(II)I" } : Jvm.MethodName) prog_9_method_35_code (3 : Nat) (Option.some Jvm.ClassFile.FieldType.int)) ∈ lw_all := lw_g (lw_at lw_m5 152 rfl) rfl
theorem q1154 : (Jvm.Cond.methodLink "LayeredChartersModel" (102 : Nat) ({ cls := "LayeredChartersModel", name := "oddsOf", desc := "(I)I" } : Jvm.MethodName)) ∈ lw_all := lw_g (lw_at lw_m5 153 rfl) rfl
theorem q1155 : (Jvm.Cond.privateMethod ({ cls := "LayeredChartersModel", name := "oddsOf", desc := "(I)I" } : Jvm.MethodName)) ∈ lw_tbl := lw_at lw_m5 154 rfl
theorem q1156 : (Jvm.Cond.instanceMethod ({ cls := "LayeredChartersModel", name := "oddsOf", desc := "(I)I" } : Jvm.MethodName)) ∈ lw_all := lw_g (lw_at lw_m5 155 rfl) rfl
theorem q1157 : (Jvm.Cond.code ({ cls := "LayeredChartersModel", name := "oddsOf", desc := "(I)I" } : Jvm.MethodName) prog_9_method_34_code (4 : Nat) (Option.some Jvm.ClassFile.FieldType.int)) ∈ lw_all := lw_g (lw_at lw_m5 156 rfl) rfl
theorem q1158 : (Jvm.Cond.methodLink "LayeredChartersModel" (98 : Nat) ({ cls := "LayeredChartersModel", name := "areAtOdds", desc := "(II)Z" } : Jvm.MethodName)) ∈ lw_all := lw_g (lw_at lw_m5 157 rfl) rfl
theorem q1159 : (Jvm.Cond.privateMethod ({ cls := "LayeredChartersModel", name := "areAtOdds", desc := "(II)Z" } : Jvm.MethodName)) ∈ lw_tbl := lw_at lw_m5 158 rfl
theorem q1160 : (Jvm.Cond.instanceMethod ({ cls := "LayeredChartersModel", name := "areAtOdds", desc := "(II)Z" } : Jvm.MethodName)) ∈ lw_all := lw_g (lw_at lw_m5 159 rfl) rfl
theorem q1161 : (Jvm.Cond.code ({ cls := "LayeredChartersModel", name := "areAtOdds", desc := "(II)Z" } : Jvm.MethodName) prog_9_method_20_code (5 : Nat) (Option.some Jvm.ClassFile.FieldType.boolean)) ∈ lw_all := lw_g (lw_at lw_m5 160 rfl) rfl
theorem q1163 : (Jvm.Cond.instanceMethod ({ cls := "LayeredChartersModel", name := "member", desc := "(II)I" } : Jvm.MethodName)) ∈ lw_all := lw_g (lw_at lw_m5 162 rfl) rfl
theorem q1164 : (Jvm.Cond.selects "LayeredChartersModel" ({ cls := "LayeredChartersModel", name := "member", desc := "(II)I" } : Jvm.MethodName) ({ cls := "LayeredChartersModel", name := "member", desc := "(II)I" } : Jvm.MethodName)) ∈ lw_all := lw_g (lw_at lw_m5 163 rfl) rfl
theorem q1165 : (Jvm.Cond.code ({ cls := "LayeredChartersModel", name := "member", desc := "(II)I" } : Jvm.MethodName) prog_9_method_37_code (3 : Nat) (Option.some Jvm.ClassFile.FieldType.int)) ∈ lw_all := lw_g (lw_at lw_m5 164 rfl) rfl
theorem q1166 : (Jvm.Cond.methodLink "LayeredChartersModel" (106 : Nat) ({ cls := "LayeredChartersModel", name := "mayDo", desc := "(I)I" } : Jvm.MethodName)) ∈ lw_all := lw_g (lw_at lw_m5 165 rfl) rfl
theorem q1167 : (Jvm.Cond.privateMethod ({ cls := "LayeredChartersModel", name := "mayDo", desc := "(I)I" } : Jvm.MethodName)) ∈ lw_tbl := lw_at lw_m5 166 rfl
theorem q1168 : (Jvm.Cond.instanceMethod ({ cls := "LayeredChartersModel", name := "mayDo", desc := "(I)I" } : Jvm.MethodName)) ∈ lw_all := lw_g (lw_at lw_m5 167 rfl) rfl
theorem q1169 : (Jvm.Cond.code ({ cls := "LayeredChartersModel", name := "mayDo", desc := "(I)I" } : Jvm.MethodName) prog_9_method_36_code (4 : Nat) (Option.some Jvm.ClassFile.FieldType.int)) ∈ lw_all := lw_g (lw_at lw_m5 168 rfl) rfl
theorem q1171 : (Jvm.Cond.instanceMethod ({ cls := "LayeredChartersModel", name := "allowed", desc := "(IIII)I" } : Jvm.MethodName)) ∈ lw_all := lw_g (lw_at lw_m5 170 rfl) rfl
theorem q1172 : (Jvm.Cond.selects "LayeredChartersModel" ({ cls := "LayeredChartersModel", name := "allowed", desc := "(IIII)I" } : Jvm.MethodName) ({ cls := "LayeredChartersModel", name := "allowed", desc := "(IIII)I" } : Jvm.MethodName)) ∈ lw_all := lw_g (lw_at lw_m5 171 rfl) rfl
theorem q1173 : (Jvm.Cond.code ({ cls := "LayeredChartersModel", name := "allowed", desc := "(IIII)I" } : Jvm.MethodName) prog_9_method_38_code (5 : Nat) (Option.some Jvm.ClassFile.FieldType.int)) ∈ lw_all := lw_g (lw_at lw_m5 172 rfl) rfl
theorem q1174 : (Jvm.Cond.methodLink "LayeredChartersModel" (109 : Nat) ({ cls := "LayeredChartersModel", name := "isAsked", desc := "(II)Z" } : Jvm.MethodName)) ∈ lw_all := lw_g (lw_at lw_m5 173 rfl) rfl
theorem q1175 : (Jvm.Cond.static ({ cls := "LayeredChartersModel", name := "isAsked", desc := "(II)Z" } : Jvm.MethodName)) ∈ lw_all := lw_g (lw_at lw_m5 174 rfl) rfl
theorem q1176 : (Jvm.Cond.code ({ cls := "LayeredChartersModel", name := "isAsked", desc := "(II)Z" } : Jvm.MethodName) prog_9_method_6_code (2 : Nat) (Option.some Jvm.ClassFile.FieldType.boolean)) ∈ lw_all := lw_g (lw_at lw_m5 175 rfl) rfl
theorem q1178 : (Jvm.Cond.instanceMethod ({ cls := "LayeredChartersModel", name := "why", desc := "(III)I" } : Jvm.MethodName)) ∈ lw_all := lw_g (lw_at lw_m5 177 rfl) rfl
theorem q1179 : (Jvm.Cond.selects "LayeredChartersModel" ({ cls := "LayeredChartersModel", name := "why", desc := "(III)I" } : Jvm.MethodName) ({ cls := "LayeredChartersModel", name := "why", desc := "(III)I" } : Jvm.MethodName)) ∈ lw_all := lw_g (lw_at lw_m5 178 rfl) rfl
theorem q1180 : (Jvm.Cond.code ({ cls := "LayeredChartersModel", name := "why", desc := "(III)I" } : Jvm.MethodName) prog_9_method_39_code (4 : Nat) (Option.some Jvm.ClassFile.FieldType.int)) ∈ lw_all := lw_g (lw_at lw_m5 179 rfl) rfl
theorem q1182 : (Jvm.Cond.instanceMethod ({ cls := "LayeredChartersModel", name := "count", desc := "(I)I" } : Jvm.MethodName)) ∈ lw_all := lw_g (lw_at lw_m5 181 rfl) rfl
theorem q1183 : (Jvm.Cond.selects "LayeredChartersModel" ({ cls := "LayeredChartersModel", name := "count", desc := "(I)I" } : Jvm.MethodName) ({ cls := "LayeredChartersModel", name := "count", desc := "(I)I" } : Jvm.MethodName)) ∈ lw_all := lw_g (lw_at lw_m5 182 rfl) rfl
theorem q1184 : (Jvm.Cond.code ({ cls := "LayeredChartersModel", name := "count", desc := "(I)I" } : Jvm.MethodName) prog_9_method_41_code (2 : Nat) (Option.some Jvm.ClassFile.FieldType.int)) ∈ lw_all := lw_g (lw_at lw_m5 183 rfl) rfl
theorem q1185 : (Jvm.Cond.methodLink "LayeredChartersModel" (112 : Nat) ({ cls := "LayeredChartersModel", name := "sumOf", desc := "(I)I" } : Jvm.MethodName)) ∈ lw_all := lw_g (lw_at lw_m5 184 rfl) rfl
theorem q1186 : (Jvm.Cond.privateMethod ({ cls := "LayeredChartersModel", name := "sumOf", desc := "(I)I" } : Jvm.MethodName)) ∈ lw_tbl := lw_at lw_m5 185 rfl
theorem q1187 : (Jvm.Cond.instanceMethod ({ cls := "LayeredChartersModel", name := "sumOf", desc := "(I)I" } : Jvm.MethodName)) ∈ lw_all := lw_g (lw_at lw_m5 186 rfl) rfl
theorem q1188 : (Jvm.Cond.code ({ cls := "LayeredChartersModel", name := "sumOf", desc := "(I)I" } : Jvm.MethodName) prog_9_method_40_code (4 : Nat) (Option.some Jvm.ClassFile.FieldType.int)) ∈ lw_all := lw_g (lw_at lw_m5 187 rfl) rfl
theorem q1189 : (Jvm.Cond.methodLink "LayeredChartersModel" (115 : Nat) ({ cls := "LayeredChartersModel", name := "triplesNow", desc := "()I" } : Jvm.MethodName)) ∈ lw_all := lw_g (lw_at lw_m5 188 rfl) rfl
theorem q1190 : (Jvm.Cond.privateMethod ({ cls := "LayeredChartersModel", name := "triplesNow", desc := "()I" } : Jvm.MethodName)) ∈ lw_tbl := lw_at lw_m5 189 rfl
theorem q1191 : (Jvm.Cond.instanceMethod ({ cls := "LayeredChartersModel", name := "triplesNow", desc := "()I" } : Jvm.MethodName)) ∈ lw_all := lw_g (lw_at lw_m5 190 rfl) rfl
theorem q1192 : (Jvm.Cond.code ({ cls := "LayeredChartersModel", name := "triplesNow", desc := "()I" } : Jvm.MethodName) prog_9_method_18_code (1 : Nat) (Option.some Jvm.ClassFile.FieldType.int)) ∈ lw_all := lw_g (lw_at lw_m5 191 rfl) rfl
theorem q1193 : (Jvm.Cond.methodLink "LayeredChartersModel" (61 : Nat) ({ cls := "LayeredChartersModel", name := "triples", desc := "(III)I" } : Jvm.MethodName)) ∈ lw_all := lw_g (lw_at lw_m5 192 rfl) rfl
theorem q1194 : (Jvm.Cond.privateMethod ({ cls := "LayeredChartersModel", name := "triples", desc := "(III)I" } : Jvm.MethodName)) ∈ lw_tbl := lw_at lw_m5 193 rfl
theorem q1195 : (Jvm.Cond.instanceMethod ({ cls := "LayeredChartersModel", name := "triples", desc := "(III)I" } : Jvm.MethodName)) ∈ lw_all := lw_g (lw_at lw_m5 194 rfl) rfl
theorem q1196 : (Jvm.Cond.code ({ cls := "LayeredChartersModel", name := "triples", desc := "(III)I" } : Jvm.MethodName) prog_9_method_17_code (6 : Nat) (Option.some Jvm.ClassFile.FieldType.int)) ∈ lw_all := lw_g (lw_at lw_m5 195 rfl) rfl
theorem q1198 : (Jvm.Cond.instanceMethod ({ cls := "LayeredChartersModel", name := "leastRank", desc := "(II)I" } : Jvm.MethodName)) ∈ lw_all := lw_g (lw_at lw_m5 197 rfl) rfl
theorem q1199 : (Jvm.Cond.selects "LayeredChartersModel" ({ cls := "LayeredChartersModel", name := "leastRank", desc := "(II)I" } : Jvm.MethodName) ({ cls := "LayeredChartersModel", name := "leastRank", desc := "(II)I" } : Jvm.MethodName)) ∈ lw_all := lw_g (lw_at lw_m5 198 rfl) rfl
theorem q1200 : (Jvm.Cond.code ({ cls := "LayeredChartersModel", name := "leastRank", desc := "(II)I" } : Jvm.MethodName) prog_9_method_42_code (4 : Nat) (Option.some Jvm.ClassFile.FieldType.int)) ∈ lw_all := lw_g (lw_at lw_m5 199 rfl) rfl
theorem q1202 : (Jvm.Cond.instanceMethod ({ cls := "LayeredChartersModel", name := "ifStruck", desc := "(I)I" } : Jvm.MethodName)) ∈ lw_all := lw_g (lw_at lw_m5 201 rfl) rfl
theorem q1203 : (Jvm.Cond.selects "LayeredChartersModel" ({ cls := "LayeredChartersModel", name := "ifStruck", desc := "(I)I" } : Jvm.MethodName) ({ cls := "LayeredChartersModel", name := "ifStruck", desc := "(I)I" } : Jvm.MethodName)) ∈ lw_all := lw_g (lw_at lw_m5 202 rfl) rfl
theorem q1204 : (Jvm.Cond.code ({ cls := "LayeredChartersModel", name := "ifStruck", desc := "(I)I" } : Jvm.MethodName) prog_9_method_43_code (2 : Nat) (Option.some Jvm.ClassFile.FieldType.int)) ∈ lw_all := lw_g (lw_at lw_m5 203 rfl) rfl
theorem q1206 : (Jvm.Cond.instanceMethod ({ cls := "LayeredChartersModel", name := "worstBan", desc := "()I" } : Jvm.MethodName)) ∈ lw_all := lw_g (lw_at lw_m5 205 rfl) rfl
theorem q1207 : (Jvm.Cond.selects "LayeredChartersModel" ({ cls := "LayeredChartersModel", name := "worstBan", desc := "()I" } : Jvm.MethodName) ({ cls := "LayeredChartersModel", name := "worstBan", desc := "()I" } : Jvm.MethodName)) ∈ lw_all := lw_g (lw_at lw_m5 206 rfl) rfl
theorem q1208 : (Jvm.Cond.code ({ cls := "LayeredChartersModel", name := "worstBan", desc := "()I" } : Jvm.MethodName) prog_9_method_44_code (6 : Nat) (Option.some Jvm.ClassFile.FieldType.int)) ∈ lw_all := lw_g (lw_at lw_m5 207 rfl) rfl
theorem q1210 : (Jvm.Cond.instanceMethod ({ cls := "LayeredChartersModel", name := "bestWaiver", desc := "(I)I" } : Jvm.MethodName)) ∈ lw_all := lw_g (lw_at lw_m5 209 rfl) rfl
theorem q1211 : (Jvm.Cond.selects "LayeredChartersModel" ({ cls := "LayeredChartersModel", name := "bestWaiver", desc := "(I)I" } : Jvm.MethodName) ({ cls := "LayeredChartersModel", name := "bestWaiver", desc := "(I)I" } : Jvm.MethodName)) ∈ lw_all := lw_g (lw_at lw_m5 210 rfl) rfl
theorem q1212 : (Jvm.Cond.code ({ cls := "LayeredChartersModel", name := "bestWaiver", desc := "(I)I" } : Jvm.MethodName) prog_9_method_45_code (6 : Nat) (Option.some Jvm.ClassFile.FieldType.int)) ∈ lw_all := lw_g (lw_at lw_m5 211 rfl) rfl
theorem q1214 : (Jvm.Cond.instanceMethod ({ cls := "LayeredChartersModel", name := "put", desc := "(J)I" } : Jvm.MethodName)) ∈ lw_all := lw_g (lw_at lw_m5 213 rfl) rfl
theorem q1215 : (Jvm.Cond.selects "LayeredChartersModel" ({ cls := "LayeredChartersModel", name := "put", desc := "(J)I" } : Jvm.MethodName) ({ cls := "LayeredChartersModel", name := "put", desc := "(J)I" } : Jvm.MethodName)) ∈ lw_all := lw_g (lw_at lw_m5 214 rfl) rfl
theorem q1216 : (Jvm.Cond.code ({ cls := "LayeredChartersModel", name := "put", desc := "(J)I" } : Jvm.MethodName) prog_9_method_46_code (8 : Nat) (Option.some Jvm.ClassFile.FieldType.int)) ∈ lw_all := lw_g (lw_at lw_m5 215 rfl) rfl
theorem q1217 : (Jvm.Cond.constantLong "LayeredChartersModel" (121 : Nat) (255 : Int64)) ∈ lw_all := lw_g (lw_at lw_m5 216 rfl) rfl
theorem q1219 : (Jvm.Cond.instanceMethod ({ cls := "LayeredChartersModel", name := "wipe", desc := "()I" } : Jvm.MethodName)) ∈ lw_all := lw_g (lw_at lw_m5 218 rfl) rfl
theorem q1220 : (Jvm.Cond.selects "LayeredChartersModel" ({ cls := "LayeredChartersModel", name := "wipe", desc := "()I" } : Jvm.MethodName) ({ cls := "LayeredChartersModel", name := "wipe", desc := "()I" } : Jvm.MethodName)) ∈ lw_all := lw_g (lw_at lw_m5 219 rfl) rfl
theorem q1221 : (Jvm.Cond.code ({ cls := "LayeredChartersModel", name := "wipe", desc := "()I" } : Jvm.MethodName) prog_9_method_47_code (2 : Nat) (Option.some Jvm.ClassFile.FieldType.int)) ∈ lw_all := lw_g (lw_at lw_m5 220 rfl) rfl
theorem q1223 : (Jvm.Cond.instanceMethod ({ cls := "LayeredChartersModel", name := "fault", desc := "()I" } : Jvm.MethodName)) ∈ lw_all := lw_g (lw_at lw_m5 222 rfl) rfl
theorem q1224 : (Jvm.Cond.selects "LayeredChartersModel" ({ cls := "LayeredChartersModel", name := "fault", desc := "()I" } : Jvm.MethodName) ({ cls := "LayeredChartersModel", name := "fault", desc := "()I" } : Jvm.MethodName)) ∈ lw_all := lw_g (lw_at lw_m5 223 rfl) rfl
theorem q1225 : (Jvm.Cond.code ({ cls := "LayeredChartersModel", name := "fault", desc := "()I" } : Jvm.MethodName) prog_9_method_53_code (1 : Nat) (Option.some Jvm.ClassFile.FieldType.int)) ∈ lw_all := lw_g (lw_at lw_m5 224 rfl) rfl
theorem q1226 : (Jvm.Cond.methodLink "LayeredChartersModel" (138 : Nat) ({ cls := "LayeredChartersModel", name := "wrong", desc := "()I" } : Jvm.MethodName)) ∈ lw_all := lw_g (lw_at lw_m5 225 rfl) rfl
theorem q1227 : (Jvm.Cond.privateMethod ({ cls := "LayeredChartersModel", name := "wrong", desc := "()I" } : Jvm.MethodName)) ∈ lw_tbl := lw_at lw_m5 226 rfl
theorem q1228 : (Jvm.Cond.instanceMethod ({ cls := "LayeredChartersModel", name := "wrong", desc := "()I" } : Jvm.MethodName)) ∈ lw_all := lw_g (lw_at lw_m5 227 rfl) rfl
theorem q1229 : (Jvm.Cond.code ({ cls := "LayeredChartersModel", name := "wrong", desc := "()I" } : Jvm.MethodName) prog_9_method_52_code (4 : Nat) (Option.some Jvm.ClassFile.FieldType.int)) ∈ lw_all := lw_g (lw_at lw_m5 228 rfl) rfl
theorem q1230 : (Jvm.Cond.methodLink "LayeredChartersModel" (132 : Nat) ({ cls := "LayeredChartersModel", name := "right", desc := "(I)I" } : Jvm.MethodName)) ∈ lw_all := lw_g (lw_at lw_m5 229 rfl) rfl
theorem q1231 : (Jvm.Cond.privateMethod ({ cls := "LayeredChartersModel", name := "right", desc := "(I)I" } : Jvm.MethodName)) ∈ lw_tbl := lw_at lw_m5 230 rfl
theorem q1232 : (Jvm.Cond.instanceMethod ({ cls := "LayeredChartersModel", name := "right", desc := "(I)I" } : Jvm.MethodName)) ∈ lw_all := lw_g (lw_at lw_m5 231 rfl) rfl
theorem q1233 : (Jvm.Cond.code ({ cls := "LayeredChartersModel", name := "right", desc := "(I)I" } : Jvm.MethodName) prog_9_method_50_code (3 : Nat) (Option.some Jvm.ClassFile.FieldType.int)) ∈ lw_all := lw_g (lw_at lw_m5 232 rfl) rfl
theorem q1234 : (Jvm.Cond.methodLink "LayeredChartersModel" (123 : Nat) ({ cls := "LayeredChartersModel", name := "next", desc := "(I)I" } : Jvm.MethodName)) ∈ lw_all := lw_g (lw_at lw_m5 233 rfl) rfl
theorem q1235 : (Jvm.Cond.privateMethod ({ cls := "LayeredChartersModel", name := "next", desc := "(I)I" } : Jvm.MethodName)) ∈ lw_tbl := lw_at lw_m5 234 rfl
theorem q1236 : (Jvm.Cond.instanceMethod ({ cls := "LayeredChartersModel", name := "next", desc := "(I)I" } : Jvm.MethodName)) ∈ lw_all := lw_g (lw_at lw_m5 235 rfl) rfl
theorem q1237 : (Jvm.Cond.code ({ cls := "LayeredChartersModel", name := "next", desc := "(I)I" } : Jvm.MethodName) prog_9_method_48_code (2 : Nat) (Option.some Jvm.ClassFile.FieldType.int)) ∈ lw_all := lw_g (lw_at lw_m5 236 rfl) rfl
theorem q1238 : (Jvm.Cond.methodLink "LayeredChartersModel" (126 : Nat) ({ cls := "LayeredChartersModel", name := "kindFor", desc := "(I)I" } : Jvm.MethodName)) ∈ lw_all := lw_g (lw_at lw_m5 237 rfl) rfl
theorem q1239 : (Jvm.Cond.static ({ cls := "LayeredChartersModel", name := "kindFor", desc := "(I)I" } : Jvm.MethodName)) ∈ lw_all := lw_g (lw_at lw_m5 238 rfl) rfl
theorem q1240 : (Jvm.Cond.code ({ cls := "LayeredChartersModel", name := "kindFor", desc := "(I)I" } : Jvm.MethodName) prog_9_method_49_code (1 : Nat) (Option.some Jvm.ClassFile.FieldType.int)) ∈ lw_all := lw_g (lw_at lw_m5 239 rfl) rfl
theorem q1241 : (Jvm.Cond.methodLink "LayeredChartersModel" (135 : Nat) ({ cls := "LayeredChartersModel", name := "whole", desc := "(I)I" } : Jvm.MethodName)) ∈ lw_all := lw_g (lw_at lw_m6 0 rfl) rfl
theorem q1242 : (Jvm.Cond.privateMethod ({ cls := "LayeredChartersModel", name := "whole", desc := "(I)I" } : Jvm.MethodName)) ∈ lw_tbl := lw_at lw_m6 1 rfl
theorem q1243 : (Jvm.Cond.instanceMethod ({ cls := "LayeredChartersModel", name := "whole", desc := "(I)I" } : Jvm.MethodName)) ∈ lw_all := lw_g (lw_at lw_m6 2 rfl) rfl
theorem q1244 : (Jvm.Cond.code ({ cls := "LayeredChartersModel", name := "whole", desc := "(I)I" } : Jvm.MethodName) prog_9_method_51_code (2 : Nat) (Option.some Jvm.ClassFile.FieldType.int)) ∈ lw_all := lw_g (lw_at lw_m6 3 rfl) rfl
theorem q1246 : (Jvm.Cond.instanceMethod ({ cls := "LayeredChartersModel", name := "read", desc := "()I" } : Jvm.MethodName)) ∈ lw_all := lw_g (lw_at lw_m6 5 rfl) rfl
theorem q1247 : (Jvm.Cond.selects "LayeredChartersModel" ({ cls := "LayeredChartersModel", name := "read", desc := "()I" } : Jvm.MethodName) ({ cls := "LayeredChartersModel", name := "read", desc := "()I" } : Jvm.MethodName)) ∈ lw_all := lw_g (lw_at lw_m6 6 rfl) rfl
theorem q1248 : (Jvm.Cond.code ({ cls := "LayeredChartersModel", name := "read", desc := "()I" } : Jvm.MethodName) prog_9_method_54_code (6 : Nat) (Option.some Jvm.ClassFile.FieldType.int)) ∈ lw_all := lw_g (lw_at lw_m6 7 rfl) rfl
theorem q1250 : (Jvm.Cond.instanceMethod ({ cls := "LayeredChartersModel", name := "undo", desc := "()I" } : Jvm.MethodName)) ∈ lw_all := lw_g (lw_at lw_m6 9 rfl) rfl
theorem q1251 : (Jvm.Cond.selects "LayeredChartersModel" ({ cls := "LayeredChartersModel", name := "undo", desc := "()I" } : Jvm.MethodName) ({ cls := "LayeredChartersModel", name := "undo", desc := "()I" } : Jvm.MethodName)) ∈ lw_all := lw_g (lw_at lw_m6 10 rfl) rfl
theorem q1252 : (Jvm.Cond.code ({ cls := "LayeredChartersModel", name := "undo", desc := "()I" } : Jvm.MethodName) prog_9_method_55_code (2 : Nat) (Option.some Jvm.ClassFile.FieldType.int)) ∈ lw_all := lw_g (lw_at lw_m6 11 rfl) rfl
theorem q1254 : (Jvm.Cond.instanceMethod ({ cls := "LayeredChartersModel", name := "save", desc := "(I)I" } : Jvm.MethodName)) ∈ lw_all := lw_g (lw_at lw_m6 13 rfl) rfl
theorem q1255 : (Jvm.Cond.selects "LayeredChartersModel" ({ cls := "LayeredChartersModel", name := "save", desc := "(I)I" } : Jvm.MethodName) ({ cls := "LayeredChartersModel", name := "save", desc := "(I)I" } : Jvm.MethodName)) ∈ lw_all := lw_g (lw_at lw_m6 14 rfl) rfl
theorem q1256 : (Jvm.Cond.code ({ cls := "LayeredChartersModel", name := "save", desc := "(I)I" } : Jvm.MethodName) prog_9_method_56_code (3 : Nat) (Option.some Jvm.ClassFile.FieldType.int)) ∈ lw_all := lw_g (lw_at lw_m6 15 rfl) rfl
theorem q1258 : (Jvm.Cond.instanceMethod ({ cls := "LayeredChartersModel", name := "restore", desc := "(I)I" } : Jvm.MethodName)) ∈ lw_all := lw_g (lw_at lw_m6 17 rfl) rfl
theorem q1259 : (Jvm.Cond.selects "LayeredChartersModel" ({ cls := "LayeredChartersModel", name := "restore", desc := "(I)I" } : Jvm.MethodName) ({ cls := "LayeredChartersModel", name := "restore", desc := "(I)I" } : Jvm.MethodName)) ∈ lw_all := lw_g (lw_at lw_m6 18 rfl) rfl
theorem q1260 : (Jvm.Cond.code ({ cls := "LayeredChartersModel", name := "restore", desc := "(I)I" } : Jvm.MethodName) prog_9_method_57_code (3 : Nat) (Option.some Jvm.ClassFile.FieldType.int)) ∈ lw_all := lw_g (lw_at lw_m6 19 rfl) rfl
theorem q1280 : (Jvm.Cond.castable "LayeredChartersModel" "java/lang/Object") ∈ lw_tbl := lw_at lw_m6 39 rfl
theorem in_X3 : ∀ w ∈ wsX30, w ∈ lw_all := lw_in wsX30 [1025, 1027, 1029, 1031, 1033, 1035, 1037, 1039, 1041] (by decide +kernel) (by decide +kernel)
