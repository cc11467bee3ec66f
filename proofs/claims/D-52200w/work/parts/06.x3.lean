/-! LaneCrowdsModel -/
set_option maxRecDepth 100000
def RX3 : String := "LaneCrowdsModel"
def TX3 : u_T := fun k => match k with
  | 0 => ("LaneCrowdsModel", "thrown", "I", false)
  | 1 => ("LaneCrowdsModel", "crowds", "I", false)
  | 2 => ("LaneCrowdsModel", "patrols", "I", false)
  | 3 => ("LaneCrowdsModel", "length", "[I", true)
  | 4 => ("LaneCrowdsModel", "round", "[I", true)
  | 5 => ("LaneCrowdsModel", "few", "[I", true)
  | 6 => ("LaneCrowdsModel", "row", "[I", true)
  | 7 => ("LaneCrowdsModel", "s", "LLaneCrowdsModel$State;", true)
  | _ => ("LaneCrowdsModel", "ahead", "LLaneCrowdsModel$State;", true)
def tyX3 : Nat → FieldType := fun k => match k with
  | 0 => .int
  | 1 => .int
  | 2 => .int
  | 3 => .array .int
  | 4 => .array .int
  | 5 => .array .int
  | 6 => .array .int
  | 7 => .object "LaneCrowdsModel$State"
  | _ => .object "LaneCrowdsModel$State"
abbrev wsX30 : List Cond := u_ws RX3 TX3 9
theorem nmX3 : ∀ a, a < 9 → ∀ b, b < 9 → a ≠ b → (TX3 a).2.1 ≠ (TX3 b).2.1 := by decide +kernel
theorem tyX3_ok : ∀ k, k < 9 → parseFieldDescriptor (TX3 k).2.2.1 = some (tyX3 k) := by decide +kernel
abbrev cX3_init : ByteArray := prog_6_method_1_code
def yX3_init : MethodName := ⟨RX3, "<init>", "()V"⟩
def dkwX3_init_2 : List UInt8 := [187, 0, 22, 89, 42, 183, 0, 24, 181, 0, 31, 177]
abbrev dktX3_init_2 : List UInt8 := dkwX3_init_2 ++ []
def dkwX3_init_1 : List UInt8 := [181, 0, 16, 42, 16, 108, 188, 10, 181, 0, 19, 42, 187, 0, 22, 89, 42, 183, 0, 24, 181, 0, 27, 42]
abbrev dktX3_init_1 : List UInt8 := dkwX3_init_1 ++ dktX3_init_2
def dkwX3_init_0 : List UInt8 := [42, 183, 0, 3, 42, 6, 188, 10, 181, 0, 9, 42, 16, 36, 188, 10, 181, 0, 13, 42, 16, 108, 188, 10]
abbrev dktX3_init_0 : List UInt8 := dkwX3_init_0 ++ dktX3_init_1
theorem dksX3_init_0 : cX3_init.data.toList.drop 0 = dktX3_init_0 := by decide +kernel
theorem dksX3_init_1 : cX3_init.data.toList.drop 24 = dktX3_init_1 := dk_seg dksX3_init_0 24 rfl rfl
theorem dksX3_init_2 : cX3_init.data.toList.drop 48 = dktX3_init_2 := dk_seg dksX3_init_1 24 rfl rfl
theorem dX3_init_0 : decode cX3_init 0 = .ok (.aload_n 0, 1) := dk_42 (dk_at dksX3_init_0 0 rfl rfl)
theorem dX3_init_1 : decode cX3_init 1 = .ok (.invokespecial 3, 3) := dk_183 0 3 (dk_at dksX3_init_0 1 rfl rfl)
theorem dX3_init_4 : decode cX3_init 4 = .ok (.aload_n 0, 1) := dk_42 (dk_at dksX3_init_0 4 rfl rfl)
theorem dX3_init_5 : decode cX3_init 5 = .ok (.iconst 3, 1) := dk_6 (dk_at dksX3_init_0 5 rfl rfl)
theorem dX3_init_6 : decode cX3_init 6 = .ok (.newarray .int, 2) := dk_188_10 (dk_at dksX3_init_0 6 rfl rfl)
theorem dX3_init_8 : decode cX3_init 8 = .ok (.putfield 9, 3) := dk_181 0 9 (dk_at dksX3_init_0 8 rfl rfl)
theorem dX3_init_11 : decode cX3_init 11 = .ok (.aload_n 0, 1) := dk_42 (dk_at dksX3_init_0 11 rfl rfl)
theorem dX3_init_12 : decode cX3_init 12 = .ok (.bipush 36, 2) := dk_16 36 (dk_at dksX3_init_0 12 rfl rfl)
theorem dX3_init_14 : decode cX3_init 14 = .ok (.newarray .int, 2) := dk_188_10 (dk_at dksX3_init_0 14 rfl rfl)
theorem dX3_init_16 : decode cX3_init 16 = .ok (.putfield 13, 3) := dk_181 0 13 (dk_at dksX3_init_0 16 rfl rfl)
theorem dX3_init_19 : decode cX3_init 19 = .ok (.aload_n 0, 1) := dk_42 (dk_at dksX3_init_0 19 rfl rfl)
theorem dX3_init_20 : decode cX3_init 20 = .ok (.bipush 108, 2) := dk_16 108 (dk_at dksX3_init_0 20 rfl rfl)
theorem dX3_init_22 : decode cX3_init 22 = .ok (.newarray .int, 2) := dk_188_10 (dk_at dksX3_init_0 22 rfl rfl)
theorem dX3_init_24 : decode cX3_init 24 = .ok (.putfield 16, 3) := dk_181 0 16 (dk_at dksX3_init_1 0 rfl rfl)
theorem dX3_init_27 : decode cX3_init 27 = .ok (.aload_n 0, 1) := dk_42 (dk_at dksX3_init_1 3 rfl rfl)
theorem dX3_init_28 : decode cX3_init 28 = .ok (.bipush 108, 2) := dk_16 108 (dk_at dksX3_init_1 4 rfl rfl)
theorem dX3_init_30 : decode cX3_init 30 = .ok (.newarray .int, 2) := dk_188_10 (dk_at dksX3_init_1 6 rfl rfl)
theorem dX3_init_32 : decode cX3_init 32 = .ok (.putfield 19, 3) := dk_181 0 19 (dk_at dksX3_init_1 8 rfl rfl)
theorem dX3_init_35 : decode cX3_init 35 = .ok (.aload_n 0, 1) := dk_42 (dk_at dksX3_init_1 11 rfl rfl)
theorem dX3_init_36 : decode cX3_init 36 = .ok (.new 22, 3) := dk_187 0 22 (dk_at dksX3_init_1 12 rfl rfl)
theorem dX3_init_39 : decode cX3_init 39 = .ok (.dup, 1) := dk_89 (dk_at dksX3_init_1 15 rfl rfl)
theorem dX3_init_40 : decode cX3_init 40 = .ok (.aload_n 0, 1) := dk_42 (dk_at dksX3_init_1 16 rfl rfl)
theorem dX3_init_41 : decode cX3_init 41 = .ok (.invokespecial 24, 3) := dk_183 0 24 (dk_at dksX3_init_1 17 rfl rfl)
theorem dX3_init_44 : decode cX3_init 44 = .ok (.putfield 27, 3) := dk_181 0 27 (dk_at dksX3_init_1 20 rfl rfl)
theorem dX3_init_47 : decode cX3_init 47 = .ok (.aload_n 0, 1) := dk_42 (dk_at dksX3_init_1 23 rfl rfl)
theorem dX3_init_48 : decode cX3_init 48 = .ok (.new 22, 3) := dk_187 0 22 (dk_at dksX3_init_2 0 rfl rfl)
theorem dX3_init_51 : decode cX3_init 51 = .ok (.dup, 1) := dk_89 (dk_at dksX3_init_2 3 rfl rfl)
theorem dX3_init_52 : decode cX3_init 52 = .ok (.aload_n 0, 1) := dk_42 (dk_at dksX3_init_2 4 rfl rfl)
theorem dX3_init_53 : decode cX3_init 53 = .ok (.invokespecial 24, 3) := dk_183 0 24 (dk_at dksX3_init_2 5 rfl rfl)
theorem dX3_init_56 : decode cX3_init 56 = .ok (.putfield 31, 3) := dk_181 0 31 (dk_at dksX3_init_2 8 rfl rfl)
theorem dX3_init_59 : decode cX3_init 59 = .ok (.return_, 1) := dk_177 (dk_at dksX3_init_2 11 rfl rfl)
abbrev cX3_thrown : ByteArray := prog_6_method_2_code
def yX3_thrown : MethodName := ⟨RX3, "thrown", "()I"⟩
theorem dX3_thrown_0 : decode cX3_thrown 0 = .ok (.aload_n 0, 1) := by decide +kernel
theorem dX3_thrown_1 : decode cX3_thrown 1 = .ok (.getfield 34, 3) := by decide +kernel
theorem dX3_thrown_4 : decode cX3_thrown 4 = .ok (.ireturn, 1) := by decide +kernel
abbrev cX3_house : ByteArray := prog_6_method_9_code
def yX3_house : MethodName := ⟨RX3, "house", "(II)Z"⟩
def dkwX3_house_4 : List UInt8 := [167, 0, 4, 2, 79, 42, 180, 0, 27, 180, 0, 62, 29, 46, 2, 160, 0, 7, 4, 167, 0, 4, 3, 172]
abbrev dktX3_house_4 : List UInt8 := dkwX3_house_4 ++ []
def dkwX3_house_3 : List UInt8 := [172, 42, 180, 0, 27, 180, 0, 62, 29, 42, 180, 0, 27, 180, 0, 62, 29, 46, 2, 160, 0, 7, 3]
abbrev dktX3_house_3 : List UInt8 := dkwX3_house_3 ++ dktX3_house_4
def dkwX3_house_2 : List UInt8 := [42, 180, 0, 27, 29, 182, 0, 65, 153, 0, 17, 42, 5, 182, 0, 58, 153, 0, 7, 4, 167, 0, 4, 3]
abbrev dktX3_house_2 : List UInt8 := dkwX3_house_2 ++ dktX3_house_3
def dkwX3_house_1 : List UInt8 := [167, 0, 4, 3, 172, 16, 12, 28, 104, 27, 96, 62, 42, 180, 0, 27, 180, 0, 62, 29, 46, 157, 0, 14]
abbrev dktX3_house_1 : List UInt8 := dkwX3_house_1 ++ dktX3_house_2
def dkwX3_house_0 : List UInt8 := [42, 3, 181, 0, 34, 27, 28, 184, 0, 54, 154, 0, 17, 42, 4, 182, 0, 58, 153, 0, 7, 4]
abbrev dktX3_house_0 : List UInt8 := dkwX3_house_0 ++ dktX3_house_1
theorem dksX3_house_0 : cX3_house.data.toList.drop 0 = dktX3_house_0 := by decide +kernel
theorem dksX3_house_1 : cX3_house.data.toList.drop 22 = dktX3_house_1 := dk_seg dksX3_house_0 22 rfl rfl
theorem dksX3_house_2 : cX3_house.data.toList.drop 46 = dktX3_house_2 := dk_seg dksX3_house_1 24 rfl rfl
theorem dksX3_house_3 : cX3_house.data.toList.drop 70 = dktX3_house_3 := dk_seg dksX3_house_2 24 rfl rfl
theorem dksX3_house_4 : cX3_house.data.toList.drop 93 = dktX3_house_4 := dk_seg dksX3_house_3 23 rfl rfl
theorem dX3_house_0 : decode cX3_house 0 = .ok (.aload_n 0, 1) := dk_42 (dk_at dksX3_house_0 0 rfl rfl)
theorem dX3_house_1 : decode cX3_house 1 = .ok (.iconst 0, 1) := dk_3 (dk_at dksX3_house_0 1 rfl rfl)
theorem dX3_house_2 : decode cX3_house 2 = .ok (.putfield 34, 3) := dk_181 0 34 (dk_at dksX3_house_0 2 rfl rfl)
theorem dX3_house_5 : decode cX3_house 5 = .ok (.iload_n 1, 1) := dk_27 (dk_at dksX3_house_0 5 rfl rfl)
theorem dX3_house_6 : decode cX3_house 6 = .ok (.iload_n 2, 1) := dk_28 (dk_at dksX3_house_0 6 rfl rfl)
theorem dX3_house_7 : decode cX3_house 7 = .ok (.invokestatic 54, 3) := dk_184 0 54 (dk_at dksX3_house_0 7 rfl rfl)
theorem dX3_house_10 : decode cX3_house 10 = .ok (.ifCond .ne 17, 3) := dk_154 0 17 (dk_at dksX3_house_0 10 rfl rfl)
theorem dX3_house_13 : decode cX3_house 13 = .ok (.aload_n 0, 1) := dk_42 (dk_at dksX3_house_0 13 rfl rfl)
theorem dX3_house_14 : decode cX3_house 14 = .ok (.iconst 1, 1) := dk_4 (dk_at dksX3_house_0 14 rfl rfl)
theorem dX3_house_15 : decode cX3_house 15 = .ok (.invokevirtual 58, 3) := dk_182 0 58 (dk_at dksX3_house_0 15 rfl rfl)
theorem dX3_house_18 : decode cX3_house 18 = .ok (.ifCond .eq 7, 3) := dk_153 0 7 (dk_at dksX3_house_0 18 rfl rfl)
theorem dX3_house_21 : decode cX3_house 21 = .ok (.iconst 1, 1) := dk_4 (dk_at dksX3_house_0 21 rfl rfl)
theorem dX3_house_22 : decode cX3_house 22 = .ok (.goto 4, 3) := dk_167 0 4 (dk_at dksX3_house_1 0 rfl rfl)
theorem dX3_house_25 : decode cX3_house 25 = .ok (.iconst 0, 1) := dk_3 (dk_at dksX3_house_1 3 rfl rfl)
theorem dX3_house_26 : decode cX3_house 26 = .ok (.ireturn, 1) := dk_172 (dk_at dksX3_house_1 4 rfl rfl)
theorem dX3_house_27 : decode cX3_house 27 = .ok (.bipush 12, 2) := dk_16 12 (dk_at dksX3_house_1 5 rfl rfl)
theorem dX3_house_29 : decode cX3_house 29 = .ok (.iload_n 2, 1) := dk_28 (dk_at dksX3_house_1 7 rfl rfl)
theorem dX3_house_30 : decode cX3_house 30 = .ok (.imul, 1) := dk_104 (dk_at dksX3_house_1 8 rfl rfl)
theorem dX3_house_31 : decode cX3_house 31 = .ok (.iload_n 1, 1) := dk_27 (dk_at dksX3_house_1 9 rfl rfl)
theorem dX3_house_32 : decode cX3_house 32 = .ok (.iadd, 1) := dk_96 (dk_at dksX3_house_1 10 rfl rfl)
theorem dX3_house_33 : decode cX3_house 33 = .ok (.istore_n 3, 1) := dk_62 (dk_at dksX3_house_1 11 rfl rfl)
theorem dX3_house_34 : decode cX3_house 34 = .ok (.aload_n 0, 1) := dk_42 (dk_at dksX3_house_1 12 rfl rfl)
theorem dX3_house_35 : decode cX3_house 35 = .ok (.getfield 27, 3) := dk_180 0 27 (dk_at dksX3_house_1 13 rfl rfl)
theorem dX3_house_38 : decode cX3_house 38 = .ok (.getfield 62, 3) := dk_180 0 62 (dk_at dksX3_house_1 16 rfl rfl)
theorem dX3_house_41 : decode cX3_house 41 = .ok (.iload_n 3, 1) := dk_29 (dk_at dksX3_house_1 19 rfl rfl)
theorem dX3_house_42 : decode cX3_house 42 = .ok (.iaload, 1) := dk_46 (dk_at dksX3_house_1 20 rfl rfl)
theorem dX3_house_43 : decode cX3_house 43 = .ok (.ifCond .gt 14, 3) := dk_157 0 14 (dk_at dksX3_house_1 21 rfl rfl)
theorem dX3_house_46 : decode cX3_house 46 = .ok (.aload_n 0, 1) := dk_42 (dk_at dksX3_house_2 0 rfl rfl)
theorem dX3_house_47 : decode cX3_house 47 = .ok (.getfield 27, 3) := dk_180 0 27 (dk_at dksX3_house_2 1 rfl rfl)
theorem dX3_house_50 : decode cX3_house 50 = .ok (.iload_n 3, 1) := dk_29 (dk_at dksX3_house_2 4 rfl rfl)
theorem dX3_house_51 : decode cX3_house 51 = .ok (.invokevirtual 65, 3) := dk_182 0 65 (dk_at dksX3_house_2 5 rfl rfl)
theorem dX3_house_54 : decode cX3_house 54 = .ok (.ifCond .eq 17, 3) := dk_153 0 17 (dk_at dksX3_house_2 8 rfl rfl)
theorem dX3_house_57 : decode cX3_house 57 = .ok (.aload_n 0, 1) := dk_42 (dk_at dksX3_house_2 11 rfl rfl)
theorem dX3_house_58 : decode cX3_house 58 = .ok (.iconst 2, 1) := dk_5 (dk_at dksX3_house_2 12 rfl rfl)
theorem dX3_house_59 : decode cX3_house 59 = .ok (.invokevirtual 58, 3) := dk_182 0 58 (dk_at dksX3_house_2 13 rfl rfl)
theorem dX3_house_62 : decode cX3_house 62 = .ok (.ifCond .eq 7, 3) := dk_153 0 7 (dk_at dksX3_house_2 16 rfl rfl)
theorem dX3_house_65 : decode cX3_house 65 = .ok (.iconst 1, 1) := dk_4 (dk_at dksX3_house_2 19 rfl rfl)
theorem dX3_house_66 : decode cX3_house 66 = .ok (.goto 4, 3) := dk_167 0 4 (dk_at dksX3_house_2 20 rfl rfl)
theorem dX3_house_69 : decode cX3_house 69 = .ok (.iconst 0, 1) := dk_3 (dk_at dksX3_house_2 23 rfl rfl)
theorem dX3_house_70 : decode cX3_house 70 = .ok (.ireturn, 1) := dk_172 (dk_at dksX3_house_3 0 rfl rfl)
theorem dX3_house_71 : decode cX3_house 71 = .ok (.aload_n 0, 1) := dk_42 (dk_at dksX3_house_3 1 rfl rfl)
theorem dX3_house_72 : decode cX3_house 72 = .ok (.getfield 27, 3) := dk_180 0 27 (dk_at dksX3_house_3 2 rfl rfl)
theorem dX3_house_75 : decode cX3_house 75 = .ok (.getfield 62, 3) := dk_180 0 62 (dk_at dksX3_house_3 5 rfl rfl)
theorem dX3_house_78 : decode cX3_house 78 = .ok (.iload_n 3, 1) := dk_29 (dk_at dksX3_house_3 8 rfl rfl)
theorem dX3_house_79 : decode cX3_house 79 = .ok (.aload_n 0, 1) := dk_42 (dk_at dksX3_house_3 9 rfl rfl)
theorem dX3_house_80 : decode cX3_house 80 = .ok (.getfield 27, 3) := dk_180 0 27 (dk_at dksX3_house_3 10 rfl rfl)
theorem dX3_house_83 : decode cX3_house 83 = .ok (.getfield 62, 3) := dk_180 0 62 (dk_at dksX3_house_3 13 rfl rfl)
theorem dX3_house_86 : decode cX3_house 86 = .ok (.iload_n 3, 1) := dk_29 (dk_at dksX3_house_3 16 rfl rfl)
theorem dX3_house_87 : decode cX3_house 87 = .ok (.iaload, 1) := dk_46 (dk_at dksX3_house_3 17 rfl rfl)
theorem dX3_house_88 : decode cX3_house 88 = .ok (.iconst (-1), 1) := dk_2 (dk_at dksX3_house_3 18 rfl rfl)
theorem dX3_house_89 : decode cX3_house 89 = .ok (.if_icmp .ne 7, 3) := dk_160 0 7 (dk_at dksX3_house_3 19 rfl rfl)
theorem dX3_house_92 : decode cX3_house 92 = .ok (.iconst 0, 1) := dk_3 (dk_at dksX3_house_3 22 rfl rfl)
theorem dX3_house_93 : decode cX3_house 93 = .ok (.goto 4, 3) := dk_167 0 4 (dk_at dksX3_house_4 0 rfl rfl)
theorem dX3_house_96 : decode cX3_house 96 = .ok (.iconst (-1), 1) := dk_2 (dk_at dksX3_house_4 3 rfl rfl)
theorem dX3_house_97 : decode cX3_house 97 = .ok (.iastore, 1) := dk_79 (dk_at dksX3_house_4 4 rfl rfl)
theorem dX3_house_98 : decode cX3_house 98 = .ok (.aload_n 0, 1) := dk_42 (dk_at dksX3_house_4 5 rfl rfl)
theorem dX3_house_99 : decode cX3_house 99 = .ok (.getfield 27, 3) := dk_180 0 27 (dk_at dksX3_house_4 6 rfl rfl)
theorem dX3_house_102 : decode cX3_house 102 = .ok (.getfield 62, 3) := dk_180 0 62 (dk_at dksX3_house_4 9 rfl rfl)
theorem dX3_house_105 : decode cX3_house 105 = .ok (.iload_n 3, 1) := dk_29 (dk_at dksX3_house_4 12 rfl rfl)
theorem dX3_house_106 : decode cX3_house 106 = .ok (.iaload, 1) := dk_46 (dk_at dksX3_house_4 13 rfl rfl)
theorem dX3_house_107 : decode cX3_house 107 = .ok (.iconst (-1), 1) := dk_2 (dk_at dksX3_house_4 14 rfl rfl)
theorem dX3_house_108 : decode cX3_house 108 = .ok (.if_icmp .ne 7, 3) := dk_160 0 7 (dk_at dksX3_house_4 15 rfl rfl)
theorem dX3_house_111 : decode cX3_house 111 = .ok (.iconst 1, 1) := dk_4 (dk_at dksX3_house_4 18 rfl rfl)
theorem dX3_house_112 : decode cX3_house 112 = .ok (.goto 4, 3) := dk_167 0 4 (dk_at dksX3_house_4 19 rfl rfl)
theorem dX3_house_115 : decode cX3_house 115 = .ok (.iconst 0, 1) := dk_3 (dk_at dksX3_house_4 22 rfl rfl)
theorem dX3_house_116 : decode cX3_house 116 = .ok (.ireturn, 1) := dk_172 (dk_at dksX3_house_4 23 rfl rfl)
abbrev cX3_isCell : ByteArray := prog_6_method_5_code
def yX3_isCell : MethodName := ⟨RX3, "isCell", "(II)Z"⟩
def dkwX3_isCell_1 : List UInt8 := [3, 172]
abbrev dktX3_isCell_1 : List UInt8 := dkwX3_isCell_1 ++ []
def dkwX3_isCell_0 : List UInt8 := [26, 3, 16, 11, 184, 0, 38, 153, 0, 17, 27, 3, 16, 8, 184, 0, 38, 153, 0, 7, 4, 167, 0, 4]
abbrev dktX3_isCell_0 : List UInt8 := dkwX3_isCell_0 ++ dktX3_isCell_1
theorem dksX3_isCell_0 : cX3_isCell.data.toList.drop 0 = dktX3_isCell_0 := by decide +kernel
theorem dksX3_isCell_1 : cX3_isCell.data.toList.drop 24 = dktX3_isCell_1 := dk_seg dksX3_isCell_0 24 rfl rfl
theorem dX3_isCell_0 : decode cX3_isCell 0 = .ok (.iload_n 0, 1) := dk_26 (dk_at dksX3_isCell_0 0 rfl rfl)
theorem dX3_isCell_1 : decode cX3_isCell 1 = .ok (.iconst 0, 1) := dk_3 (dk_at dksX3_isCell_0 1 rfl rfl)
theorem dX3_isCell_2 : decode cX3_isCell 2 = .ok (.bipush 11, 2) := dk_16 11 (dk_at dksX3_isCell_0 2 rfl rfl)
theorem dX3_isCell_4 : decode cX3_isCell 4 = .ok (.invokestatic 38, 3) := dk_184 0 38 (dk_at dksX3_isCell_0 4 rfl rfl)
theorem dX3_isCell_7 : decode cX3_isCell 7 = .ok (.ifCond .eq 17, 3) := dk_153 0 17 (dk_at dksX3_isCell_0 7 rfl rfl)
theorem dX3_isCell_10 : decode cX3_isCell 10 = .ok (.iload_n 1, 1) := dk_27 (dk_at dksX3_isCell_0 10 rfl rfl)
theorem dX3_isCell_11 : decode cX3_isCell 11 = .ok (.iconst 0, 1) := dk_3 (dk_at dksX3_isCell_0 11 rfl rfl)
theorem dX3_isCell_12 : decode cX3_isCell 12 = .ok (.bipush 8, 2) := dk_16 8 (dk_at dksX3_isCell_0 12 rfl rfl)
theorem dX3_isCell_14 : decode cX3_isCell 14 = .ok (.invokestatic 38, 3) := dk_184 0 38 (dk_at dksX3_isCell_0 14 rfl rfl)
theorem dX3_isCell_17 : decode cX3_isCell 17 = .ok (.ifCond .eq 7, 3) := dk_153 0 7 (dk_at dksX3_isCell_0 17 rfl rfl)
theorem dX3_isCell_20 : decode cX3_isCell 20 = .ok (.iconst 1, 1) := dk_4 (dk_at dksX3_isCell_0 20 rfl rfl)
theorem dX3_isCell_21 : decode cX3_isCell 21 = .ok (.goto 4, 3) := dk_167 0 4 (dk_at dksX3_isCell_0 21 rfl rfl)
theorem dX3_isCell_24 : decode cX3_isCell 24 = .ok (.iconst 0, 1) := dk_3 (dk_at dksX3_isCell_1 0 rfl rfl)
theorem dX3_isCell_25 : decode cX3_isCell 25 = .ok (.ireturn, 1) := dk_172 (dk_at dksX3_isCell_1 1 rfl rfl)
abbrev cX3_isIn : ByteArray := prog_6_method_4_code
def yX3_isIn : MethodName := ⟨RX3, "isIn", "(III)Z"⟩
def dkwX3_isIn_0 : List UInt8 := [26, 27, 161, 0, 12, 26, 28, 163, 0, 7, 4, 167, 0, 4, 3, 172]
abbrev dktX3_isIn_0 : List UInt8 := dkwX3_isIn_0 ++ []
theorem dksX3_isIn_0 : cX3_isIn.data.toList.drop 0 = dktX3_isIn_0 := by decide +kernel
theorem dX3_isIn_0 : decode cX3_isIn 0 = .ok (.iload_n 0, 1) := dk_26 (dk_at dksX3_isIn_0 0 rfl rfl)
theorem dX3_isIn_1 : decode cX3_isIn 1 = .ok (.iload_n 1, 1) := dk_27 (dk_at dksX3_isIn_0 1 rfl rfl)
theorem dX3_isIn_2 : decode cX3_isIn 2 = .ok (.if_icmp .lt 12, 3) := dk_161 0 12 (dk_at dksX3_isIn_0 2 rfl rfl)
theorem dX3_isIn_5 : decode cX3_isIn 5 = .ok (.iload_n 0, 1) := dk_26 (dk_at dksX3_isIn_0 5 rfl rfl)
theorem dX3_isIn_6 : decode cX3_isIn 6 = .ok (.iload_n 2, 1) := dk_28 (dk_at dksX3_isIn_0 6 rfl rfl)
theorem dX3_isIn_7 : decode cX3_isIn 7 = .ok (.if_icmp .gt 7, 3) := dk_163 0 7 (dk_at dksX3_isIn_0 7 rfl rfl)
theorem dX3_isIn_10 : decode cX3_isIn 10 = .ok (.iconst 1, 1) := dk_4 (dk_at dksX3_isIn_0 10 rfl rfl)
theorem dX3_isIn_11 : decode cX3_isIn 11 = .ok (.goto 4, 3) := dk_167 0 4 (dk_at dksX3_isIn_0 11 rfl rfl)
theorem dX3_isIn_14 : decode cX3_isIn 14 = .ok (.iconst 0, 1) := dk_3 (dk_at dksX3_isIn_0 14 rfl rfl)
theorem dX3_isIn_15 : decode cX3_isIn 15 = .ok (.ireturn, 1) := dk_172 (dk_at dksX3_isIn_0 15 rfl rfl)
abbrev cX3_no : ByteArray := prog_6_method_3_code
def yX3_no : MethodName := ⟨RX3, "no", "(I)I"⟩
def dkwX3_no_0 : List UInt8 := [42, 27, 181, 0, 34, 3, 172]
abbrev dktX3_no_0 : List UInt8 := dkwX3_no_0 ++ []
theorem dksX3_no_0 : cX3_no.data.toList.drop 0 = dktX3_no_0 := by decide +kernel
theorem dX3_no_0 : decode cX3_no 0 = .ok (.aload_n 0, 1) := dk_42 (dk_at dksX3_no_0 0 rfl rfl)
theorem dX3_no_1 : decode cX3_no 1 = .ok (.iload_n 1, 1) := dk_27 (dk_at dksX3_no_0 1 rfl rfl)
theorem dX3_no_2 : decode cX3_no 2 = .ok (.putfield 34, 3) := dk_181 0 34 (dk_at dksX3_no_0 2 rfl rfl)
theorem dX3_no_5 : decode cX3_no 5 = .ok (.iconst 0, 1) := dk_3 (dk_at dksX3_no_0 5 rfl rfl)
theorem dX3_no_6 : decode cX3_no 6 = .ok (.ireturn, 1) := dk_172 (dk_at dksX3_no_0 6 rfl rfl)
abbrev cX3_block : ByteArray := prog_6_method_10_code
def yX3_block : MethodName := ⟨RX3, "block", "(III)I"⟩
def dkwX3_block_4 : List UInt8 := [21, 4, 29, 79, 21, 5, 172]
abbrev dktX3_block_4 : List UInt8 := dkwX3_block_4 ++ []
def dkwX3_block_3 : List UInt8 := [182, 0, 58, 172, 42, 180, 0, 27, 180, 0, 62, 21, 4, 46, 54, 5, 42, 180, 0, 27, 180, 0, 62]
abbrev dktX3_block_3 : List UInt8 := dkwX3_block_3 ++ dktX3_block_4
def dkwX3_block_2 : List UInt8 := [180, 0, 62, 21, 4, 46, 2, 159, 0, 15, 42, 180, 0, 27, 21, 4, 182, 0, 65, 153, 0, 9, 42, 6]
abbrev dktX3_block_2 : List UInt8 := dkwX3_block_2 ++ dktX3_block_3
def dkwX3_block_1 : List UInt8 := [184, 0, 38, 154, 0, 9, 42, 5, 182, 0, 58, 172, 16, 12, 28, 104, 27, 96, 54, 4, 42, 180, 0, 27]
abbrev dktX3_block_1 : List UInt8 := dkwX3_block_1 ++ dktX3_block_2
def dkwX3_block_0 : List UInt8 := [42, 3, 181, 0, 34, 27, 28, 184, 0, 54, 154, 0, 9, 42, 4, 182, 0, 58, 172, 29, 3, 6]
abbrev dktX3_block_0 : List UInt8 := dkwX3_block_0 ++ dktX3_block_1
theorem dksX3_block_0 : cX3_block.data.toList.drop 0 = dktX3_block_0 := by decide +kernel
theorem dksX3_block_1 : cX3_block.data.toList.drop 22 = dktX3_block_1 := dk_seg dksX3_block_0 22 rfl rfl
theorem dksX3_block_2 : cX3_block.data.toList.drop 46 = dktX3_block_2 := dk_seg dksX3_block_1 24 rfl rfl
theorem dksX3_block_3 : cX3_block.data.toList.drop 70 = dktX3_block_3 := dk_seg dksX3_block_2 24 rfl rfl
theorem dksX3_block_4 : cX3_block.data.toList.drop 93 = dktX3_block_4 := dk_seg dksX3_block_3 23 rfl rfl
theorem dX3_block_0 : decode cX3_block 0 = .ok (.aload_n 0, 1) := dk_42 (dk_at dksX3_block_0 0 rfl rfl)
theorem dX3_block_1 : decode cX3_block 1 = .ok (.iconst 0, 1) := dk_3 (dk_at dksX3_block_0 1 rfl rfl)
theorem dX3_block_2 : decode cX3_block 2 = .ok (.putfield 34, 3) := dk_181 0 34 (dk_at dksX3_block_0 2 rfl rfl)
theorem dX3_block_5 : decode cX3_block 5 = .ok (.iload_n 1, 1) := dk_27 (dk_at dksX3_block_0 5 rfl rfl)
theorem dX3_block_6 : decode cX3_block 6 = .ok (.iload_n 2, 1) := dk_28 (dk_at dksX3_block_0 6 rfl rfl)
theorem dX3_block_7 : decode cX3_block 7 = .ok (.invokestatic 54, 3) := dk_184 0 54 (dk_at dksX3_block_0 7 rfl rfl)
theorem dX3_block_10 : decode cX3_block 10 = .ok (.ifCond .ne 9, 3) := dk_154 0 9 (dk_at dksX3_block_0 10 rfl rfl)
theorem dX3_block_13 : decode cX3_block 13 = .ok (.aload_n 0, 1) := dk_42 (dk_at dksX3_block_0 13 rfl rfl)
theorem dX3_block_14 : decode cX3_block 14 = .ok (.iconst 1, 1) := dk_4 (dk_at dksX3_block_0 14 rfl rfl)
theorem dX3_block_15 : decode cX3_block 15 = .ok (.invokevirtual 58, 3) := dk_182 0 58 (dk_at dksX3_block_0 15 rfl rfl)
theorem dX3_block_18 : decode cX3_block 18 = .ok (.ireturn, 1) := dk_172 (dk_at dksX3_block_0 18 rfl rfl)
theorem dX3_block_19 : decode cX3_block 19 = .ok (.iload_n 3, 1) := dk_29 (dk_at dksX3_block_0 19 rfl rfl)
theorem dX3_block_20 : decode cX3_block 20 = .ok (.iconst 0, 1) := dk_3 (dk_at dksX3_block_0 20 rfl rfl)
theorem dX3_block_21 : decode cX3_block 21 = .ok (.iconst 3, 1) := dk_6 (dk_at dksX3_block_0 21 rfl rfl)
theorem dX3_block_22 : decode cX3_block 22 = .ok (.invokestatic 38, 3) := dk_184 0 38 (dk_at dksX3_block_1 0 rfl rfl)
theorem dX3_block_25 : decode cX3_block 25 = .ok (.ifCond .ne 9, 3) := dk_154 0 9 (dk_at dksX3_block_1 3 rfl rfl)
theorem dX3_block_28 : decode cX3_block 28 = .ok (.aload_n 0, 1) := dk_42 (dk_at dksX3_block_1 6 rfl rfl)
theorem dX3_block_29 : decode cX3_block 29 = .ok (.iconst 2, 1) := dk_5 (dk_at dksX3_block_1 7 rfl rfl)
theorem dX3_block_30 : decode cX3_block 30 = .ok (.invokevirtual 58, 3) := dk_182 0 58 (dk_at dksX3_block_1 8 rfl rfl)
theorem dX3_block_33 : decode cX3_block 33 = .ok (.ireturn, 1) := dk_172 (dk_at dksX3_block_1 11 rfl rfl)
theorem dX3_block_34 : decode cX3_block 34 = .ok (.bipush 12, 2) := dk_16 12 (dk_at dksX3_block_1 12 rfl rfl)
theorem dX3_block_36 : decode cX3_block 36 = .ok (.iload_n 2, 1) := dk_28 (dk_at dksX3_block_1 14 rfl rfl)
theorem dX3_block_37 : decode cX3_block 37 = .ok (.imul, 1) := dk_104 (dk_at dksX3_block_1 15 rfl rfl)
theorem dX3_block_38 : decode cX3_block 38 = .ok (.iload_n 1, 1) := dk_27 (dk_at dksX3_block_1 16 rfl rfl)
theorem dX3_block_39 : decode cX3_block 39 = .ok (.iadd, 1) := dk_96 (dk_at dksX3_block_1 17 rfl rfl)
theorem dX3_block_40 : decode cX3_block 40 = .ok (.istore 4, 2) := dk_54 4 (dk_at dksX3_block_1 18 rfl rfl)
theorem dX3_block_42 : decode cX3_block 42 = .ok (.aload_n 0, 1) := dk_42 (dk_at dksX3_block_1 20 rfl rfl)
theorem dX3_block_43 : decode cX3_block 43 = .ok (.getfield 27, 3) := dk_180 0 27 (dk_at dksX3_block_1 21 rfl rfl)
theorem dX3_block_46 : decode cX3_block 46 = .ok (.getfield 62, 3) := dk_180 0 62 (dk_at dksX3_block_2 0 rfl rfl)
theorem dX3_block_49 : decode cX3_block 49 = .ok (.iload 4, 2) := dk_21 4 (dk_at dksX3_block_2 3 rfl rfl)
theorem dX3_block_51 : decode cX3_block 51 = .ok (.iaload, 1) := dk_46 (dk_at dksX3_block_2 5 rfl rfl)
theorem dX3_block_52 : decode cX3_block 52 = .ok (.iconst (-1), 1) := dk_2 (dk_at dksX3_block_2 6 rfl rfl)
theorem dX3_block_53 : decode cX3_block 53 = .ok (.if_icmp .eq 15, 3) := dk_159 0 15 (dk_at dksX3_block_2 7 rfl rfl)
theorem dX3_block_56 : decode cX3_block 56 = .ok (.aload_n 0, 1) := dk_42 (dk_at dksX3_block_2 10 rfl rfl)
theorem dX3_block_57 : decode cX3_block 57 = .ok (.getfield 27, 3) := dk_180 0 27 (dk_at dksX3_block_2 11 rfl rfl)
theorem dX3_block_60 : decode cX3_block 60 = .ok (.iload 4, 2) := dk_21 4 (dk_at dksX3_block_2 14 rfl rfl)
theorem dX3_block_62 : decode cX3_block 62 = .ok (.invokevirtual 65, 3) := dk_182 0 65 (dk_at dksX3_block_2 16 rfl rfl)
theorem dX3_block_65 : decode cX3_block 65 = .ok (.ifCond .eq 9, 3) := dk_153 0 9 (dk_at dksX3_block_2 19 rfl rfl)
theorem dX3_block_68 : decode cX3_block 68 = .ok (.aload_n 0, 1) := dk_42 (dk_at dksX3_block_2 22 rfl rfl)
theorem dX3_block_69 : decode cX3_block 69 = .ok (.iconst 3, 1) := dk_6 (dk_at dksX3_block_2 23 rfl rfl)
theorem dX3_block_70 : decode cX3_block 70 = .ok (.invokevirtual 58, 3) := dk_182 0 58 (dk_at dksX3_block_3 0 rfl rfl)
theorem dX3_block_73 : decode cX3_block 73 = .ok (.ireturn, 1) := dk_172 (dk_at dksX3_block_3 3 rfl rfl)
theorem dX3_block_74 : decode cX3_block 74 = .ok (.aload_n 0, 1) := dk_42 (dk_at dksX3_block_3 4 rfl rfl)
theorem dX3_block_75 : decode cX3_block 75 = .ok (.getfield 27, 3) := dk_180 0 27 (dk_at dksX3_block_3 5 rfl rfl)
theorem dX3_block_78 : decode cX3_block 78 = .ok (.getfield 62, 3) := dk_180 0 62 (dk_at dksX3_block_3 8 rfl rfl)
theorem dX3_block_81 : decode cX3_block 81 = .ok (.iload 4, 2) := dk_21 4 (dk_at dksX3_block_3 11 rfl rfl)
theorem dX3_block_83 : decode cX3_block 83 = .ok (.iaload, 1) := dk_46 (dk_at dksX3_block_3 13 rfl rfl)
theorem dX3_block_84 : decode cX3_block 84 = .ok (.istore 5, 2) := dk_54 5 (dk_at dksX3_block_3 14 rfl rfl)
theorem dX3_block_86 : decode cX3_block 86 = .ok (.aload_n 0, 1) := dk_42 (dk_at dksX3_block_3 16 rfl rfl)
theorem dX3_block_87 : decode cX3_block 87 = .ok (.getfield 27, 3) := dk_180 0 27 (dk_at dksX3_block_3 17 rfl rfl)
theorem dX3_block_90 : decode cX3_block 90 = .ok (.getfield 62, 3) := dk_180 0 62 (dk_at dksX3_block_3 20 rfl rfl)
theorem dX3_block_93 : decode cX3_block 93 = .ok (.iload 4, 2) := dk_21 4 (dk_at dksX3_block_4 0 rfl rfl)
theorem dX3_block_95 : decode cX3_block 95 = .ok (.iload_n 3, 1) := dk_29 (dk_at dksX3_block_4 2 rfl rfl)
theorem dX3_block_96 : decode cX3_block 96 = .ok (.iastore, 1) := dk_79 (dk_at dksX3_block_4 3 rfl rfl)
theorem dX3_block_97 : decode cX3_block 97 = .ok (.iload 5, 2) := dk_21 5 (dk_at dksX3_block_4 4 rfl rfl)
theorem dX3_block_99 : decode cX3_block 99 = .ok (.ireturn, 1) := dk_172 (dk_at dksX3_block_4 6 rfl rfl)
abbrev cX3_cell : ByteArray := prog_6_method_11_code
def yX3_cell : MethodName := ⟨RX3, "cell", "(II)I"⟩
def dkwX3_cell_1 : List UInt8 := [27, 96, 46, 167, 0, 8, 42, 4, 182, 0, 58, 172]
abbrev dktX3_cell_1 : List UInt8 := dkwX3_cell_1 ++ []
def dkwX3_cell_0 : List UInt8 := [42, 3, 181, 0, 34, 27, 28, 184, 0, 54, 153, 0, 20, 42, 180, 0, 27, 180, 0, 62, 16, 12, 28, 104]
abbrev dktX3_cell_0 : List UInt8 := dkwX3_cell_0 ++ dktX3_cell_1
theorem dksX3_cell_0 : cX3_cell.data.toList.drop 0 = dktX3_cell_0 := by decide +kernel
theorem dksX3_cell_1 : cX3_cell.data.toList.drop 24 = dktX3_cell_1 := dk_seg dksX3_cell_0 24 rfl rfl
theorem dX3_cell_0 : decode cX3_cell 0 = .ok (.aload_n 0, 1) := dk_42 (dk_at dksX3_cell_0 0 rfl rfl)
theorem dX3_cell_1 : decode cX3_cell 1 = .ok (.iconst 0, 1) := dk_3 (dk_at dksX3_cell_0 1 rfl rfl)
theorem dX3_cell_2 : decode cX3_cell 2 = .ok (.putfield 34, 3) := dk_181 0 34 (dk_at dksX3_cell_0 2 rfl rfl)
theorem dX3_cell_5 : decode cX3_cell 5 = .ok (.iload_n 1, 1) := dk_27 (dk_at dksX3_cell_0 5 rfl rfl)
theorem dX3_cell_6 : decode cX3_cell 6 = .ok (.iload_n 2, 1) := dk_28 (dk_at dksX3_cell_0 6 rfl rfl)
theorem dX3_cell_7 : decode cX3_cell 7 = .ok (.invokestatic 54, 3) := dk_184 0 54 (dk_at dksX3_cell_0 7 rfl rfl)
theorem dX3_cell_10 : decode cX3_cell 10 = .ok (.ifCond .eq 20, 3) := dk_153 0 20 (dk_at dksX3_cell_0 10 rfl rfl)
theorem dX3_cell_13 : decode cX3_cell 13 = .ok (.aload_n 0, 1) := dk_42 (dk_at dksX3_cell_0 13 rfl rfl)
theorem dX3_cell_14 : decode cX3_cell 14 = .ok (.getfield 27, 3) := dk_180 0 27 (dk_at dksX3_cell_0 14 rfl rfl)
theorem dX3_cell_17 : decode cX3_cell 17 = .ok (.getfield 62, 3) := dk_180 0 62 (dk_at dksX3_cell_0 17 rfl rfl)
theorem dX3_cell_20 : decode cX3_cell 20 = .ok (.bipush 12, 2) := dk_16 12 (dk_at dksX3_cell_0 20 rfl rfl)
theorem dX3_cell_22 : decode cX3_cell 22 = .ok (.iload_n 2, 1) := dk_28 (dk_at dksX3_cell_0 22 rfl rfl)
theorem dX3_cell_23 : decode cX3_cell 23 = .ok (.imul, 1) := dk_104 (dk_at dksX3_cell_0 23 rfl rfl)
theorem dX3_cell_24 : decode cX3_cell 24 = .ok (.iload_n 1, 1) := dk_27 (dk_at dksX3_cell_1 0 rfl rfl)
theorem dX3_cell_25 : decode cX3_cell 25 = .ok (.iadd, 1) := dk_96 (dk_at dksX3_cell_1 1 rfl rfl)
theorem dX3_cell_26 : decode cX3_cell 26 = .ok (.iaload, 1) := dk_46 (dk_at dksX3_cell_1 2 rfl rfl)
theorem dX3_cell_27 : decode cX3_cell 27 = .ok (.goto 8, 3) := dk_167 0 8 (dk_at dksX3_cell_1 3 rfl rfl)
theorem dX3_cell_30 : decode cX3_cell 30 = .ok (.aload_n 0, 1) := dk_42 (dk_at dksX3_cell_1 6 rfl rfl)
theorem dX3_cell_31 : decode cX3_cell 31 = .ok (.iconst 1, 1) := dk_4 (dk_at dksX3_cell_1 7 rfl rfl)
theorem dX3_cell_32 : decode cX3_cell 32 = .ok (.invokevirtual 58, 3) := dk_182 0 58 (dk_at dksX3_cell_1 8 rfl rfl)
theorem dX3_cell_35 : decode cX3_cell 35 = .ok (.ireturn, 1) := dk_172 (dk_at dksX3_cell_1 11 rfl rfl)
abbrev cX3_gather : ByteArray := prog_6_method_12_code
def yX3_gather : MethodName := ⟨RX3, "gather", "(III)I"⟩
def dkwX3_gather_5 : List UInt8 := [4, 96, 181, 0, 42, 42, 180, 0, 42, 4, 100, 172]
abbrev dktX3_gather_5 : List UInt8 := dkwX3_gather_5 ++ []
def dkwX3_gather_4 : List UInt8 := [42, 180, 0, 42, 29, 79, 42, 180, 0, 27, 180, 0, 75, 42, 180, 0, 42, 4, 79, 42, 89, 180, 0, 42]
abbrev dktX3_gather_4 : List UInt8 := dkwX3_gather_4 ++ dktX3_gather_5
def dkwX3_gather_3 : List UInt8 := [180, 0, 27, 180, 0, 69, 42, 180, 0, 42, 16, 12, 28, 104, 27, 96, 79, 42, 180, 0, 27, 180, 0, 72]
abbrev dktX3_gather_3 : List UInt8 := dkwX3_gather_3 ++ dktX3_gather_4
def dkwX3_gather_2 : List UInt8 := [180, 0, 27, 180, 0, 62, 16, 12, 28, 104, 27, 96, 46, 153, 0, 9, 42, 6, 182, 0, 58, 172, 42]
abbrev dktX3_gather_2 : List UInt8 := dkwX3_gather_2 ++ dktX3_gather_3
def dkwX3_gather_1 : List UInt8 := [184, 0, 38, 154, 0, 9, 42, 5, 182, 0, 58, 172, 42, 180, 0, 42, 16, 6, 159, 0, 20, 42]
abbrev dktX3_gather_1 : List UInt8 := dkwX3_gather_1 ++ dktX3_gather_2
def dkwX3_gather_0 : List UInt8 := [42, 3, 181, 0, 34, 27, 28, 184, 0, 54, 154, 0, 9, 42, 4, 182, 0, 58, 172, 29, 4, 16, 9]
abbrev dktX3_gather_0 : List UInt8 := dkwX3_gather_0 ++ dktX3_gather_1
theorem dksX3_gather_0 : cX3_gather.data.toList.drop 0 = dktX3_gather_0 := by decide +kernel
theorem dksX3_gather_1 : cX3_gather.data.toList.drop 23 = dktX3_gather_1 := dk_seg dksX3_gather_0 23 rfl rfl
theorem dksX3_gather_2 : cX3_gather.data.toList.drop 45 = dktX3_gather_2 := dk_seg dksX3_gather_1 22 rfl rfl
theorem dksX3_gather_3 : cX3_gather.data.toList.drop 68 = dktX3_gather_3 := dk_seg dksX3_gather_2 23 rfl rfl
theorem dksX3_gather_4 : cX3_gather.data.toList.drop 92 = dktX3_gather_4 := dk_seg dksX3_gather_3 24 rfl rfl
theorem dksX3_gather_5 : cX3_gather.data.toList.drop 116 = dktX3_gather_5 := dk_seg dksX3_gather_4 24 rfl rfl
theorem dX3_gather_0 : decode cX3_gather 0 = .ok (.aload_n 0, 1) := dk_42 (dk_at dksX3_gather_0 0 rfl rfl)
theorem dX3_gather_1 : decode cX3_gather 1 = .ok (.iconst 0, 1) := dk_3 (dk_at dksX3_gather_0 1 rfl rfl)
theorem dX3_gather_2 : decode cX3_gather 2 = .ok (.putfield 34, 3) := dk_181 0 34 (dk_at dksX3_gather_0 2 rfl rfl)
theorem dX3_gather_5 : decode cX3_gather 5 = .ok (.iload_n 1, 1) := dk_27 (dk_at dksX3_gather_0 5 rfl rfl)
theorem dX3_gather_6 : decode cX3_gather 6 = .ok (.iload_n 2, 1) := dk_28 (dk_at dksX3_gather_0 6 rfl rfl)
theorem dX3_gather_7 : decode cX3_gather 7 = .ok (.invokestatic 54, 3) := dk_184 0 54 (dk_at dksX3_gather_0 7 rfl rfl)
theorem dX3_gather_10 : decode cX3_gather 10 = .ok (.ifCond .ne 9, 3) := dk_154 0 9 (dk_at dksX3_gather_0 10 rfl rfl)
theorem dX3_gather_13 : decode cX3_gather 13 = .ok (.aload_n 0, 1) := dk_42 (dk_at dksX3_gather_0 13 rfl rfl)
theorem dX3_gather_14 : decode cX3_gather 14 = .ok (.iconst 1, 1) := dk_4 (dk_at dksX3_gather_0 14 rfl rfl)
theorem dX3_gather_15 : decode cX3_gather 15 = .ok (.invokevirtual 58, 3) := dk_182 0 58 (dk_at dksX3_gather_0 15 rfl rfl)
theorem dX3_gather_18 : decode cX3_gather 18 = .ok (.ireturn, 1) := dk_172 (dk_at dksX3_gather_0 18 rfl rfl)
theorem dX3_gather_19 : decode cX3_gather 19 = .ok (.iload_n 3, 1) := dk_29 (dk_at dksX3_gather_0 19 rfl rfl)
theorem dX3_gather_20 : decode cX3_gather 20 = .ok (.iconst 1, 1) := dk_4 (dk_at dksX3_gather_0 20 rfl rfl)
theorem dX3_gather_21 : decode cX3_gather 21 = .ok (.bipush 9, 2) := dk_16 9 (dk_at dksX3_gather_0 21 rfl rfl)
theorem dX3_gather_23 : decode cX3_gather 23 = .ok (.invokestatic 38, 3) := dk_184 0 38 (dk_at dksX3_gather_1 0 rfl rfl)
theorem dX3_gather_26 : decode cX3_gather 26 = .ok (.ifCond .ne 9, 3) := dk_154 0 9 (dk_at dksX3_gather_1 3 rfl rfl)
theorem dX3_gather_29 : decode cX3_gather 29 = .ok (.aload_n 0, 1) := dk_42 (dk_at dksX3_gather_1 6 rfl rfl)
theorem dX3_gather_30 : decode cX3_gather 30 = .ok (.iconst 2, 1) := dk_5 (dk_at dksX3_gather_1 7 rfl rfl)
theorem dX3_gather_31 : decode cX3_gather 31 = .ok (.invokevirtual 58, 3) := dk_182 0 58 (dk_at dksX3_gather_1 8 rfl rfl)
theorem dX3_gather_34 : decode cX3_gather 34 = .ok (.ireturn, 1) := dk_172 (dk_at dksX3_gather_1 11 rfl rfl)
theorem dX3_gather_35 : decode cX3_gather 35 = .ok (.aload_n 0, 1) := dk_42 (dk_at dksX3_gather_1 12 rfl rfl)
theorem dX3_gather_36 : decode cX3_gather 36 = .ok (.getfield 42, 3) := dk_180 0 42 (dk_at dksX3_gather_1 13 rfl rfl)
theorem dX3_gather_39 : decode cX3_gather 39 = .ok (.bipush 6, 2) := dk_16 6 (dk_at dksX3_gather_1 16 rfl rfl)
theorem dX3_gather_41 : decode cX3_gather 41 = .ok (.if_icmp .eq 20, 3) := dk_159 0 20 (dk_at dksX3_gather_1 18 rfl rfl)
theorem dX3_gather_44 : decode cX3_gather 44 = .ok (.aload_n 0, 1) := dk_42 (dk_at dksX3_gather_1 21 rfl rfl)
theorem dX3_gather_45 : decode cX3_gather 45 = .ok (.getfield 27, 3) := dk_180 0 27 (dk_at dksX3_gather_2 0 rfl rfl)
theorem dX3_gather_48 : decode cX3_gather 48 = .ok (.getfield 62, 3) := dk_180 0 62 (dk_at dksX3_gather_2 3 rfl rfl)
theorem dX3_gather_51 : decode cX3_gather 51 = .ok (.bipush 12, 2) := dk_16 12 (dk_at dksX3_gather_2 6 rfl rfl)
theorem dX3_gather_53 : decode cX3_gather 53 = .ok (.iload_n 2, 1) := dk_28 (dk_at dksX3_gather_2 8 rfl rfl)
theorem dX3_gather_54 : decode cX3_gather 54 = .ok (.imul, 1) := dk_104 (dk_at dksX3_gather_2 9 rfl rfl)
theorem dX3_gather_55 : decode cX3_gather 55 = .ok (.iload_n 1, 1) := dk_27 (dk_at dksX3_gather_2 10 rfl rfl)
theorem dX3_gather_56 : decode cX3_gather 56 = .ok (.iadd, 1) := dk_96 (dk_at dksX3_gather_2 11 rfl rfl)
theorem dX3_gather_57 : decode cX3_gather 57 = .ok (.iaload, 1) := dk_46 (dk_at dksX3_gather_2 12 rfl rfl)
theorem dX3_gather_58 : decode cX3_gather 58 = .ok (.ifCond .eq 9, 3) := dk_153 0 9 (dk_at dksX3_gather_2 13 rfl rfl)
theorem dX3_gather_61 : decode cX3_gather 61 = .ok (.aload_n 0, 1) := dk_42 (dk_at dksX3_gather_2 16 rfl rfl)
theorem dX3_gather_62 : decode cX3_gather 62 = .ok (.iconst 3, 1) := dk_6 (dk_at dksX3_gather_2 17 rfl rfl)
theorem dX3_gather_63 : decode cX3_gather 63 = .ok (.invokevirtual 58, 3) := dk_182 0 58 (dk_at dksX3_gather_2 18 rfl rfl)
theorem dX3_gather_66 : decode cX3_gather 66 = .ok (.ireturn, 1) := dk_172 (dk_at dksX3_gather_2 21 rfl rfl)
theorem dX3_gather_67 : decode cX3_gather 67 = .ok (.aload_n 0, 1) := dk_42 (dk_at dksX3_gather_2 22 rfl rfl)
theorem dX3_gather_68 : decode cX3_gather 68 = .ok (.getfield 27, 3) := dk_180 0 27 (dk_at dksX3_gather_3 0 rfl rfl)
theorem dX3_gather_71 : decode cX3_gather 71 = .ok (.getfield 69, 3) := dk_180 0 69 (dk_at dksX3_gather_3 3 rfl rfl)
theorem dX3_gather_74 : decode cX3_gather 74 = .ok (.aload_n 0, 1) := dk_42 (dk_at dksX3_gather_3 6 rfl rfl)
theorem dX3_gather_75 : decode cX3_gather 75 = .ok (.getfield 42, 3) := dk_180 0 42 (dk_at dksX3_gather_3 7 rfl rfl)
theorem dX3_gather_78 : decode cX3_gather 78 = .ok (.bipush 12, 2) := dk_16 12 (dk_at dksX3_gather_3 10 rfl rfl)
theorem dX3_gather_80 : decode cX3_gather 80 = .ok (.iload_n 2, 1) := dk_28 (dk_at dksX3_gather_3 12 rfl rfl)
theorem dX3_gather_81 : decode cX3_gather 81 = .ok (.imul, 1) := dk_104 (dk_at dksX3_gather_3 13 rfl rfl)
theorem dX3_gather_82 : decode cX3_gather 82 = .ok (.iload_n 1, 1) := dk_27 (dk_at dksX3_gather_3 14 rfl rfl)
theorem dX3_gather_83 : decode cX3_gather 83 = .ok (.iadd, 1) := dk_96 (dk_at dksX3_gather_3 15 rfl rfl)
theorem dX3_gather_84 : decode cX3_gather 84 = .ok (.iastore, 1) := dk_79 (dk_at dksX3_gather_3 16 rfl rfl)
theorem dX3_gather_85 : decode cX3_gather 85 = .ok (.aload_n 0, 1) := dk_42 (dk_at dksX3_gather_3 17 rfl rfl)
theorem dX3_gather_86 : decode cX3_gather 86 = .ok (.getfield 27, 3) := dk_180 0 27 (dk_at dksX3_gather_3 18 rfl rfl)
theorem dX3_gather_89 : decode cX3_gather 89 = .ok (.getfield 72, 3) := dk_180 0 72 (dk_at dksX3_gather_3 21 rfl rfl)
theorem dX3_gather_92 : decode cX3_gather 92 = .ok (.aload_n 0, 1) := dk_42 (dk_at dksX3_gather_4 0 rfl rfl)
theorem dX3_gather_93 : decode cX3_gather 93 = .ok (.getfield 42, 3) := dk_180 0 42 (dk_at dksX3_gather_4 1 rfl rfl)
theorem dX3_gather_96 : decode cX3_gather 96 = .ok (.iload_n 3, 1) := dk_29 (dk_at dksX3_gather_4 4 rfl rfl)
theorem dX3_gather_97 : decode cX3_gather 97 = .ok (.iastore, 1) := dk_79 (dk_at dksX3_gather_4 5 rfl rfl)
theorem dX3_gather_98 : decode cX3_gather 98 = .ok (.aload_n 0, 1) := dk_42 (dk_at dksX3_gather_4 6 rfl rfl)
theorem dX3_gather_99 : decode cX3_gather 99 = .ok (.getfield 27, 3) := dk_180 0 27 (dk_at dksX3_gather_4 7 rfl rfl)
theorem dX3_gather_102 : decode cX3_gather 102 = .ok (.getfield 75, 3) := dk_180 0 75 (dk_at dksX3_gather_4 10 rfl rfl)
theorem dX3_gather_105 : decode cX3_gather 105 = .ok (.aload_n 0, 1) := dk_42 (dk_at dksX3_gather_4 13 rfl rfl)
theorem dX3_gather_106 : decode cX3_gather 106 = .ok (.getfield 42, 3) := dk_180 0 42 (dk_at dksX3_gather_4 14 rfl rfl)
theorem dX3_gather_109 : decode cX3_gather 109 = .ok (.iconst 1, 1) := dk_4 (dk_at dksX3_gather_4 17 rfl rfl)
theorem dX3_gather_110 : decode cX3_gather 110 = .ok (.iastore, 1) := dk_79 (dk_at dksX3_gather_4 18 rfl rfl)
theorem dX3_gather_111 : decode cX3_gather 111 = .ok (.aload_n 0, 1) := dk_42 (dk_at dksX3_gather_4 19 rfl rfl)
theorem dX3_gather_112 : decode cX3_gather 112 = .ok (.dup, 1) := dk_89 (dk_at dksX3_gather_4 20 rfl rfl)
theorem dX3_gather_113 : decode cX3_gather 113 = .ok (.getfield 42, 3) := dk_180 0 42 (dk_at dksX3_gather_4 21 rfl rfl)
theorem dX3_gather_116 : decode cX3_gather 116 = .ok (.iconst 1, 1) := dk_4 (dk_at dksX3_gather_5 0 rfl rfl)
theorem dX3_gather_117 : decode cX3_gather 117 = .ok (.iadd, 1) := dk_96 (dk_at dksX3_gather_5 1 rfl rfl)
theorem dX3_gather_118 : decode cX3_gather 118 = .ok (.putfield 42, 3) := dk_181 0 42 (dk_at dksX3_gather_5 2 rfl rfl)
theorem dX3_gather_121 : decode cX3_gather 121 = .ok (.aload_n 0, 1) := dk_42 (dk_at dksX3_gather_5 5 rfl rfl)
theorem dX3_gather_122 : decode cX3_gather 122 = .ok (.getfield 42, 3) := dk_180 0 42 (dk_at dksX3_gather_5 6 rfl rfl)
theorem dX3_gather_125 : decode cX3_gather 125 = .ok (.iconst 1, 1) := dk_4 (dk_at dksX3_gather_5 9 rfl rfl)
theorem dX3_gather_126 : decode cX3_gather 126 = .ok (.isub, 1) := dk_100 (dk_at dksX3_gather_5 10 rfl rfl)
theorem dX3_gather_127 : decode cX3_gather 127 = .ok (.ireturn, 1) := dk_172 (dk_at dksX3_gather_5 11 rfl rfl)
abbrev cX3_order : ByteArray := prog_6_method_13_code
def yX3_order : MethodName := ⟨RX3, "order", "(II)I"⟩
def dkwX3_order_4 : List UInt8 := [180, 0, 81, 27, 92, 46, 4, 96, 79, 42, 180, 0, 27, 180, 0, 81, 27, 46, 172]
abbrev dktX3_order_4 : List UInt8 := dkwX3_order_4 ++ []
def dkwX3_order_3 : List UInt8 := [180, 0, 84, 16, 24, 27, 104, 42, 180, 0, 27, 180, 0, 81, 27, 46, 96, 28, 79, 42, 180, 0, 27]
abbrev dktX3_order_3 : List UInt8 := dkwX3_order_3 ++ dktX3_order_4
def dkwX3_order_2 : List UInt8 := [42, 180, 0, 27, 180, 0, 81, 27, 46, 16, 24, 160, 0, 9, 42, 6, 182, 0, 58, 172, 42, 180, 0, 27]
abbrev dktX3_order_2 : List UInt8 := dkwX3_order_2 ++ dktX3_order_3
def dkwX3_order_1 : List UInt8 := [184, 0, 38, 154, 0, 9, 42, 5, 182, 0, 58, 172, 42, 180, 0, 27, 180, 0, 72, 27, 46, 153, 0, 17]
abbrev dktX3_order_1 : List UInt8 := dkwX3_order_1 ++ dktX3_order_2
def dkwX3_order_0 : List UInt8 := [42, 3, 181, 0, 34, 42, 27, 182, 0, 78, 154, 0, 9, 42, 4, 182, 0, 58, 172, 28, 3, 16, 11]
abbrev dktX3_order_0 : List UInt8 := dkwX3_order_0 ++ dktX3_order_1
theorem dksX3_order_0 : cX3_order.data.toList.drop 0 = dktX3_order_0 := by decide +kernel
theorem dksX3_order_1 : cX3_order.data.toList.drop 23 = dktX3_order_1 := dk_seg dksX3_order_0 23 rfl rfl
theorem dksX3_order_2 : cX3_order.data.toList.drop 47 = dktX3_order_2 := dk_seg dksX3_order_1 24 rfl rfl
theorem dksX3_order_3 : cX3_order.data.toList.drop 71 = dktX3_order_3 := dk_seg dksX3_order_2 24 rfl rfl
theorem dksX3_order_4 : cX3_order.data.toList.drop 94 = dktX3_order_4 := dk_seg dksX3_order_3 23 rfl rfl
theorem dX3_order_0 : decode cX3_order 0 = .ok (.aload_n 0, 1) := dk_42 (dk_at dksX3_order_0 0 rfl rfl)
theorem dX3_order_1 : decode cX3_order 1 = .ok (.iconst 0, 1) := dk_3 (dk_at dksX3_order_0 1 rfl rfl)
theorem dX3_order_2 : decode cX3_order 2 = .ok (.putfield 34, 3) := dk_181 0 34 (dk_at dksX3_order_0 2 rfl rfl)
theorem dX3_order_5 : decode cX3_order 5 = .ok (.aload_n 0, 1) := dk_42 (dk_at dksX3_order_0 5 rfl rfl)
theorem dX3_order_6 : decode cX3_order 6 = .ok (.iload_n 1, 1) := dk_27 (dk_at dksX3_order_0 6 rfl rfl)
theorem dX3_order_7 : decode cX3_order 7 = .ok (.invokevirtual 78, 3) := dk_182 0 78 (dk_at dksX3_order_0 7 rfl rfl)
theorem dX3_order_10 : decode cX3_order 10 = .ok (.ifCond .ne 9, 3) := dk_154 0 9 (dk_at dksX3_order_0 10 rfl rfl)
theorem dX3_order_13 : decode cX3_order 13 = .ok (.aload_n 0, 1) := dk_42 (dk_at dksX3_order_0 13 rfl rfl)
theorem dX3_order_14 : decode cX3_order 14 = .ok (.iconst 1, 1) := dk_4 (dk_at dksX3_order_0 14 rfl rfl)
theorem dX3_order_15 : decode cX3_order 15 = .ok (.invokevirtual 58, 3) := dk_182 0 58 (dk_at dksX3_order_0 15 rfl rfl)
theorem dX3_order_18 : decode cX3_order 18 = .ok (.ireturn, 1) := dk_172 (dk_at dksX3_order_0 18 rfl rfl)
theorem dX3_order_19 : decode cX3_order 19 = .ok (.iload_n 2, 1) := dk_28 (dk_at dksX3_order_0 19 rfl rfl)
theorem dX3_order_20 : decode cX3_order 20 = .ok (.iconst 0, 1) := dk_3 (dk_at dksX3_order_0 20 rfl rfl)
theorem dX3_order_21 : decode cX3_order 21 = .ok (.bipush 11, 2) := dk_16 11 (dk_at dksX3_order_0 21 rfl rfl)
theorem dX3_order_23 : decode cX3_order 23 = .ok (.invokestatic 38, 3) := dk_184 0 38 (dk_at dksX3_order_1 0 rfl rfl)
theorem dX3_order_26 : decode cX3_order 26 = .ok (.ifCond .ne 9, 3) := dk_154 0 9 (dk_at dksX3_order_1 3 rfl rfl)
theorem dX3_order_29 : decode cX3_order 29 = .ok (.aload_n 0, 1) := dk_42 (dk_at dksX3_order_1 6 rfl rfl)
theorem dX3_order_30 : decode cX3_order 30 = .ok (.iconst 2, 1) := dk_5 (dk_at dksX3_order_1 7 rfl rfl)
theorem dX3_order_31 : decode cX3_order 31 = .ok (.invokevirtual 58, 3) := dk_182 0 58 (dk_at dksX3_order_1 8 rfl rfl)
theorem dX3_order_34 : decode cX3_order 34 = .ok (.ireturn, 1) := dk_172 (dk_at dksX3_order_1 11 rfl rfl)
theorem dX3_order_35 : decode cX3_order 35 = .ok (.aload_n 0, 1) := dk_42 (dk_at dksX3_order_1 12 rfl rfl)
theorem dX3_order_36 : decode cX3_order 36 = .ok (.getfield 27, 3) := dk_180 0 27 (dk_at dksX3_order_1 13 rfl rfl)
theorem dX3_order_39 : decode cX3_order 39 = .ok (.getfield 72, 3) := dk_180 0 72 (dk_at dksX3_order_1 16 rfl rfl)
theorem dX3_order_42 : decode cX3_order 42 = .ok (.iload_n 1, 1) := dk_27 (dk_at dksX3_order_1 19 rfl rfl)
theorem dX3_order_43 : decode cX3_order 43 = .ok (.iaload, 1) := dk_46 (dk_at dksX3_order_1 20 rfl rfl)
theorem dX3_order_44 : decode cX3_order 44 = .ok (.ifCond .eq 17, 3) := dk_153 0 17 (dk_at dksX3_order_1 21 rfl rfl)
theorem dX3_order_47 : decode cX3_order 47 = .ok (.aload_n 0, 1) := dk_42 (dk_at dksX3_order_2 0 rfl rfl)
theorem dX3_order_48 : decode cX3_order 48 = .ok (.getfield 27, 3) := dk_180 0 27 (dk_at dksX3_order_2 1 rfl rfl)
theorem dX3_order_51 : decode cX3_order 51 = .ok (.getfield 81, 3) := dk_180 0 81 (dk_at dksX3_order_2 4 rfl rfl)
theorem dX3_order_54 : decode cX3_order 54 = .ok (.iload_n 1, 1) := dk_27 (dk_at dksX3_order_2 7 rfl rfl)
theorem dX3_order_55 : decode cX3_order 55 = .ok (.iaload, 1) := dk_46 (dk_at dksX3_order_2 8 rfl rfl)
theorem dX3_order_56 : decode cX3_order 56 = .ok (.bipush 24, 2) := dk_16 24 (dk_at dksX3_order_2 9 rfl rfl)
theorem dX3_order_58 : decode cX3_order 58 = .ok (.if_icmp .ne 9, 3) := dk_160 0 9 (dk_at dksX3_order_2 11 rfl rfl)
theorem dX3_order_61 : decode cX3_order 61 = .ok (.aload_n 0, 1) := dk_42 (dk_at dksX3_order_2 14 rfl rfl)
theorem dX3_order_62 : decode cX3_order 62 = .ok (.iconst 3, 1) := dk_6 (dk_at dksX3_order_2 15 rfl rfl)
theorem dX3_order_63 : decode cX3_order 63 = .ok (.invokevirtual 58, 3) := dk_182 0 58 (dk_at dksX3_order_2 16 rfl rfl)
theorem dX3_order_66 : decode cX3_order 66 = .ok (.ireturn, 1) := dk_172 (dk_at dksX3_order_2 19 rfl rfl)
theorem dX3_order_67 : decode cX3_order 67 = .ok (.aload_n 0, 1) := dk_42 (dk_at dksX3_order_2 20 rfl rfl)
theorem dX3_order_68 : decode cX3_order 68 = .ok (.getfield 27, 3) := dk_180 0 27 (dk_at dksX3_order_2 21 rfl rfl)
theorem dX3_order_71 : decode cX3_order 71 = .ok (.getfield 84, 3) := dk_180 0 84 (dk_at dksX3_order_3 0 rfl rfl)
theorem dX3_order_74 : decode cX3_order 74 = .ok (.bipush 24, 2) := dk_16 24 (dk_at dksX3_order_3 3 rfl rfl)
theorem dX3_order_76 : decode cX3_order 76 = .ok (.iload_n 1, 1) := dk_27 (dk_at dksX3_order_3 5 rfl rfl)
theorem dX3_order_77 : decode cX3_order 77 = .ok (.imul, 1) := dk_104 (dk_at dksX3_order_3 6 rfl rfl)
theorem dX3_order_78 : decode cX3_order 78 = .ok (.aload_n 0, 1) := dk_42 (dk_at dksX3_order_3 7 rfl rfl)
theorem dX3_order_79 : decode cX3_order 79 = .ok (.getfield 27, 3) := dk_180 0 27 (dk_at dksX3_order_3 8 rfl rfl)
theorem dX3_order_82 : decode cX3_order 82 = .ok (.getfield 81, 3) := dk_180 0 81 (dk_at dksX3_order_3 11 rfl rfl)
theorem dX3_order_85 : decode cX3_order 85 = .ok (.iload_n 1, 1) := dk_27 (dk_at dksX3_order_3 14 rfl rfl)
theorem dX3_order_86 : decode cX3_order 86 = .ok (.iaload, 1) := dk_46 (dk_at dksX3_order_3 15 rfl rfl)
theorem dX3_order_87 : decode cX3_order 87 = .ok (.iadd, 1) := dk_96 (dk_at dksX3_order_3 16 rfl rfl)
theorem dX3_order_88 : decode cX3_order 88 = .ok (.iload_n 2, 1) := dk_28 (dk_at dksX3_order_3 17 rfl rfl)
theorem dX3_order_89 : decode cX3_order 89 = .ok (.iastore, 1) := dk_79 (dk_at dksX3_order_3 18 rfl rfl)
theorem dX3_order_90 : decode cX3_order 90 = .ok (.aload_n 0, 1) := dk_42 (dk_at dksX3_order_3 19 rfl rfl)
theorem dX3_order_91 : decode cX3_order 91 = .ok (.getfield 27, 3) := dk_180 0 27 (dk_at dksX3_order_3 20 rfl rfl)
theorem dX3_order_94 : decode cX3_order 94 = .ok (.getfield 81, 3) := dk_180 0 81 (dk_at dksX3_order_4 0 rfl rfl)
theorem dX3_order_97 : decode cX3_order 97 = .ok (.iload_n 1, 1) := dk_27 (dk_at dksX3_order_4 3 rfl rfl)
theorem dX3_order_98 : decode cX3_order 98 = .ok (.dup2, 1) := dk_92 (dk_at dksX3_order_4 4 rfl rfl)
theorem dX3_order_99 : decode cX3_order 99 = .ok (.iaload, 1) := dk_46 (dk_at dksX3_order_4 5 rfl rfl)
theorem dX3_order_100 : decode cX3_order 100 = .ok (.iconst 1, 1) := dk_4 (dk_at dksX3_order_4 6 rfl rfl)
theorem dX3_order_101 : decode cX3_order 101 = .ok (.iadd, 1) := dk_96 (dk_at dksX3_order_4 7 rfl rfl)
theorem dX3_order_102 : decode cX3_order 102 = .ok (.iastore, 1) := dk_79 (dk_at dksX3_order_4 8 rfl rfl)
theorem dX3_order_103 : decode cX3_order 103 = .ok (.aload_n 0, 1) := dk_42 (dk_at dksX3_order_4 9 rfl rfl)
theorem dX3_order_104 : decode cX3_order 104 = .ok (.getfield 27, 3) := dk_180 0 27 (dk_at dksX3_order_4 10 rfl rfl)
theorem dX3_order_107 : decode cX3_order 107 = .ok (.getfield 81, 3) := dk_180 0 81 (dk_at dksX3_order_4 13 rfl rfl)
theorem dX3_order_110 : decode cX3_order 110 = .ok (.iload_n 1, 1) := dk_27 (dk_at dksX3_order_4 16 rfl rfl)
theorem dX3_order_111 : decode cX3_order 111 = .ok (.iaload, 1) := dk_46 (dk_at dksX3_order_4 17 rfl rfl)
theorem dX3_order_112 : decode cX3_order 112 = .ok (.ireturn, 1) := dk_172 (dk_at dksX3_order_4 18 rfl rfl)
abbrev cX3_isCrowd : ByteArray := prog_6_method_6_code
def yX3_isCrowd : MethodName := ⟨RX3, "isCrowd", "(I)Z"⟩
def dkwX3_isCrowd_0 : List UInt8 := [27, 3, 42, 180, 0, 42, 4, 100, 184, 0, 38, 172]
abbrev dktX3_isCrowd_0 : List UInt8 := dkwX3_isCrowd_0 ++ []
theorem dksX3_isCrowd_0 : cX3_isCrowd.data.toList.drop 0 = dktX3_isCrowd_0 := by decide +kernel
theorem dX3_isCrowd_0 : decode cX3_isCrowd 0 = .ok (.iload_n 1, 1) := dk_27 (dk_at dksX3_isCrowd_0 0 rfl rfl)
theorem dX3_isCrowd_1 : decode cX3_isCrowd 1 = .ok (.iconst 0, 1) := dk_3 (dk_at dksX3_isCrowd_0 1 rfl rfl)
theorem dX3_isCrowd_2 : decode cX3_isCrowd 2 = .ok (.aload_n 0, 1) := dk_42 (dk_at dksX3_isCrowd_0 2 rfl rfl)
theorem dX3_isCrowd_3 : decode cX3_isCrowd 3 = .ok (.getfield 42, 3) := dk_180 0 42 (dk_at dksX3_isCrowd_0 3 rfl rfl)
theorem dX3_isCrowd_6 : decode cX3_isCrowd 6 = .ok (.iconst 1, 1) := dk_4 (dk_at dksX3_isCrowd_0 6 rfl rfl)
theorem dX3_isCrowd_7 : decode cX3_isCrowd 7 = .ok (.isub, 1) := dk_100 (dk_at dksX3_isCrowd_0 7 rfl rfl)
theorem dX3_isCrowd_8 : decode cX3_isCrowd 8 = .ok (.invokestatic 38, 3) := dk_184 0 38 (dk_at dksX3_isCrowd_0 8 rfl rfl)
theorem dX3_isCrowd_11 : decode cX3_isCrowd 11 = .ok (.ireturn, 1) := dk_172 (dk_at dksX3_isCrowd_0 11 rfl rfl)
abbrev cX3_torch : ByteArray := prog_6_method_14_code
def yX3_torch : MethodName := ⟨RX3, "torch", "(I)Z"⟩
def dkwX3_torch_4 : List UInt8 := [3, 172]
abbrev dktX3_torch_4 : List UInt8 := dkwX3_torch_4 ++ []
def dkwX3_torch_3 : List UInt8 := [180, 0, 75, 27, 46, 100, 79, 42, 180, 0, 27, 180, 0, 75, 27, 46, 4, 160, 0, 7, 4, 167, 0, 4]
abbrev dktX3_torch_3 : List UInt8 := dkwX3_torch_3 ++ dktX3_torch_4
def dkwX3_torch_2 : List UInt8 := [153, 0, 7, 4, 167, 0, 4, 3, 172, 42, 180, 0, 27, 180, 0, 75, 27, 4, 42, 180, 0, 27]
abbrev dktX3_torch_2 : List UInt8 := dkwX3_torch_2 ++ dktX3_torch_3
def dkwX3_torch_1 : List UInt8 := [167, 0, 4, 3, 172, 42, 180, 0, 27, 180, 0, 72, 27, 46, 154, 0, 17, 42, 5, 182, 0, 58]
abbrev dktX3_torch_1 : List UInt8 := dkwX3_torch_1 ++ dktX3_torch_2
def dkwX3_torch_0 : List UInt8 := [42, 3, 181, 0, 34, 42, 27, 182, 0, 78, 154, 0, 17, 42, 4, 182, 0, 58, 153, 0, 7, 4]
abbrev dktX3_torch_0 : List UInt8 := dkwX3_torch_0 ++ dktX3_torch_1
theorem dksX3_torch_0 : cX3_torch.data.toList.drop 0 = dktX3_torch_0 := by decide +kernel
theorem dksX3_torch_1 : cX3_torch.data.toList.drop 22 = dktX3_torch_1 := dk_seg dksX3_torch_0 22 rfl rfl
theorem dksX3_torch_2 : cX3_torch.data.toList.drop 44 = dktX3_torch_2 := dk_seg dksX3_torch_1 22 rfl rfl
theorem dksX3_torch_3 : cX3_torch.data.toList.drop 66 = dktX3_torch_3 := dk_seg dksX3_torch_2 22 rfl rfl
theorem dksX3_torch_4 : cX3_torch.data.toList.drop 90 = dktX3_torch_4 := dk_seg dksX3_torch_3 24 rfl rfl
theorem dX3_torch_0 : decode cX3_torch 0 = .ok (.aload_n 0, 1) := dk_42 (dk_at dksX3_torch_0 0 rfl rfl)
theorem dX3_torch_1 : decode cX3_torch 1 = .ok (.iconst 0, 1) := dk_3 (dk_at dksX3_torch_0 1 rfl rfl)
theorem dX3_torch_2 : decode cX3_torch 2 = .ok (.putfield 34, 3) := dk_181 0 34 (dk_at dksX3_torch_0 2 rfl rfl)
theorem dX3_torch_5 : decode cX3_torch 5 = .ok (.aload_n 0, 1) := dk_42 (dk_at dksX3_torch_0 5 rfl rfl)
theorem dX3_torch_6 : decode cX3_torch 6 = .ok (.iload_n 1, 1) := dk_27 (dk_at dksX3_torch_0 6 rfl rfl)
theorem dX3_torch_7 : decode cX3_torch 7 = .ok (.invokevirtual 78, 3) := dk_182 0 78 (dk_at dksX3_torch_0 7 rfl rfl)
theorem dX3_torch_10 : decode cX3_torch 10 = .ok (.ifCond .ne 17, 3) := dk_154 0 17 (dk_at dksX3_torch_0 10 rfl rfl)
theorem dX3_torch_13 : decode cX3_torch 13 = .ok (.aload_n 0, 1) := dk_42 (dk_at dksX3_torch_0 13 rfl rfl)
theorem dX3_torch_14 : decode cX3_torch 14 = .ok (.iconst 1, 1) := dk_4 (dk_at dksX3_torch_0 14 rfl rfl)
theorem dX3_torch_15 : decode cX3_torch 15 = .ok (.invokevirtual 58, 3) := dk_182 0 58 (dk_at dksX3_torch_0 15 rfl rfl)
theorem dX3_torch_18 : decode cX3_torch 18 = .ok (.ifCond .eq 7, 3) := dk_153 0 7 (dk_at dksX3_torch_0 18 rfl rfl)
theorem dX3_torch_21 : decode cX3_torch 21 = .ok (.iconst 1, 1) := dk_4 (dk_at dksX3_torch_0 21 rfl rfl)
theorem dX3_torch_22 : decode cX3_torch 22 = .ok (.goto 4, 3) := dk_167 0 4 (dk_at dksX3_torch_1 0 rfl rfl)
theorem dX3_torch_25 : decode cX3_torch 25 = .ok (.iconst 0, 1) := dk_3 (dk_at dksX3_torch_1 3 rfl rfl)
theorem dX3_torch_26 : decode cX3_torch 26 = .ok (.ireturn, 1) := dk_172 (dk_at dksX3_torch_1 4 rfl rfl)
theorem dX3_torch_27 : decode cX3_torch 27 = .ok (.aload_n 0, 1) := dk_42 (dk_at dksX3_torch_1 5 rfl rfl)
theorem dX3_torch_28 : decode cX3_torch 28 = .ok (.getfield 27, 3) := dk_180 0 27 (dk_at dksX3_torch_1 6 rfl rfl)
theorem dX3_torch_31 : decode cX3_torch 31 = .ok (.getfield 72, 3) := dk_180 0 72 (dk_at dksX3_torch_1 9 rfl rfl)
theorem dX3_torch_34 : decode cX3_torch 34 = .ok (.iload_n 1, 1) := dk_27 (dk_at dksX3_torch_1 12 rfl rfl)
theorem dX3_torch_35 : decode cX3_torch 35 = .ok (.iaload, 1) := dk_46 (dk_at dksX3_torch_1 13 rfl rfl)
theorem dX3_torch_36 : decode cX3_torch 36 = .ok (.ifCond .ne 17, 3) := dk_154 0 17 (dk_at dksX3_torch_1 14 rfl rfl)
theorem dX3_torch_39 : decode cX3_torch 39 = .ok (.aload_n 0, 1) := dk_42 (dk_at dksX3_torch_1 17 rfl rfl)
theorem dX3_torch_40 : decode cX3_torch 40 = .ok (.iconst 2, 1) := dk_5 (dk_at dksX3_torch_1 18 rfl rfl)
theorem dX3_torch_41 : decode cX3_torch 41 = .ok (.invokevirtual 58, 3) := dk_182 0 58 (dk_at dksX3_torch_1 19 rfl rfl)
theorem dX3_torch_44 : decode cX3_torch 44 = .ok (.ifCond .eq 7, 3) := dk_153 0 7 (dk_at dksX3_torch_2 0 rfl rfl)
theorem dX3_torch_47 : decode cX3_torch 47 = .ok (.iconst 1, 1) := dk_4 (dk_at dksX3_torch_2 3 rfl rfl)
theorem dX3_torch_48 : decode cX3_torch 48 = .ok (.goto 4, 3) := dk_167 0 4 (dk_at dksX3_torch_2 4 rfl rfl)
theorem dX3_torch_51 : decode cX3_torch 51 = .ok (.iconst 0, 1) := dk_3 (dk_at dksX3_torch_2 7 rfl rfl)
theorem dX3_torch_52 : decode cX3_torch 52 = .ok (.ireturn, 1) := dk_172 (dk_at dksX3_torch_2 8 rfl rfl)
theorem dX3_torch_53 : decode cX3_torch 53 = .ok (.aload_n 0, 1) := dk_42 (dk_at dksX3_torch_2 9 rfl rfl)
theorem dX3_torch_54 : decode cX3_torch 54 = .ok (.getfield 27, 3) := dk_180 0 27 (dk_at dksX3_torch_2 10 rfl rfl)
theorem dX3_torch_57 : decode cX3_torch 57 = .ok (.getfield 75, 3) := dk_180 0 75 (dk_at dksX3_torch_2 13 rfl rfl)
theorem dX3_torch_60 : decode cX3_torch 60 = .ok (.iload_n 1, 1) := dk_27 (dk_at dksX3_torch_2 16 rfl rfl)
theorem dX3_torch_61 : decode cX3_torch 61 = .ok (.iconst 1, 1) := dk_4 (dk_at dksX3_torch_2 17 rfl rfl)
theorem dX3_torch_62 : decode cX3_torch 62 = .ok (.aload_n 0, 1) := dk_42 (dk_at dksX3_torch_2 18 rfl rfl)
theorem dX3_torch_63 : decode cX3_torch 63 = .ok (.getfield 27, 3) := dk_180 0 27 (dk_at dksX3_torch_2 19 rfl rfl)
theorem dX3_torch_66 : decode cX3_torch 66 = .ok (.getfield 75, 3) := dk_180 0 75 (dk_at dksX3_torch_3 0 rfl rfl)
theorem dX3_torch_69 : decode cX3_torch 69 = .ok (.iload_n 1, 1) := dk_27 (dk_at dksX3_torch_3 3 rfl rfl)
theorem dX3_torch_70 : decode cX3_torch 70 = .ok (.iaload, 1) := dk_46 (dk_at dksX3_torch_3 4 rfl rfl)
theorem dX3_torch_71 : decode cX3_torch 71 = .ok (.isub, 1) := dk_100 (dk_at dksX3_torch_3 5 rfl rfl)
theorem dX3_torch_72 : decode cX3_torch 72 = .ok (.iastore, 1) := dk_79 (dk_at dksX3_torch_3 6 rfl rfl)
theorem dX3_torch_73 : decode cX3_torch 73 = .ok (.aload_n 0, 1) := dk_42 (dk_at dksX3_torch_3 7 rfl rfl)
theorem dX3_torch_74 : decode cX3_torch 74 = .ok (.getfield 27, 3) := dk_180 0 27 (dk_at dksX3_torch_3 8 rfl rfl)
theorem dX3_torch_77 : decode cX3_torch 77 = .ok (.getfield 75, 3) := dk_180 0 75 (dk_at dksX3_torch_3 11 rfl rfl)
theorem dX3_torch_80 : decode cX3_torch 80 = .ok (.iload_n 1, 1) := dk_27 (dk_at dksX3_torch_3 14 rfl rfl)
theorem dX3_torch_81 : decode cX3_torch 81 = .ok (.iaload, 1) := dk_46 (dk_at dksX3_torch_3 15 rfl rfl)
theorem dX3_torch_82 : decode cX3_torch 82 = .ok (.iconst 1, 1) := dk_4 (dk_at dksX3_torch_3 16 rfl rfl)
theorem dX3_torch_83 : decode cX3_torch 83 = .ok (.if_icmp .ne 7, 3) := dk_160 0 7 (dk_at dksX3_torch_3 17 rfl rfl)
theorem dX3_torch_86 : decode cX3_torch 86 = .ok (.iconst 1, 1) := dk_4 (dk_at dksX3_torch_3 20 rfl rfl)
theorem dX3_torch_87 : decode cX3_torch 87 = .ok (.goto 4, 3) := dk_167 0 4 (dk_at dksX3_torch_3 21 rfl rfl)
theorem dX3_torch_90 : decode cX3_torch 90 = .ok (.iconst 0, 1) := dk_3 (dk_at dksX3_torch_4 0 rfl rfl)
theorem dX3_torch_91 : decode cX3_torch 91 = .ok (.ireturn, 1) := dk_172 (dk_at dksX3_torch_4 1 rfl rfl)
abbrev cX3_patrol : ByteArray := prog_6_method_15_code
def yX3_patrol : MethodName := ⟨RX3, "patrol", "(IIII)I"⟩
def dkwX3_patrol_6 : List UInt8 := [132, 5, 1, 167, 255, 223, 42, 89, 180, 0, 45, 4, 96, 181, 0, 45, 42, 180, 0, 45, 4, 100, 172]
abbrev dktX3_patrol_6 : List UInt8 := dkwX3_patrol_6 ++ []
def dkwX3_patrol_5 : List UInt8 := [42, 180, 0, 13, 16, 12, 42, 180, 0, 45, 104, 21, 5, 96, 21, 4, 5, 21, 5, 104, 122, 6, 126, 79]
abbrev dktX3_patrol_5 : List UInt8 := dkwX3_patrol_5 ++ dktX3_patrol_6
def dkwX3_patrol_4 : List UInt8 := [28, 104, 27, 96, 79, 42, 180, 0, 9, 42, 180, 0, 45, 29, 79, 3, 54, 5, 21, 5, 29, 162, 0, 33]
abbrev dktX3_patrol_4 : List UInt8 := dkwX3_patrol_4 ++ dktX3_patrol_5
def dkwX3_patrol_3 : List UInt8 := [96, 46, 153, 0, 9, 42, 6, 182, 0, 58, 172, 42, 180, 0, 27, 180, 0, 87, 42, 180, 0, 45, 16, 12]
abbrev dktX3_patrol_3 : List UInt8 := dkwX3_patrol_3 ++ dktX3_patrol_4
def dkwX3_patrol_2 : List UInt8 := [182, 0, 58, 172, 42, 180, 0, 45, 6, 159, 0, 20, 42, 180, 0, 27, 180, 0, 62, 16, 12, 28, 104, 27]
abbrev dktX3_patrol_2 : List UInt8 := dkwX3_patrol_2 ++ dktX3_patrol_3
def dkwX3_patrol_1 : List UInt8 := [184, 0, 38, 153, 0, 19, 21, 4, 3, 4, 5, 29, 104, 120, 4, 100, 184, 0, 38, 154, 0, 9, 42, 5]
abbrev dktX3_patrol_1 : List UInt8 := dkwX3_patrol_1 ++ dktX3_patrol_2
def dkwX3_patrol_0 : List UInt8 := [42, 3, 181, 0, 34, 27, 28, 184, 0, 54, 154, 0, 9, 42, 4, 182, 0, 58, 172, 29, 4, 16, 12]
abbrev dktX3_patrol_0 : List UInt8 := dkwX3_patrol_0 ++ dktX3_patrol_1
theorem dksX3_patrol_0 : cX3_patrol.data.toList.drop 0 = dktX3_patrol_0 := by decide +kernel
theorem dksX3_patrol_1 : cX3_patrol.data.toList.drop 23 = dktX3_patrol_1 := dk_seg dksX3_patrol_0 23 rfl rfl
theorem dksX3_patrol_2 : cX3_patrol.data.toList.drop 47 = dktX3_patrol_2 := dk_seg dksX3_patrol_1 24 rfl rfl
theorem dksX3_patrol_3 : cX3_patrol.data.toList.drop 71 = dktX3_patrol_3 := dk_seg dksX3_patrol_2 24 rfl rfl
theorem dksX3_patrol_4 : cX3_patrol.data.toList.drop 95 = dktX3_patrol_4 := dk_seg dksX3_patrol_3 24 rfl rfl
theorem dksX3_patrol_5 : cX3_patrol.data.toList.drop 119 = dktX3_patrol_5 := dk_seg dksX3_patrol_4 24 rfl rfl
theorem dksX3_patrol_6 : cX3_patrol.data.toList.drop 143 = dktX3_patrol_6 := dk_seg dksX3_patrol_5 24 rfl rfl
theorem dX3_patrol_0 : decode cX3_patrol 0 = .ok (.aload_n 0, 1) := dk_42 (dk_at dksX3_patrol_0 0 rfl rfl)
theorem dX3_patrol_1 : decode cX3_patrol 1 = .ok (.iconst 0, 1) := dk_3 (dk_at dksX3_patrol_0 1 rfl rfl)
theorem dX3_patrol_2 : decode cX3_patrol 2 = .ok (.putfield 34, 3) := dk_181 0 34 (dk_at dksX3_patrol_0 2 rfl rfl)
theorem dX3_patrol_5 : decode cX3_patrol 5 = .ok (.iload_n 1, 1) := dk_27 (dk_at dksX3_patrol_0 5 rfl rfl)
theorem dX3_patrol_6 : decode cX3_patrol 6 = .ok (.iload_n 2, 1) := dk_28 (dk_at dksX3_patrol_0 6 rfl rfl)
theorem dX3_patrol_7 : decode cX3_patrol 7 = .ok (.invokestatic 54, 3) := dk_184 0 54 (dk_at dksX3_patrol_0 7 rfl rfl)
theorem dX3_patrol_10 : decode cX3_patrol 10 = .ok (.ifCond .ne 9, 3) := dk_154 0 9 (dk_at dksX3_patrol_0 10 rfl rfl)
theorem dX3_patrol_13 : decode cX3_patrol 13 = .ok (.aload_n 0, 1) := dk_42 (dk_at dksX3_patrol_0 13 rfl rfl)
theorem dX3_patrol_14 : decode cX3_patrol 14 = .ok (.iconst 1, 1) := dk_4 (dk_at dksX3_patrol_0 14 rfl rfl)
theorem dX3_patrol_15 : decode cX3_patrol 15 = .ok (.invokevirtual 58, 3) := dk_182 0 58 (dk_at dksX3_patrol_0 15 rfl rfl)
theorem dX3_patrol_18 : decode cX3_patrol 18 = .ok (.ireturn, 1) := dk_172 (dk_at dksX3_patrol_0 18 rfl rfl)
theorem dX3_patrol_19 : decode cX3_patrol 19 = .ok (.iload_n 3, 1) := dk_29 (dk_at dksX3_patrol_0 19 rfl rfl)
theorem dX3_patrol_20 : decode cX3_patrol 20 = .ok (.iconst 1, 1) := dk_4 (dk_at dksX3_patrol_0 20 rfl rfl)
theorem dX3_patrol_21 : decode cX3_patrol 21 = .ok (.bipush 12, 2) := dk_16 12 (dk_at dksX3_patrol_0 21 rfl rfl)
theorem dX3_patrol_23 : decode cX3_patrol 23 = .ok (.invokestatic 38, 3) := dk_184 0 38 (dk_at dksX3_patrol_1 0 rfl rfl)
theorem dX3_patrol_26 : decode cX3_patrol 26 = .ok (.ifCond .eq 19, 3) := dk_153 0 19 (dk_at dksX3_patrol_1 3 rfl rfl)
theorem dX3_patrol_29 : decode cX3_patrol 29 = .ok (.iload 4, 2) := dk_21 4 (dk_at dksX3_patrol_1 6 rfl rfl)
theorem dX3_patrol_31 : decode cX3_patrol 31 = .ok (.iconst 0, 1) := dk_3 (dk_at dksX3_patrol_1 8 rfl rfl)
theorem dX3_patrol_32 : decode cX3_patrol 32 = .ok (.iconst 1, 1) := dk_4 (dk_at dksX3_patrol_1 9 rfl rfl)
theorem dX3_patrol_33 : decode cX3_patrol 33 = .ok (.iconst 2, 1) := dk_5 (dk_at dksX3_patrol_1 10 rfl rfl)
theorem dX3_patrol_34 : decode cX3_patrol 34 = .ok (.iload_n 3, 1) := dk_29 (dk_at dksX3_patrol_1 11 rfl rfl)
theorem dX3_patrol_35 : decode cX3_patrol 35 = .ok (.imul, 1) := dk_104 (dk_at dksX3_patrol_1 12 rfl rfl)
theorem dX3_patrol_36 : decode cX3_patrol 36 = .ok (.ishl, 1) := dk_120 (dk_at dksX3_patrol_1 13 rfl rfl)
theorem dX3_patrol_37 : decode cX3_patrol 37 = .ok (.iconst 1, 1) := dk_4 (dk_at dksX3_patrol_1 14 rfl rfl)
theorem dX3_patrol_38 : decode cX3_patrol 38 = .ok (.isub, 1) := dk_100 (dk_at dksX3_patrol_1 15 rfl rfl)
theorem dX3_patrol_39 : decode cX3_patrol 39 = .ok (.invokestatic 38, 3) := dk_184 0 38 (dk_at dksX3_patrol_1 16 rfl rfl)
theorem dX3_patrol_42 : decode cX3_patrol 42 = .ok (.ifCond .ne 9, 3) := dk_154 0 9 (dk_at dksX3_patrol_1 19 rfl rfl)
theorem dX3_patrol_45 : decode cX3_patrol 45 = .ok (.aload_n 0, 1) := dk_42 (dk_at dksX3_patrol_1 22 rfl rfl)
theorem dX3_patrol_46 : decode cX3_patrol 46 = .ok (.iconst 2, 1) := dk_5 (dk_at dksX3_patrol_1 23 rfl rfl)
theorem dX3_patrol_47 : decode cX3_patrol 47 = .ok (.invokevirtual 58, 3) := dk_182 0 58 (dk_at dksX3_patrol_2 0 rfl rfl)
theorem dX3_patrol_50 : decode cX3_patrol 50 = .ok (.ireturn, 1) := dk_172 (dk_at dksX3_patrol_2 3 rfl rfl)
theorem dX3_patrol_51 : decode cX3_patrol 51 = .ok (.aload_n 0, 1) := dk_42 (dk_at dksX3_patrol_2 4 rfl rfl)
theorem dX3_patrol_52 : decode cX3_patrol 52 = .ok (.getfield 45, 3) := dk_180 0 45 (dk_at dksX3_patrol_2 5 rfl rfl)
theorem dX3_patrol_55 : decode cX3_patrol 55 = .ok (.iconst 3, 1) := dk_6 (dk_at dksX3_patrol_2 8 rfl rfl)
theorem dX3_patrol_56 : decode cX3_patrol 56 = .ok (.if_icmp .eq 20, 3) := dk_159 0 20 (dk_at dksX3_patrol_2 9 rfl rfl)
theorem dX3_patrol_59 : decode cX3_patrol 59 = .ok (.aload_n 0, 1) := dk_42 (dk_at dksX3_patrol_2 12 rfl rfl)
theorem dX3_patrol_60 : decode cX3_patrol 60 = .ok (.getfield 27, 3) := dk_180 0 27 (dk_at dksX3_patrol_2 13 rfl rfl)
theorem dX3_patrol_63 : decode cX3_patrol 63 = .ok (.getfield 62, 3) := dk_180 0 62 (dk_at dksX3_patrol_2 16 rfl rfl)
theorem dX3_patrol_66 : decode cX3_patrol 66 = .ok (.bipush 12, 2) := dk_16 12 (dk_at dksX3_patrol_2 19 rfl rfl)
theorem dX3_patrol_68 : decode cX3_patrol 68 = .ok (.iload_n 2, 1) := dk_28 (dk_at dksX3_patrol_2 21 rfl rfl)
theorem dX3_patrol_69 : decode cX3_patrol 69 = .ok (.imul, 1) := dk_104 (dk_at dksX3_patrol_2 22 rfl rfl)
theorem dX3_patrol_70 : decode cX3_patrol 70 = .ok (.iload_n 1, 1) := dk_27 (dk_at dksX3_patrol_2 23 rfl rfl)
theorem dX3_patrol_71 : decode cX3_patrol 71 = .ok (.iadd, 1) := dk_96 (dk_at dksX3_patrol_3 0 rfl rfl)
theorem dX3_patrol_72 : decode cX3_patrol 72 = .ok (.iaload, 1) := dk_46 (dk_at dksX3_patrol_3 1 rfl rfl)
theorem dX3_patrol_73 : decode cX3_patrol 73 = .ok (.ifCond .eq 9, 3) := dk_153 0 9 (dk_at dksX3_patrol_3 2 rfl rfl)
theorem dX3_patrol_76 : decode cX3_patrol 76 = .ok (.aload_n 0, 1) := dk_42 (dk_at dksX3_patrol_3 5 rfl rfl)
theorem dX3_patrol_77 : decode cX3_patrol 77 = .ok (.iconst 3, 1) := dk_6 (dk_at dksX3_patrol_3 6 rfl rfl)
theorem dX3_patrol_78 : decode cX3_patrol 78 = .ok (.invokevirtual 58, 3) := dk_182 0 58 (dk_at dksX3_patrol_3 7 rfl rfl)
theorem dX3_patrol_81 : decode cX3_patrol 81 = .ok (.ireturn, 1) := dk_172 (dk_at dksX3_patrol_3 10 rfl rfl)
theorem dX3_patrol_82 : decode cX3_patrol 82 = .ok (.aload_n 0, 1) := dk_42 (dk_at dksX3_patrol_3 11 rfl rfl)
theorem dX3_patrol_83 : decode cX3_patrol 83 = .ok (.getfield 27, 3) := dk_180 0 27 (dk_at dksX3_patrol_3 12 rfl rfl)
theorem dX3_patrol_86 : decode cX3_patrol 86 = .ok (.getfield 87, 3) := dk_180 0 87 (dk_at dksX3_patrol_3 15 rfl rfl)
theorem dX3_patrol_89 : decode cX3_patrol 89 = .ok (.aload_n 0, 1) := dk_42 (dk_at dksX3_patrol_3 18 rfl rfl)
theorem dX3_patrol_90 : decode cX3_patrol 90 = .ok (.getfield 45, 3) := dk_180 0 45 (dk_at dksX3_patrol_3 19 rfl rfl)
theorem dX3_patrol_93 : decode cX3_patrol 93 = .ok (.bipush 12, 2) := dk_16 12 (dk_at dksX3_patrol_3 22 rfl rfl)
theorem dX3_patrol_95 : decode cX3_patrol 95 = .ok (.iload_n 2, 1) := dk_28 (dk_at dksX3_patrol_4 0 rfl rfl)
theorem dX3_patrol_96 : decode cX3_patrol 96 = .ok (.imul, 1) := dk_104 (dk_at dksX3_patrol_4 1 rfl rfl)
theorem dX3_patrol_97 : decode cX3_patrol 97 = .ok (.iload_n 1, 1) := dk_27 (dk_at dksX3_patrol_4 2 rfl rfl)
theorem dX3_patrol_98 : decode cX3_patrol 98 = .ok (.iadd, 1) := dk_96 (dk_at dksX3_patrol_4 3 rfl rfl)
theorem dX3_patrol_99 : decode cX3_patrol 99 = .ok (.iastore, 1) := dk_79 (dk_at dksX3_patrol_4 4 rfl rfl)
theorem dX3_patrol_100 : decode cX3_patrol 100 = .ok (.aload_n 0, 1) := dk_42 (dk_at dksX3_patrol_4 5 rfl rfl)
theorem dX3_patrol_101 : decode cX3_patrol 101 = .ok (.getfield 9, 3) := dk_180 0 9 (dk_at dksX3_patrol_4 6 rfl rfl)
theorem dX3_patrol_104 : decode cX3_patrol 104 = .ok (.aload_n 0, 1) := dk_42 (dk_at dksX3_patrol_4 9 rfl rfl)
theorem dX3_patrol_105 : decode cX3_patrol 105 = .ok (.getfield 45, 3) := dk_180 0 45 (dk_at dksX3_patrol_4 10 rfl rfl)
theorem dX3_patrol_108 : decode cX3_patrol 108 = .ok (.iload_n 3, 1) := dk_29 (dk_at dksX3_patrol_4 13 rfl rfl)
theorem dX3_patrol_109 : decode cX3_patrol 109 = .ok (.iastore, 1) := dk_79 (dk_at dksX3_patrol_4 14 rfl rfl)
theorem dX3_patrol_110 : decode cX3_patrol 110 = .ok (.iconst 0, 1) := dk_3 (dk_at dksX3_patrol_4 15 rfl rfl)
theorem dX3_patrol_111 : decode cX3_patrol 111 = .ok (.istore 5, 2) := dk_54 5 (dk_at dksX3_patrol_4 16 rfl rfl)
theorem dX3_patrol_113 : decode cX3_patrol 113 = .ok (.iload 5, 2) := dk_21 5 (dk_at dksX3_patrol_4 18 rfl rfl)
theorem dX3_patrol_115 : decode cX3_patrol 115 = .ok (.iload_n 3, 1) := dk_29 (dk_at dksX3_patrol_4 20 rfl rfl)
theorem dX3_patrol_116 : decode cX3_patrol 116 = .ok (.if_icmp .ge 33, 3) := dk_162 0 33 (dk_at dksX3_patrol_4 21 rfl rfl)
theorem dX3_patrol_119 : decode cX3_patrol 119 = .ok (.aload_n 0, 1) := dk_42 (dk_at dksX3_patrol_5 0 rfl rfl)
theorem dX3_patrol_120 : decode cX3_patrol 120 = .ok (.getfield 13, 3) := dk_180 0 13 (dk_at dksX3_patrol_5 1 rfl rfl)
theorem dX3_patrol_123 : decode cX3_patrol 123 = .ok (.bipush 12, 2) := dk_16 12 (dk_at dksX3_patrol_5 4 rfl rfl)
theorem dX3_patrol_125 : decode cX3_patrol 125 = .ok (.aload_n 0, 1) := dk_42 (dk_at dksX3_patrol_5 6 rfl rfl)
theorem dX3_patrol_126 : decode cX3_patrol 126 = .ok (.getfield 45, 3) := dk_180 0 45 (dk_at dksX3_patrol_5 7 rfl rfl)
theorem dX3_patrol_129 : decode cX3_patrol 129 = .ok (.imul, 1) := dk_104 (dk_at dksX3_patrol_5 10 rfl rfl)
theorem dX3_patrol_130 : decode cX3_patrol 130 = .ok (.iload 5, 2) := dk_21 5 (dk_at dksX3_patrol_5 11 rfl rfl)
theorem dX3_patrol_132 : decode cX3_patrol 132 = .ok (.iadd, 1) := dk_96 (dk_at dksX3_patrol_5 13 rfl rfl)
theorem dX3_patrol_133 : decode cX3_patrol 133 = .ok (.iload 4, 2) := dk_21 4 (dk_at dksX3_patrol_5 14 rfl rfl)
theorem dX3_patrol_135 : decode cX3_patrol 135 = .ok (.iconst 2, 1) := dk_5 (dk_at dksX3_patrol_5 16 rfl rfl)
theorem dX3_patrol_136 : decode cX3_patrol 136 = .ok (.iload 5, 2) := dk_21 5 (dk_at dksX3_patrol_5 17 rfl rfl)
theorem dX3_patrol_138 : decode cX3_patrol 138 = .ok (.imul, 1) := dk_104 (dk_at dksX3_patrol_5 19 rfl rfl)
theorem dX3_patrol_139 : decode cX3_patrol 139 = .ok (.ishr, 1) := dk_122 (dk_at dksX3_patrol_5 20 rfl rfl)
theorem dX3_patrol_140 : decode cX3_patrol 140 = .ok (.iconst 3, 1) := dk_6 (dk_at dksX3_patrol_5 21 rfl rfl)
theorem dX3_patrol_141 : decode cX3_patrol 141 = .ok (.iand, 1) := dk_126 (dk_at dksX3_patrol_5 22 rfl rfl)
theorem dX3_patrol_142 : decode cX3_patrol 142 = .ok (.iastore, 1) := dk_79 (dk_at dksX3_patrol_5 23 rfl rfl)
theorem dX3_patrol_143 : decode cX3_patrol 143 = .ok (.iinc 5 1, 3) := dk_132 5 1 (dk_at dksX3_patrol_6 0 rfl rfl)
theorem dX3_patrol_146 : decode cX3_patrol 146 = .ok (.goto (-33), 3) := dk_167 255 223 (dk_at dksX3_patrol_6 3 rfl rfl)
theorem dX3_patrol_149 : decode cX3_patrol 149 = .ok (.aload_n 0, 1) := dk_42 (dk_at dksX3_patrol_6 6 rfl rfl)
theorem dX3_patrol_150 : decode cX3_patrol 150 = .ok (.dup, 1) := dk_89 (dk_at dksX3_patrol_6 7 rfl rfl)
theorem dX3_patrol_151 : decode cX3_patrol 151 = .ok (.getfield 45, 3) := dk_180 0 45 (dk_at dksX3_patrol_6 8 rfl rfl)
theorem dX3_patrol_154 : decode cX3_patrol 154 = .ok (.iconst 1, 1) := dk_4 (dk_at dksX3_patrol_6 11 rfl rfl)
theorem dX3_patrol_155 : decode cX3_patrol 155 = .ok (.iadd, 1) := dk_96 (dk_at dksX3_patrol_6 12 rfl rfl)
theorem dX3_patrol_156 : decode cX3_patrol 156 = .ok (.putfield 45, 3) := dk_181 0 45 (dk_at dksX3_patrol_6 13 rfl rfl)
theorem dX3_patrol_159 : decode cX3_patrol 159 = .ok (.aload_n 0, 1) := dk_42 (dk_at dksX3_patrol_6 16 rfl rfl)
theorem dX3_patrol_160 : decode cX3_patrol 160 = .ok (.getfield 45, 3) := dk_180 0 45 (dk_at dksX3_patrol_6 17 rfl rfl)
theorem dX3_patrol_163 : decode cX3_patrol 163 = .ok (.iconst 1, 1) := dk_4 (dk_at dksX3_patrol_6 20 rfl rfl)
theorem dX3_patrol_164 : decode cX3_patrol 164 = .ok (.isub, 1) := dk_100 (dk_at dksX3_patrol_6 21 rfl rfl)
theorem dX3_patrol_165 : decode cX3_patrol 165 = .ok (.ireturn, 1) := dk_172 (dk_at dksX3_patrol_6 22 rfl rfl)
abbrev cX3_crowd : ByteArray := prog_6_method_17_code
def yX3_crowd : MethodName := ⟨RX3, "crowd", "(II)I"⟩
def dkwX3_crowd_1 : List UInt8 := [27, 28, 182, 0, 96, 167, 0, 8, 42, 4, 182, 0, 58, 172]
abbrev dktX3_crowd_1 : List UInt8 := dkwX3_crowd_1 ++ []
def dkwX3_crowd_0 : List UInt8 := [42, 3, 181, 0, 34, 42, 27, 182, 0, 78, 153, 0, 22, 28, 3, 16, 7, 184, 0, 38, 153, 0, 12, 42]
abbrev dktX3_crowd_0 : List UInt8 := dkwX3_crowd_0 ++ dktX3_crowd_1
theorem dksX3_crowd_0 : cX3_crowd.data.toList.drop 0 = dktX3_crowd_0 := by decide +kernel
theorem dksX3_crowd_1 : cX3_crowd.data.toList.drop 24 = dktX3_crowd_1 := dk_seg dksX3_crowd_0 24 rfl rfl
theorem dX3_crowd_0 : decode cX3_crowd 0 = .ok (.aload_n 0, 1) := dk_42 (dk_at dksX3_crowd_0 0 rfl rfl)
theorem dX3_crowd_1 : decode cX3_crowd 1 = .ok (.iconst 0, 1) := dk_3 (dk_at dksX3_crowd_0 1 rfl rfl)
theorem dX3_crowd_2 : decode cX3_crowd 2 = .ok (.putfield 34, 3) := dk_181 0 34 (dk_at dksX3_crowd_0 2 rfl rfl)
theorem dX3_crowd_5 : decode cX3_crowd 5 = .ok (.aload_n 0, 1) := dk_42 (dk_at dksX3_crowd_0 5 rfl rfl)
theorem dX3_crowd_6 : decode cX3_crowd 6 = .ok (.iload_n 1, 1) := dk_27 (dk_at dksX3_crowd_0 6 rfl rfl)
theorem dX3_crowd_7 : decode cX3_crowd 7 = .ok (.invokevirtual 78, 3) := dk_182 0 78 (dk_at dksX3_crowd_0 7 rfl rfl)
theorem dX3_crowd_10 : decode cX3_crowd 10 = .ok (.ifCond .eq 22, 3) := dk_153 0 22 (dk_at dksX3_crowd_0 10 rfl rfl)
theorem dX3_crowd_13 : decode cX3_crowd 13 = .ok (.iload_n 2, 1) := dk_28 (dk_at dksX3_crowd_0 13 rfl rfl)
theorem dX3_crowd_14 : decode cX3_crowd 14 = .ok (.iconst 0, 1) := dk_3 (dk_at dksX3_crowd_0 14 rfl rfl)
theorem dX3_crowd_15 : decode cX3_crowd 15 = .ok (.bipush 7, 2) := dk_16 7 (dk_at dksX3_crowd_0 15 rfl rfl)
theorem dX3_crowd_17 : decode cX3_crowd 17 = .ok (.invokestatic 38, 3) := dk_184 0 38 (dk_at dksX3_crowd_0 17 rfl rfl)
theorem dX3_crowd_20 : decode cX3_crowd 20 = .ok (.ifCond .eq 12, 3) := dk_153 0 12 (dk_at dksX3_crowd_0 20 rfl rfl)
theorem dX3_crowd_23 : decode cX3_crowd 23 = .ok (.aload_n 0, 1) := dk_42 (dk_at dksX3_crowd_0 23 rfl rfl)
theorem dX3_crowd_24 : decode cX3_crowd 24 = .ok (.iload_n 1, 1) := dk_27 (dk_at dksX3_crowd_1 0 rfl rfl)
theorem dX3_crowd_25 : decode cX3_crowd 25 = .ok (.iload_n 2, 1) := dk_28 (dk_at dksX3_crowd_1 1 rfl rfl)
theorem dX3_crowd_26 : decode cX3_crowd 26 = .ok (.invokevirtual 96, 3) := dk_182 0 96 (dk_at dksX3_crowd_1 2 rfl rfl)
theorem dX3_crowd_29 : decode cX3_crowd 29 = .ok (.goto 8, 3) := dk_167 0 8 (dk_at dksX3_crowd_1 5 rfl rfl)
theorem dX3_crowd_32 : decode cX3_crowd 32 = .ok (.aload_n 0, 1) := dk_42 (dk_at dksX3_crowd_1 8 rfl rfl)
theorem dX3_crowd_33 : decode cX3_crowd 33 = .ok (.iconst 1, 1) := dk_4 (dk_at dksX3_crowd_1 9 rfl rfl)
theorem dX3_crowd_34 : decode cX3_crowd 34 = .ok (.invokevirtual 58, 3) := dk_182 0 58 (dk_at dksX3_crowd_1 10 rfl rfl)
theorem dX3_crowd_37 : decode cX3_crowd 37 = .ok (.ireturn, 1) := dk_172 (dk_at dksX3_crowd_1 13 rfl rfl)
abbrev cX3_crowdTold : ByteArray := prog_6_method_16_code
def yX3_crowdTold : MethodName := ⟨RX3, "crowdTold", "(II)I"⟩
def dkwX3_crowdTold_6 : List UInt8 := [46, 172, 42, 180, 0, 27, 27, 182, 0, 93, 172]
abbrev dktX3_crowdTold_6 : List UInt8 := dkwX3_crowdTold_6 ++ []
def dkwX3_crowdTold_5 : List UInt8 := [167, 0, 15, 42, 180, 0, 27, 180, 0, 84, 16, 24, 27, 104, 46, 172, 42, 180, 0, 27, 180, 0, 90, 27]
abbrev dktX3_crowdTold_5 : List UInt8 := dkwX3_crowdTold_5 ++ dktX3_crowdTold_6
def dkwX3_crowdTold_4 : List UInt8 := [180, 0, 27, 180, 0, 81, 27, 46, 172, 42, 180, 0, 27, 180, 0, 81, 27, 46, 154, 0, 7, 2]
abbrev dktX3_crowdTold_4 : List UInt8 := dkwX3_crowdTold_4 ++ dktX3_crowdTold_5
def dkwX3_crowdTold_3 : List UInt8 := [108, 172, 42, 180, 0, 27, 180, 0, 72, 27, 46, 172, 42, 180, 0, 27, 180, 0, 75, 27, 46, 172, 42]
abbrev dktX3_crowdTold_3 : List UInt8 := dkwX3_crowdTold_3 ++ dktX3_crowdTold_4
def dkwX3_crowdTold_2 : List UInt8 := [42, 180, 0, 27, 180, 0, 69, 27, 46, 16, 12, 112, 172, 42, 180, 0, 27, 180, 0, 69, 27, 46, 16, 12]
abbrev dktX3_crowdTold_2 : List UInt8 := dkwX3_crowdTold_2 ++ dktX3_crowdTold_3
def dkwX3_crowdTold_1 : List UInt8 := [170, 0, 0, 0, 0, 0, 138, 0, 0, 0, 0, 0, 0, 0, 6, 0, 0, 0, 43, 0, 0, 0, 56, 0, 0, 0, 69, 0, 0, 0, 79, 0, 0, 0, 89, 0, 0, 0, 99, 0, 0, 0, 128]
abbrev dktX3_crowdTold_1 : List UInt8 := dkwX3_crowdTold_1 ++ dktX3_crowdTold_2
def dkwX3_crowdTold_0 : List UInt8 := [28]
abbrev dktX3_crowdTold_0 : List UInt8 := dkwX3_crowdTold_0 ++ dktX3_crowdTold_1
theorem dksX3_crowdTold_0 : cX3_crowdTold.data.toList.drop 0 = dktX3_crowdTold_0 := by decide +kernel
theorem dksX3_crowdTold_1 : cX3_crowdTold.data.toList.drop 1 = dktX3_crowdTold_1 := dk_seg dksX3_crowdTold_0 1 rfl rfl
theorem dksX3_crowdTold_2 : cX3_crowdTold.data.toList.drop 44 = dktX3_crowdTold_2 := dk_seg dksX3_crowdTold_1 43 rfl rfl
theorem dksX3_crowdTold_3 : cX3_crowdTold.data.toList.drop 68 = dktX3_crowdTold_3 := dk_seg dksX3_crowdTold_2 24 rfl rfl
theorem dksX3_crowdTold_4 : cX3_crowdTold.data.toList.drop 91 = dktX3_crowdTold_4 := dk_seg dksX3_crowdTold_3 23 rfl rfl
theorem dksX3_crowdTold_5 : cX3_crowdTold.data.toList.drop 113 = dktX3_crowdTold_5 := dk_seg dksX3_crowdTold_4 22 rfl rfl
theorem dksX3_crowdTold_6 : cX3_crowdTold.data.toList.drop 137 = dktX3_crowdTold_6 := dk_seg dksX3_crowdTold_5 24 rfl rfl
theorem dX3_crowdTold_0 : decode cX3_crowdTold 0 = .ok (.iload_n 2, 1) := dk_28 (dk_at dksX3_crowdTold_0 0 rfl rfl)
theorem dX3_crowdTold_1 : decode cX3_crowdTold 1 = .ok (.tableswitch 138 0 6 #[43, 56, 69, 79, 89, 99, 128], 43) := by decide +kernel
theorem dX3_crowdTold_44 : decode cX3_crowdTold 44 = .ok (.aload_n 0, 1) := dk_42 (dk_at dksX3_crowdTold_2 0 rfl rfl)
theorem dX3_crowdTold_45 : decode cX3_crowdTold 45 = .ok (.getfield 27, 3) := dk_180 0 27 (dk_at dksX3_crowdTold_2 1 rfl rfl)
theorem dX3_crowdTold_48 : decode cX3_crowdTold 48 = .ok (.getfield 69, 3) := dk_180 0 69 (dk_at dksX3_crowdTold_2 4 rfl rfl)
theorem dX3_crowdTold_51 : decode cX3_crowdTold 51 = .ok (.iload_n 1, 1) := dk_27 (dk_at dksX3_crowdTold_2 7 rfl rfl)
theorem dX3_crowdTold_52 : decode cX3_crowdTold 52 = .ok (.iaload, 1) := dk_46 (dk_at dksX3_crowdTold_2 8 rfl rfl)
theorem dX3_crowdTold_53 : decode cX3_crowdTold 53 = .ok (.bipush 12, 2) := dk_16 12 (dk_at dksX3_crowdTold_2 9 rfl rfl)
theorem dX3_crowdTold_55 : decode cX3_crowdTold 55 = .ok (.irem, 1) := dk_112 (dk_at dksX3_crowdTold_2 11 rfl rfl)
theorem dX3_crowdTold_56 : decode cX3_crowdTold 56 = .ok (.ireturn, 1) := dk_172 (dk_at dksX3_crowdTold_2 12 rfl rfl)
theorem dX3_crowdTold_57 : decode cX3_crowdTold 57 = .ok (.aload_n 0, 1) := dk_42 (dk_at dksX3_crowdTold_2 13 rfl rfl)
theorem dX3_crowdTold_58 : decode cX3_crowdTold 58 = .ok (.getfield 27, 3) := dk_180 0 27 (dk_at dksX3_crowdTold_2 14 rfl rfl)
theorem dX3_crowdTold_61 : decode cX3_crowdTold 61 = .ok (.getfield 69, 3) := dk_180 0 69 (dk_at dksX3_crowdTold_2 17 rfl rfl)
theorem dX3_crowdTold_64 : decode cX3_crowdTold 64 = .ok (.iload_n 1, 1) := dk_27 (dk_at dksX3_crowdTold_2 20 rfl rfl)
theorem dX3_crowdTold_65 : decode cX3_crowdTold 65 = .ok (.iaload, 1) := dk_46 (dk_at dksX3_crowdTold_2 21 rfl rfl)
theorem dX3_crowdTold_66 : decode cX3_crowdTold 66 = .ok (.bipush 12, 2) := dk_16 12 (dk_at dksX3_crowdTold_2 22 rfl rfl)
theorem dX3_crowdTold_68 : decode cX3_crowdTold 68 = .ok (.idiv, 1) := dk_108 (dk_at dksX3_crowdTold_3 0 rfl rfl)
theorem dX3_crowdTold_69 : decode cX3_crowdTold 69 = .ok (.ireturn, 1) := dk_172 (dk_at dksX3_crowdTold_3 1 rfl rfl)
theorem dX3_crowdTold_70 : decode cX3_crowdTold 70 = .ok (.aload_n 0, 1) := dk_42 (dk_at dksX3_crowdTold_3 2 rfl rfl)
theorem dX3_crowdTold_71 : decode cX3_crowdTold 71 = .ok (.getfield 27, 3) := dk_180 0 27 (dk_at dksX3_crowdTold_3 3 rfl rfl)
theorem dX3_crowdTold_74 : decode cX3_crowdTold 74 = .ok (.getfield 72, 3) := dk_180 0 72 (dk_at dksX3_crowdTold_3 6 rfl rfl)
theorem dX3_crowdTold_77 : decode cX3_crowdTold 77 = .ok (.iload_n 1, 1) := dk_27 (dk_at dksX3_crowdTold_3 9 rfl rfl)
theorem dX3_crowdTold_78 : decode cX3_crowdTold 78 = .ok (.iaload, 1) := dk_46 (dk_at dksX3_crowdTold_3 10 rfl rfl)
theorem dX3_crowdTold_79 : decode cX3_crowdTold 79 = .ok (.ireturn, 1) := dk_172 (dk_at dksX3_crowdTold_3 11 rfl rfl)
theorem dX3_crowdTold_80 : decode cX3_crowdTold 80 = .ok (.aload_n 0, 1) := dk_42 (dk_at dksX3_crowdTold_3 12 rfl rfl)
theorem dX3_crowdTold_81 : decode cX3_crowdTold 81 = .ok (.getfield 27, 3) := dk_180 0 27 (dk_at dksX3_crowdTold_3 13 rfl rfl)
theorem dX3_crowdTold_84 : decode cX3_crowdTold 84 = .ok (.getfield 75, 3) := dk_180 0 75 (dk_at dksX3_crowdTold_3 16 rfl rfl)
theorem dX3_crowdTold_87 : decode cX3_crowdTold 87 = .ok (.iload_n 1, 1) := dk_27 (dk_at dksX3_crowdTold_3 19 rfl rfl)
theorem dX3_crowdTold_88 : decode cX3_crowdTold 88 = .ok (.iaload, 1) := dk_46 (dk_at dksX3_crowdTold_3 20 rfl rfl)
theorem dX3_crowdTold_89 : decode cX3_crowdTold 89 = .ok (.ireturn, 1) := dk_172 (dk_at dksX3_crowdTold_3 21 rfl rfl)
theorem dX3_crowdTold_90 : decode cX3_crowdTold 90 = .ok (.aload_n 0, 1) := dk_42 (dk_at dksX3_crowdTold_3 22 rfl rfl)
theorem dX3_crowdTold_91 : decode cX3_crowdTold 91 = .ok (.getfield 27, 3) := dk_180 0 27 (dk_at dksX3_crowdTold_4 0 rfl rfl)
theorem dX3_crowdTold_94 : decode cX3_crowdTold 94 = .ok (.getfield 81, 3) := dk_180 0 81 (dk_at dksX3_crowdTold_4 3 rfl rfl)
theorem dX3_crowdTold_97 : decode cX3_crowdTold 97 = .ok (.iload_n 1, 1) := dk_27 (dk_at dksX3_crowdTold_4 6 rfl rfl)
theorem dX3_crowdTold_98 : decode cX3_crowdTold 98 = .ok (.iaload, 1) := dk_46 (dk_at dksX3_crowdTold_4 7 rfl rfl)
theorem dX3_crowdTold_99 : decode cX3_crowdTold 99 = .ok (.ireturn, 1) := dk_172 (dk_at dksX3_crowdTold_4 8 rfl rfl)
theorem dX3_crowdTold_100 : decode cX3_crowdTold 100 = .ok (.aload_n 0, 1) := dk_42 (dk_at dksX3_crowdTold_4 9 rfl rfl)
theorem dX3_crowdTold_101 : decode cX3_crowdTold 101 = .ok (.getfield 27, 3) := dk_180 0 27 (dk_at dksX3_crowdTold_4 10 rfl rfl)
theorem dX3_crowdTold_104 : decode cX3_crowdTold 104 = .ok (.getfield 81, 3) := dk_180 0 81 (dk_at dksX3_crowdTold_4 13 rfl rfl)
theorem dX3_crowdTold_107 : decode cX3_crowdTold 107 = .ok (.iload_n 1, 1) := dk_27 (dk_at dksX3_crowdTold_4 16 rfl rfl)
theorem dX3_crowdTold_108 : decode cX3_crowdTold 108 = .ok (.iaload, 1) := dk_46 (dk_at dksX3_crowdTold_4 17 rfl rfl)
theorem dX3_crowdTold_109 : decode cX3_crowdTold 109 = .ok (.ifCond .ne 7, 3) := dk_154 0 7 (dk_at dksX3_crowdTold_4 18 rfl rfl)
theorem dX3_crowdTold_112 : decode cX3_crowdTold 112 = .ok (.iconst (-1), 1) := dk_2 (dk_at dksX3_crowdTold_4 21 rfl rfl)
theorem dX3_crowdTold_113 : decode cX3_crowdTold 113 = .ok (.goto 15, 3) := dk_167 0 15 (dk_at dksX3_crowdTold_5 0 rfl rfl)
theorem dX3_crowdTold_116 : decode cX3_crowdTold 116 = .ok (.aload_n 0, 1) := dk_42 (dk_at dksX3_crowdTold_5 3 rfl rfl)
theorem dX3_crowdTold_117 : decode cX3_crowdTold 117 = .ok (.getfield 27, 3) := dk_180 0 27 (dk_at dksX3_crowdTold_5 4 rfl rfl)
theorem dX3_crowdTold_120 : decode cX3_crowdTold 120 = .ok (.getfield 84, 3) := dk_180 0 84 (dk_at dksX3_crowdTold_5 7 rfl rfl)
theorem dX3_crowdTold_123 : decode cX3_crowdTold 123 = .ok (.bipush 24, 2) := dk_16 24 (dk_at dksX3_crowdTold_5 10 rfl rfl)
theorem dX3_crowdTold_125 : decode cX3_crowdTold 125 = .ok (.iload_n 1, 1) := dk_27 (dk_at dksX3_crowdTold_5 12 rfl rfl)
theorem dX3_crowdTold_126 : decode cX3_crowdTold 126 = .ok (.imul, 1) := dk_104 (dk_at dksX3_crowdTold_5 13 rfl rfl)
theorem dX3_crowdTold_127 : decode cX3_crowdTold 127 = .ok (.iaload, 1) := dk_46 (dk_at dksX3_crowdTold_5 14 rfl rfl)
theorem dX3_crowdTold_128 : decode cX3_crowdTold 128 = .ok (.ireturn, 1) := dk_172 (dk_at dksX3_crowdTold_5 15 rfl rfl)
theorem dX3_crowdTold_129 : decode cX3_crowdTold 129 = .ok (.aload_n 0, 1) := dk_42 (dk_at dksX3_crowdTold_5 16 rfl rfl)
theorem dX3_crowdTold_130 : decode cX3_crowdTold 130 = .ok (.getfield 27, 3) := dk_180 0 27 (dk_at dksX3_crowdTold_5 17 rfl rfl)
theorem dX3_crowdTold_133 : decode cX3_crowdTold 133 = .ok (.getfield 90, 3) := dk_180 0 90 (dk_at dksX3_crowdTold_5 20 rfl rfl)
theorem dX3_crowdTold_136 : decode cX3_crowdTold 136 = .ok (.iload_n 1, 1) := dk_27 (dk_at dksX3_crowdTold_5 23 rfl rfl)
theorem dX3_crowdTold_137 : decode cX3_crowdTold 137 = .ok (.iaload, 1) := dk_46 (dk_at dksX3_crowdTold_6 0 rfl rfl)
theorem dX3_crowdTold_138 : decode cX3_crowdTold 138 = .ok (.ireturn, 1) := dk_172 (dk_at dksX3_crowdTold_6 1 rfl rfl)
theorem dX3_crowdTold_139 : decode cX3_crowdTold 139 = .ok (.aload_n 0, 1) := dk_42 (dk_at dksX3_crowdTold_6 2 rfl rfl)
theorem dX3_crowdTold_140 : decode cX3_crowdTold 140 = .ok (.getfield 27, 3) := dk_180 0 27 (dk_at dksX3_crowdTold_6 3 rfl rfl)
theorem dX3_crowdTold_143 : decode cX3_crowdTold 143 = .ok (.iload_n 1, 1) := dk_27 (dk_at dksX3_crowdTold_6 6 rfl rfl)
theorem dX3_crowdTold_144 : decode cX3_crowdTold 144 = .ok (.invokevirtual 93, 3) := dk_182 0 93 (dk_at dksX3_crowdTold_6 7 rfl rfl)
theorem dX3_crowdTold_147 : decode cX3_crowdTold 147 = .ok (.ireturn, 1) := dk_172 (dk_at dksX3_crowdTold_6 10 rfl rfl)
abbrev cX3_guard : ByteArray := prog_6_method_19_code
def yX3_guard : MethodName := ⟨RX3, "guard", "(II)I"⟩
def dkwX3_guard_1 : List UInt8 := [28, 182, 0, 109, 167, 0, 8, 42, 4, 182, 0, 58, 172]
abbrev dktX3_guard_1 : List UInt8 := dkwX3_guard_1 ++ []
def dkwX3_guard_0 : List UInt8 := [42, 3, 181, 0, 34, 42, 27, 182, 0, 106, 153, 0, 21, 28, 3, 6, 184, 0, 38, 153, 0, 12, 42, 27]
abbrev dktX3_guard_0 : List UInt8 := dkwX3_guard_0 ++ dktX3_guard_1
theorem dksX3_guard_0 : cX3_guard.data.toList.drop 0 = dktX3_guard_0 := by decide +kernel
theorem dksX3_guard_1 : cX3_guard.data.toList.drop 24 = dktX3_guard_1 := dk_seg dksX3_guard_0 24 rfl rfl
theorem dX3_guard_0 : decode cX3_guard 0 = .ok (.aload_n 0, 1) := dk_42 (dk_at dksX3_guard_0 0 rfl rfl)
theorem dX3_guard_1 : decode cX3_guard 1 = .ok (.iconst 0, 1) := dk_3 (dk_at dksX3_guard_0 1 rfl rfl)
theorem dX3_guard_2 : decode cX3_guard 2 = .ok (.putfield 34, 3) := dk_181 0 34 (dk_at dksX3_guard_0 2 rfl rfl)
theorem dX3_guard_5 : decode cX3_guard 5 = .ok (.aload_n 0, 1) := dk_42 (dk_at dksX3_guard_0 5 rfl rfl)
theorem dX3_guard_6 : decode cX3_guard 6 = .ok (.iload_n 1, 1) := dk_27 (dk_at dksX3_guard_0 6 rfl rfl)
theorem dX3_guard_7 : decode cX3_guard 7 = .ok (.invokevirtual 106, 3) := dk_182 0 106 (dk_at dksX3_guard_0 7 rfl rfl)
theorem dX3_guard_10 : decode cX3_guard 10 = .ok (.ifCond .eq 21, 3) := dk_153 0 21 (dk_at dksX3_guard_0 10 rfl rfl)
theorem dX3_guard_13 : decode cX3_guard 13 = .ok (.iload_n 2, 1) := dk_28 (dk_at dksX3_guard_0 13 rfl rfl)
theorem dX3_guard_14 : decode cX3_guard 14 = .ok (.iconst 0, 1) := dk_3 (dk_at dksX3_guard_0 14 rfl rfl)
theorem dX3_guard_15 : decode cX3_guard 15 = .ok (.iconst 3, 1) := dk_6 (dk_at dksX3_guard_0 15 rfl rfl)
theorem dX3_guard_16 : decode cX3_guard 16 = .ok (.invokestatic 38, 3) := dk_184 0 38 (dk_at dksX3_guard_0 16 rfl rfl)
theorem dX3_guard_19 : decode cX3_guard 19 = .ok (.ifCond .eq 12, 3) := dk_153 0 12 (dk_at dksX3_guard_0 19 rfl rfl)
theorem dX3_guard_22 : decode cX3_guard 22 = .ok (.aload_n 0, 1) := dk_42 (dk_at dksX3_guard_0 22 rfl rfl)
theorem dX3_guard_23 : decode cX3_guard 23 = .ok (.iload_n 1, 1) := dk_27 (dk_at dksX3_guard_0 23 rfl rfl)
theorem dX3_guard_24 : decode cX3_guard 24 = .ok (.iload_n 2, 1) := dk_28 (dk_at dksX3_guard_1 0 rfl rfl)
theorem dX3_guard_25 : decode cX3_guard 25 = .ok (.invokevirtual 109, 3) := dk_182 0 109 (dk_at dksX3_guard_1 1 rfl rfl)
theorem dX3_guard_28 : decode cX3_guard 28 = .ok (.goto 8, 3) := dk_167 0 8 (dk_at dksX3_guard_1 4 rfl rfl)
theorem dX3_guard_31 : decode cX3_guard 31 = .ok (.aload_n 0, 1) := dk_42 (dk_at dksX3_guard_1 7 rfl rfl)
theorem dX3_guard_32 : decode cX3_guard 32 = .ok (.iconst 1, 1) := dk_4 (dk_at dksX3_guard_1 8 rfl rfl)
theorem dX3_guard_33 : decode cX3_guard 33 = .ok (.invokevirtual 58, 3) := dk_182 0 58 (dk_at dksX3_guard_1 9 rfl rfl)
theorem dX3_guard_36 : decode cX3_guard 36 = .ok (.ireturn, 1) := dk_172 (dk_at dksX3_guard_1 12 rfl rfl)
abbrev cX3_isPatrol : ByteArray := prog_6_method_7_code
def yX3_isPatrol : MethodName := ⟨RX3, "isPatrol", "(I)Z"⟩
def dkwX3_isPatrol_0 : List UInt8 := [27, 3, 42, 180, 0, 45, 4, 100, 184, 0, 38, 172]
abbrev dktX3_isPatrol_0 : List UInt8 := dkwX3_isPatrol_0 ++ []
theorem dksX3_isPatrol_0 : cX3_isPatrol.data.toList.drop 0 = dktX3_isPatrol_0 := by decide +kernel
theorem dX3_isPatrol_0 : decode cX3_isPatrol 0 = .ok (.iload_n 1, 1) := dk_27 (dk_at dksX3_isPatrol_0 0 rfl rfl)
theorem dX3_isPatrol_1 : decode cX3_isPatrol 1 = .ok (.iconst 0, 1) := dk_3 (dk_at dksX3_isPatrol_0 1 rfl rfl)
theorem dX3_isPatrol_2 : decode cX3_isPatrol 2 = .ok (.aload_n 0, 1) := dk_42 (dk_at dksX3_isPatrol_0 2 rfl rfl)
theorem dX3_isPatrol_3 : decode cX3_isPatrol 3 = .ok (.getfield 45, 3) := dk_180 0 45 (dk_at dksX3_isPatrol_0 3 rfl rfl)
theorem dX3_isPatrol_6 : decode cX3_isPatrol 6 = .ok (.iconst 1, 1) := dk_4 (dk_at dksX3_isPatrol_0 6 rfl rfl)
theorem dX3_isPatrol_7 : decode cX3_isPatrol 7 = .ok (.isub, 1) := dk_100 (dk_at dksX3_isPatrol_0 7 rfl rfl)
theorem dX3_isPatrol_8 : decode cX3_isPatrol 8 = .ok (.invokestatic 38, 3) := dk_184 0 38 (dk_at dksX3_isPatrol_0 8 rfl rfl)
theorem dX3_isPatrol_11 : decode cX3_isPatrol 11 = .ok (.ireturn, 1) := dk_172 (dk_at dksX3_isPatrol_0 11 rfl rfl)
abbrev cX3_guardTold : ByteArray := prog_6_method_18_code
def yX3_guardTold : MethodName := ⟨RX3, "guardTold", "(II)I"⟩
def dkwX3_guardTold_4 : List UInt8 := [42, 180, 0, 27, 180, 0, 103, 27, 46, 96, 46, 167, 0, 4, 29, 172]
abbrev dktX3_guardTold_4 : List UInt8 := dkwX3_guardTold_4 ++ []
def dkwX3_guardTold_3 : List UInt8 := [180, 0, 87, 27, 46, 16, 12, 108, 167, 0, 31, 28, 5, 160, 0, 25, 42, 180, 0, 13, 16, 12, 27, 104]
abbrev dktX3_guardTold_3 : List UInt8 := dkwX3_guardTold_3 ++ dktX3_guardTold_4
def dkwX3_guardTold_2 : List UInt8 := [180, 0, 27, 180, 0, 87, 27, 46, 16, 12, 112, 167, 0, 51, 28, 4, 160, 0, 18, 42, 180, 0, 27]
abbrev dktX3_guardTold_2 : List UInt8 := dkwX3_guardTold_2 ++ dktX3_guardTold_3
def dkwX3_guardTold_1 : List UInt8 := [182, 0, 100, 153, 0, 7, 4, 167, 0, 4, 3, 96, 62, 132, 4, 1, 167, 255, 223, 28, 154, 0, 18, 42]
abbrev dktX3_guardTold_1 : List UInt8 := dkwX3_guardTold_1 ++ dktX3_guardTold_2
def dkwX3_guardTold_0 : List UInt8 := [3, 62, 3, 54, 4, 21, 4, 42, 180, 0, 42, 162, 0, 30, 29, 42, 180, 0, 27, 27, 21, 4]
abbrev dktX3_guardTold_0 : List UInt8 := dkwX3_guardTold_0 ++ dktX3_guardTold_1
theorem dksX3_guardTold_0 : cX3_guardTold.data.toList.drop 0 = dktX3_guardTold_0 := by decide +kernel
theorem dksX3_guardTold_1 : cX3_guardTold.data.toList.drop 22 = dktX3_guardTold_1 := dk_seg dksX3_guardTold_0 22 rfl rfl
theorem dksX3_guardTold_2 : cX3_guardTold.data.toList.drop 46 = dktX3_guardTold_2 := dk_seg dksX3_guardTold_1 24 rfl rfl
theorem dksX3_guardTold_3 : cX3_guardTold.data.toList.drop 69 = dktX3_guardTold_3 := dk_seg dksX3_guardTold_2 23 rfl rfl
theorem dksX3_guardTold_4 : cX3_guardTold.data.toList.drop 93 = dktX3_guardTold_4 := dk_seg dksX3_guardTold_3 24 rfl rfl
theorem dX3_guardTold_0 : decode cX3_guardTold 0 = .ok (.iconst 0, 1) := dk_3 (dk_at dksX3_guardTold_0 0 rfl rfl)
theorem dX3_guardTold_1 : decode cX3_guardTold 1 = .ok (.istore_n 3, 1) := dk_62 (dk_at dksX3_guardTold_0 1 rfl rfl)
theorem dX3_guardTold_2 : decode cX3_guardTold 2 = .ok (.iconst 0, 1) := dk_3 (dk_at dksX3_guardTold_0 2 rfl rfl)
theorem dX3_guardTold_3 : decode cX3_guardTold 3 = .ok (.istore 4, 2) := dk_54 4 (dk_at dksX3_guardTold_0 3 rfl rfl)
theorem dX3_guardTold_5 : decode cX3_guardTold 5 = .ok (.iload 4, 2) := dk_21 4 (dk_at dksX3_guardTold_0 5 rfl rfl)
theorem dX3_guardTold_7 : decode cX3_guardTold 7 = .ok (.aload_n 0, 1) := dk_42 (dk_at dksX3_guardTold_0 7 rfl rfl)
theorem dX3_guardTold_8 : decode cX3_guardTold 8 = .ok (.getfield 42, 3) := dk_180 0 42 (dk_at dksX3_guardTold_0 8 rfl rfl)
theorem dX3_guardTold_11 : decode cX3_guardTold 11 = .ok (.if_icmp .ge 30, 3) := dk_162 0 30 (dk_at dksX3_guardTold_0 11 rfl rfl)
theorem dX3_guardTold_14 : decode cX3_guardTold 14 = .ok (.iload_n 3, 1) := dk_29 (dk_at dksX3_guardTold_0 14 rfl rfl)
theorem dX3_guardTold_15 : decode cX3_guardTold 15 = .ok (.aload_n 0, 1) := dk_42 (dk_at dksX3_guardTold_0 15 rfl rfl)
theorem dX3_guardTold_16 : decode cX3_guardTold 16 = .ok (.getfield 27, 3) := dk_180 0 27 (dk_at dksX3_guardTold_0 16 rfl rfl)
theorem dX3_guardTold_19 : decode cX3_guardTold 19 = .ok (.iload_n 1, 1) := dk_27 (dk_at dksX3_guardTold_0 19 rfl rfl)
theorem dX3_guardTold_20 : decode cX3_guardTold 20 = .ok (.iload 4, 2) := dk_21 4 (dk_at dksX3_guardTold_0 20 rfl rfl)
theorem dX3_guardTold_22 : decode cX3_guardTold 22 = .ok (.invokevirtual 100, 3) := dk_182 0 100 (dk_at dksX3_guardTold_1 0 rfl rfl)
theorem dX3_guardTold_25 : decode cX3_guardTold 25 = .ok (.ifCond .eq 7, 3) := dk_153 0 7 (dk_at dksX3_guardTold_1 3 rfl rfl)
theorem dX3_guardTold_28 : decode cX3_guardTold 28 = .ok (.iconst 1, 1) := dk_4 (dk_at dksX3_guardTold_1 6 rfl rfl)
theorem dX3_guardTold_29 : decode cX3_guardTold 29 = .ok (.goto 4, 3) := dk_167 0 4 (dk_at dksX3_guardTold_1 7 rfl rfl)
theorem dX3_guardTold_32 : decode cX3_guardTold 32 = .ok (.iconst 0, 1) := dk_3 (dk_at dksX3_guardTold_1 10 rfl rfl)
theorem dX3_guardTold_33 : decode cX3_guardTold 33 = .ok (.iadd, 1) := dk_96 (dk_at dksX3_guardTold_1 11 rfl rfl)
theorem dX3_guardTold_34 : decode cX3_guardTold 34 = .ok (.istore_n 3, 1) := dk_62 (dk_at dksX3_guardTold_1 12 rfl rfl)
theorem dX3_guardTold_35 : decode cX3_guardTold 35 = .ok (.iinc 4 1, 3) := dk_132 4 1 (dk_at dksX3_guardTold_1 13 rfl rfl)
theorem dX3_guardTold_38 : decode cX3_guardTold 38 = .ok (.goto (-33), 3) := dk_167 255 223 (dk_at dksX3_guardTold_1 16 rfl rfl)
theorem dX3_guardTold_41 : decode cX3_guardTold 41 = .ok (.iload_n 2, 1) := dk_28 (dk_at dksX3_guardTold_1 19 rfl rfl)
theorem dX3_guardTold_42 : decode cX3_guardTold 42 = .ok (.ifCond .ne 18, 3) := dk_154 0 18 (dk_at dksX3_guardTold_1 20 rfl rfl)
theorem dX3_guardTold_45 : decode cX3_guardTold 45 = .ok (.aload_n 0, 1) := dk_42 (dk_at dksX3_guardTold_1 23 rfl rfl)
theorem dX3_guardTold_46 : decode cX3_guardTold 46 = .ok (.getfield 27, 3) := dk_180 0 27 (dk_at dksX3_guardTold_2 0 rfl rfl)
theorem dX3_guardTold_49 : decode cX3_guardTold 49 = .ok (.getfield 87, 3) := dk_180 0 87 (dk_at dksX3_guardTold_2 3 rfl rfl)
theorem dX3_guardTold_52 : decode cX3_guardTold 52 = .ok (.iload_n 1, 1) := dk_27 (dk_at dksX3_guardTold_2 6 rfl rfl)
theorem dX3_guardTold_53 : decode cX3_guardTold 53 = .ok (.iaload, 1) := dk_46 (dk_at dksX3_guardTold_2 7 rfl rfl)
theorem dX3_guardTold_54 : decode cX3_guardTold 54 = .ok (.bipush 12, 2) := dk_16 12 (dk_at dksX3_guardTold_2 8 rfl rfl)
theorem dX3_guardTold_56 : decode cX3_guardTold 56 = .ok (.irem, 1) := dk_112 (dk_at dksX3_guardTold_2 10 rfl rfl)
theorem dX3_guardTold_57 : decode cX3_guardTold 57 = .ok (.goto 51, 3) := dk_167 0 51 (dk_at dksX3_guardTold_2 11 rfl rfl)
theorem dX3_guardTold_60 : decode cX3_guardTold 60 = .ok (.iload_n 2, 1) := dk_28 (dk_at dksX3_guardTold_2 14 rfl rfl)
theorem dX3_guardTold_61 : decode cX3_guardTold 61 = .ok (.iconst 1, 1) := dk_4 (dk_at dksX3_guardTold_2 15 rfl rfl)
theorem dX3_guardTold_62 : decode cX3_guardTold 62 = .ok (.if_icmp .ne 18, 3) := dk_160 0 18 (dk_at dksX3_guardTold_2 16 rfl rfl)
theorem dX3_guardTold_65 : decode cX3_guardTold 65 = .ok (.aload_n 0, 1) := dk_42 (dk_at dksX3_guardTold_2 19 rfl rfl)
theorem dX3_guardTold_66 : decode cX3_guardTold 66 = .ok (.getfield 27, 3) := dk_180 0 27 (dk_at dksX3_guardTold_2 20 rfl rfl)
theorem dX3_guardTold_69 : decode cX3_guardTold 69 = .ok (.getfield 87, 3) := dk_180 0 87 (dk_at dksX3_guardTold_3 0 rfl rfl)
theorem dX3_guardTold_72 : decode cX3_guardTold 72 = .ok (.iload_n 1, 1) := dk_27 (dk_at dksX3_guardTold_3 3 rfl rfl)
theorem dX3_guardTold_73 : decode cX3_guardTold 73 = .ok (.iaload, 1) := dk_46 (dk_at dksX3_guardTold_3 4 rfl rfl)
theorem dX3_guardTold_74 : decode cX3_guardTold 74 = .ok (.bipush 12, 2) := dk_16 12 (dk_at dksX3_guardTold_3 5 rfl rfl)
theorem dX3_guardTold_76 : decode cX3_guardTold 76 = .ok (.idiv, 1) := dk_108 (dk_at dksX3_guardTold_3 7 rfl rfl)
theorem dX3_guardTold_77 : decode cX3_guardTold 77 = .ok (.goto 31, 3) := dk_167 0 31 (dk_at dksX3_guardTold_3 8 rfl rfl)
theorem dX3_guardTold_80 : decode cX3_guardTold 80 = .ok (.iload_n 2, 1) := dk_28 (dk_at dksX3_guardTold_3 11 rfl rfl)
theorem dX3_guardTold_81 : decode cX3_guardTold 81 = .ok (.iconst 2, 1) := dk_5 (dk_at dksX3_guardTold_3 12 rfl rfl)
theorem dX3_guardTold_82 : decode cX3_guardTold 82 = .ok (.if_icmp .ne 25, 3) := dk_160 0 25 (dk_at dksX3_guardTold_3 13 rfl rfl)
theorem dX3_guardTold_85 : decode cX3_guardTold 85 = .ok (.aload_n 0, 1) := dk_42 (dk_at dksX3_guardTold_3 16 rfl rfl)
theorem dX3_guardTold_86 : decode cX3_guardTold 86 = .ok (.getfield 13, 3) := dk_180 0 13 (dk_at dksX3_guardTold_3 17 rfl rfl)
theorem dX3_guardTold_89 : decode cX3_guardTold 89 = .ok (.bipush 12, 2) := dk_16 12 (dk_at dksX3_guardTold_3 20 rfl rfl)
theorem dX3_guardTold_91 : decode cX3_guardTold 91 = .ok (.iload_n 1, 1) := dk_27 (dk_at dksX3_guardTold_3 22 rfl rfl)
theorem dX3_guardTold_92 : decode cX3_guardTold 92 = .ok (.imul, 1) := dk_104 (dk_at dksX3_guardTold_3 23 rfl rfl)
theorem dX3_guardTold_93 : decode cX3_guardTold 93 = .ok (.aload_n 0, 1) := dk_42 (dk_at dksX3_guardTold_4 0 rfl rfl)
theorem dX3_guardTold_94 : decode cX3_guardTold 94 = .ok (.getfield 27, 3) := dk_180 0 27 (dk_at dksX3_guardTold_4 1 rfl rfl)
theorem dX3_guardTold_97 : decode cX3_guardTold 97 = .ok (.getfield 103, 3) := dk_180 0 103 (dk_at dksX3_guardTold_4 4 rfl rfl)
theorem dX3_guardTold_100 : decode cX3_guardTold 100 = .ok (.iload_n 1, 1) := dk_27 (dk_at dksX3_guardTold_4 7 rfl rfl)
theorem dX3_guardTold_101 : decode cX3_guardTold 101 = .ok (.iaload, 1) := dk_46 (dk_at dksX3_guardTold_4 8 rfl rfl)
theorem dX3_guardTold_102 : decode cX3_guardTold 102 = .ok (.iadd, 1) := dk_96 (dk_at dksX3_guardTold_4 9 rfl rfl)
theorem dX3_guardTold_103 : decode cX3_guardTold 103 = .ok (.iaload, 1) := dk_46 (dk_at dksX3_guardTold_4 10 rfl rfl)
theorem dX3_guardTold_104 : decode cX3_guardTold 104 = .ok (.goto 4, 3) := dk_167 0 4 (dk_at dksX3_guardTold_4 11 rfl rfl)
theorem dX3_guardTold_107 : decode cX3_guardTold 107 = .ok (.iload_n 3, 1) := dk_29 (dk_at dksX3_guardTold_4 14 rfl rfl)
theorem dX3_guardTold_108 : decode cX3_guardTold 108 = .ok (.ireturn, 1) := dk_172 (dk_at dksX3_guardTold_4 15 rfl rfl)
abbrev cX3_sees : ByteArray := prog_6_method_20_code
def yX3_sees : MethodName := ⟨RX3, "sees", "(II)Z"⟩
def dkwX3_sees_2 : List UInt8 := [172]
abbrev dktX3_sees_2 : List UInt8 := dkwX3_sees_2 ++ []
def dkwX3_sees_1 : List UInt8 := [180, 0, 27, 27, 28, 182, 0, 100, 167, 0, 16, 42, 4, 182, 0, 58, 153, 0, 7, 4, 167, 0, 4, 3]
abbrev dktX3_sees_1 : List UInt8 := dkwX3_sees_1 ++ dktX3_sees_2
def dkwX3_sees_0 : List UInt8 := [42, 3, 181, 0, 34, 42, 27, 182, 0, 106, 153, 0, 23, 42, 28, 182, 0, 78, 153, 0, 15, 42]
abbrev dktX3_sees_0 : List UInt8 := dkwX3_sees_0 ++ dktX3_sees_1
theorem dksX3_sees_0 : cX3_sees.data.toList.drop 0 = dktX3_sees_0 := by decide +kernel
theorem dksX3_sees_1 : cX3_sees.data.toList.drop 22 = dktX3_sees_1 := dk_seg dksX3_sees_0 22 rfl rfl
theorem dksX3_sees_2 : cX3_sees.data.toList.drop 46 = dktX3_sees_2 := dk_seg dksX3_sees_1 24 rfl rfl
theorem dX3_sees_0 : decode cX3_sees 0 = .ok (.aload_n 0, 1) := dk_42 (dk_at dksX3_sees_0 0 rfl rfl)
theorem dX3_sees_1 : decode cX3_sees 1 = .ok (.iconst 0, 1) := dk_3 (dk_at dksX3_sees_0 1 rfl rfl)
theorem dX3_sees_2 : decode cX3_sees 2 = .ok (.putfield 34, 3) := dk_181 0 34 (dk_at dksX3_sees_0 2 rfl rfl)
theorem dX3_sees_5 : decode cX3_sees 5 = .ok (.aload_n 0, 1) := dk_42 (dk_at dksX3_sees_0 5 rfl rfl)
theorem dX3_sees_6 : decode cX3_sees 6 = .ok (.iload_n 1, 1) := dk_27 (dk_at dksX3_sees_0 6 rfl rfl)
theorem dX3_sees_7 : decode cX3_sees 7 = .ok (.invokevirtual 106, 3) := dk_182 0 106 (dk_at dksX3_sees_0 7 rfl rfl)
theorem dX3_sees_10 : decode cX3_sees 10 = .ok (.ifCond .eq 23, 3) := dk_153 0 23 (dk_at dksX3_sees_0 10 rfl rfl)
theorem dX3_sees_13 : decode cX3_sees 13 = .ok (.aload_n 0, 1) := dk_42 (dk_at dksX3_sees_0 13 rfl rfl)
theorem dX3_sees_14 : decode cX3_sees 14 = .ok (.iload_n 2, 1) := dk_28 (dk_at dksX3_sees_0 14 rfl rfl)
theorem dX3_sees_15 : decode cX3_sees 15 = .ok (.invokevirtual 78, 3) := dk_182 0 78 (dk_at dksX3_sees_0 15 rfl rfl)
theorem dX3_sees_18 : decode cX3_sees 18 = .ok (.ifCond .eq 15, 3) := dk_153 0 15 (dk_at dksX3_sees_0 18 rfl rfl)
theorem dX3_sees_21 : decode cX3_sees 21 = .ok (.aload_n 0, 1) := dk_42 (dk_at dksX3_sees_0 21 rfl rfl)
theorem dX3_sees_22 : decode cX3_sees 22 = .ok (.getfield 27, 3) := dk_180 0 27 (dk_at dksX3_sees_1 0 rfl rfl)
theorem dX3_sees_25 : decode cX3_sees 25 = .ok (.iload_n 1, 1) := dk_27 (dk_at dksX3_sees_1 3 rfl rfl)
theorem dX3_sees_26 : decode cX3_sees 26 = .ok (.iload_n 2, 1) := dk_28 (dk_at dksX3_sees_1 4 rfl rfl)
theorem dX3_sees_27 : decode cX3_sees 27 = .ok (.invokevirtual 100, 3) := dk_182 0 100 (dk_at dksX3_sees_1 5 rfl rfl)
theorem dX3_sees_30 : decode cX3_sees 30 = .ok (.goto 16, 3) := dk_167 0 16 (dk_at dksX3_sees_1 8 rfl rfl)
theorem dX3_sees_33 : decode cX3_sees 33 = .ok (.aload_n 0, 1) := dk_42 (dk_at dksX3_sees_1 11 rfl rfl)
theorem dX3_sees_34 : decode cX3_sees 34 = .ok (.iconst 1, 1) := dk_4 (dk_at dksX3_sees_1 12 rfl rfl)
theorem dX3_sees_35 : decode cX3_sees 35 = .ok (.invokevirtual 58, 3) := dk_182 0 58 (dk_at dksX3_sees_1 13 rfl rfl)
theorem dX3_sees_38 : decode cX3_sees 38 = .ok (.ifCond .eq 7, 3) := dk_153 0 7 (dk_at dksX3_sees_1 16 rfl rfl)
theorem dX3_sees_41 : decode cX3_sees 41 = .ok (.iconst 1, 1) := dk_4 (dk_at dksX3_sees_1 19 rfl rfl)
theorem dX3_sees_42 : decode cX3_sees 42 = .ok (.goto 4, 3) := dk_167 0 4 (dk_at dksX3_sees_1 20 rfl rfl)
theorem dX3_sees_45 : decode cX3_sees 45 = .ok (.iconst 0, 1) := dk_3 (dk_at dksX3_sees_1 23 rfl rfl)
theorem dX3_sees_46 : decode cX3_sees 46 = .ok (.ireturn, 1) := dk_172 (dk_at dksX3_sees_2 0 rfl rfl)
abbrev cX3_count : ByteArray := prog_6_method_23_code
def yX3_count : MethodName := ⟨RX3, "count", "(I)I"⟩
def dkwX3_count_1 : List UInt8 := [4, 182, 0, 58, 172]
abbrev dktX3_count_1 : List UInt8 := dkwX3_count_1 ++ []
def dkwX3_count_0 : List UInt8 := [42, 3, 181, 0, 34, 27, 3, 16, 7, 184, 0, 38, 153, 0, 11, 42, 27, 182, 0, 125, 167, 0, 8, 42]
abbrev dktX3_count_0 : List UInt8 := dkwX3_count_0 ++ dktX3_count_1
theorem dksX3_count_0 : cX3_count.data.toList.drop 0 = dktX3_count_0 := by decide +kernel
theorem dksX3_count_1 : cX3_count.data.toList.drop 24 = dktX3_count_1 := dk_seg dksX3_count_0 24 rfl rfl
theorem dX3_count_0 : decode cX3_count 0 = .ok (.aload_n 0, 1) := dk_42 (dk_at dksX3_count_0 0 rfl rfl)
theorem dX3_count_1 : decode cX3_count 1 = .ok (.iconst 0, 1) := dk_3 (dk_at dksX3_count_0 1 rfl rfl)
theorem dX3_count_2 : decode cX3_count 2 = .ok (.putfield 34, 3) := dk_181 0 34 (dk_at dksX3_count_0 2 rfl rfl)
theorem dX3_count_5 : decode cX3_count 5 = .ok (.iload_n 1, 1) := dk_27 (dk_at dksX3_count_0 5 rfl rfl)
theorem dX3_count_6 : decode cX3_count 6 = .ok (.iconst 0, 1) := dk_3 (dk_at dksX3_count_0 6 rfl rfl)
theorem dX3_count_7 : decode cX3_count 7 = .ok (.bipush 7, 2) := dk_16 7 (dk_at dksX3_count_0 7 rfl rfl)
theorem dX3_count_9 : decode cX3_count 9 = .ok (.invokestatic 38, 3) := dk_184 0 38 (dk_at dksX3_count_0 9 rfl rfl)
theorem dX3_count_12 : decode cX3_count 12 = .ok (.ifCond .eq 11, 3) := dk_153 0 11 (dk_at dksX3_count_0 12 rfl rfl)
theorem dX3_count_15 : decode cX3_count 15 = .ok (.aload_n 0, 1) := dk_42 (dk_at dksX3_count_0 15 rfl rfl)
theorem dX3_count_16 : decode cX3_count 16 = .ok (.iload_n 1, 1) := dk_27 (dk_at dksX3_count_0 16 rfl rfl)
theorem dX3_count_17 : decode cX3_count 17 = .ok (.invokevirtual 125, 3) := dk_182 0 125 (dk_at dksX3_count_0 17 rfl rfl)
theorem dX3_count_20 : decode cX3_count 20 = .ok (.goto 8, 3) := dk_167 0 8 (dk_at dksX3_count_0 20 rfl rfl)
theorem dX3_count_23 : decode cX3_count 23 = .ok (.aload_n 0, 1) := dk_42 (dk_at dksX3_count_0 23 rfl rfl)
theorem dX3_count_24 : decode cX3_count 24 = .ok (.iconst 1, 1) := dk_4 (dk_at dksX3_count_1 0 rfl rfl)
theorem dX3_count_25 : decode cX3_count 25 = .ok (.invokevirtual 58, 3) := dk_182 0 58 (dk_at dksX3_count_1 1 rfl rfl)
theorem dX3_count_28 : decode cX3_count 28 = .ok (.ireturn, 1) := dk_172 (dk_at dksX3_count_1 4 rfl rfl)
abbrev cX3_counted : ByteArray := prog_6_method_22_code
def yX3_counted : MethodName := ⟨RX3, "counted", "(I)I"⟩
def dkwX3_counted_7 : List UInt8 := [16, 7, 21, 4, 79, 58, 5, 25, 5, 27, 46, 172]
abbrev dktX3_counted_7 : List UInt8 := dkwX3_counted_7 ++ []
def dkwX3_counted_6 : List UInt8 := [42, 182, 0, 119, 79, 89, 8, 42, 180, 0, 27, 182, 0, 122, 79, 89, 16, 6, 42, 180, 0, 45, 79, 89]
abbrev dktX3_counted_6 : List UInt8 := dkwX3_counted_6 ++ dktX3_counted_7
def dkwX3_counted_5 : List UInt8 := [180, 0, 112, 79, 89, 4, 28, 79, 89, 5, 42, 180, 0, 27, 182, 0, 115, 79, 89, 6, 29, 79, 89, 7]
abbrev dktX3_counted_5 : List UInt8 := dkwX3_counted_5 ++ dktX3_counted_6
def dkwX3_counted_4 : List UInt8 := [21, 5, 46, 96, 54, 4, 132, 5, 1, 167, 255, 229, 16, 8, 188, 10, 89, 3, 42, 180, 0, 27]
abbrev dktX3_counted_4 : List UInt8 := dkwX3_counted_4 ++ dktX3_counted_5
def dkwX3_counted_3 : List UInt8 := [167, 255, 212, 3, 54, 5, 21, 5, 42, 180, 0, 42, 162, 0, 24, 21, 4, 42, 180, 0, 27, 180, 0, 90]
abbrev dktX3_counted_3 : List UInt8 := dkwX3_counted_3 ++ dktX3_counted_4
def dkwX3_counted_2 : List UInt8 := [167, 0, 4, 3, 96, 61, 29, 21, 8, 154, 0, 7, 4, 167, 0, 4, 3, 96, 62, 132, 7, 1]
abbrev dktX3_counted_2 : List UInt8 := dkwX3_counted_2 ++ dktX3_counted_3
def dkwX3_counted_1 : List UInt8 := [21, 7, 21, 6, 162, 0, 43, 25, 5, 21, 7, 46, 54, 8, 28, 21, 8, 2, 160, 0, 7, 4]
abbrev dktX3_counted_1 : List UInt8 := dkwX3_counted_1 ++ dktX3_counted_2
def dkwX3_counted_0 : List UInt8 := [3, 61, 3, 62, 3, 54, 4, 42, 180, 0, 27, 180, 0, 62, 58, 5, 25, 5, 190, 54, 6, 3, 54, 7]
abbrev dktX3_counted_0 : List UInt8 := dkwX3_counted_0 ++ dktX3_counted_1
theorem dksX3_counted_0 : cX3_counted.data.toList.drop 0 = dktX3_counted_0 := by decide +kernel
theorem dksX3_counted_1 : cX3_counted.data.toList.drop 24 = dktX3_counted_1 := dk_seg dksX3_counted_0 24 rfl rfl
theorem dksX3_counted_2 : cX3_counted.data.toList.drop 46 = dktX3_counted_2 := dk_seg dksX3_counted_1 22 rfl rfl
theorem dksX3_counted_3 : cX3_counted.data.toList.drop 68 = dktX3_counted_3 := dk_seg dksX3_counted_2 22 rfl rfl
theorem dksX3_counted_4 : cX3_counted.data.toList.drop 92 = dktX3_counted_4 := dk_seg dksX3_counted_3 24 rfl rfl
theorem dksX3_counted_5 : cX3_counted.data.toList.drop 114 = dktX3_counted_5 := dk_seg dksX3_counted_4 22 rfl rfl
theorem dksX3_counted_6 : cX3_counted.data.toList.drop 138 = dktX3_counted_6 := dk_seg dksX3_counted_5 24 rfl rfl
theorem dksX3_counted_7 : cX3_counted.data.toList.drop 162 = dktX3_counted_7 := dk_seg dksX3_counted_6 24 rfl rfl
theorem dX3_counted_0 : decode cX3_counted 0 = .ok (.iconst 0, 1) := dk_3 (dk_at dksX3_counted_0 0 rfl rfl)
theorem dX3_counted_1 : decode cX3_counted 1 = .ok (.istore_n 2, 1) := dk_61 (dk_at dksX3_counted_0 1 rfl rfl)
theorem dX3_counted_2 : decode cX3_counted 2 = .ok (.iconst 0, 1) := dk_3 (dk_at dksX3_counted_0 2 rfl rfl)
theorem dX3_counted_3 : decode cX3_counted 3 = .ok (.istore_n 3, 1) := dk_62 (dk_at dksX3_counted_0 3 rfl rfl)
theorem dX3_counted_4 : decode cX3_counted 4 = .ok (.iconst 0, 1) := dk_3 (dk_at dksX3_counted_0 4 rfl rfl)
theorem dX3_counted_5 : decode cX3_counted 5 = .ok (.istore 4, 2) := dk_54 4 (dk_at dksX3_counted_0 5 rfl rfl)
theorem dX3_counted_7 : decode cX3_counted 7 = .ok (.aload_n 0, 1) := dk_42 (dk_at dksX3_counted_0 7 rfl rfl)
theorem dX3_counted_8 : decode cX3_counted 8 = .ok (.getfield 27, 3) := dk_180 0 27 (dk_at dksX3_counted_0 8 rfl rfl)
theorem dX3_counted_11 : decode cX3_counted 11 = .ok (.getfield 62, 3) := dk_180 0 62 (dk_at dksX3_counted_0 11 rfl rfl)
theorem dX3_counted_14 : decode cX3_counted 14 = .ok (.astore 5, 2) := dk_58 5 (dk_at dksX3_counted_0 14 rfl rfl)
theorem dX3_counted_16 : decode cX3_counted 16 = .ok (.aload 5, 2) := dk_25 5 (dk_at dksX3_counted_0 16 rfl rfl)
theorem dX3_counted_18 : decode cX3_counted 18 = .ok (.arraylength, 1) := dk_190 (dk_at dksX3_counted_0 18 rfl rfl)
theorem dX3_counted_19 : decode cX3_counted 19 = .ok (.istore 6, 2) := dk_54 6 (dk_at dksX3_counted_0 19 rfl rfl)
theorem dX3_counted_21 : decode cX3_counted 21 = .ok (.iconst 0, 1) := dk_3 (dk_at dksX3_counted_0 21 rfl rfl)
theorem dX3_counted_22 : decode cX3_counted 22 = .ok (.istore 7, 2) := dk_54 7 (dk_at dksX3_counted_0 22 rfl rfl)
theorem dX3_counted_24 : decode cX3_counted 24 = .ok (.iload 7, 2) := dk_21 7 (dk_at dksX3_counted_1 0 rfl rfl)
theorem dX3_counted_26 : decode cX3_counted 26 = .ok (.iload 6, 2) := dk_21 6 (dk_at dksX3_counted_1 2 rfl rfl)
theorem dX3_counted_28 : decode cX3_counted 28 = .ok (.if_icmp .ge 43, 3) := dk_162 0 43 (dk_at dksX3_counted_1 4 rfl rfl)
theorem dX3_counted_31 : decode cX3_counted 31 = .ok (.aload 5, 2) := dk_25 5 (dk_at dksX3_counted_1 7 rfl rfl)
theorem dX3_counted_33 : decode cX3_counted 33 = .ok (.iload 7, 2) := dk_21 7 (dk_at dksX3_counted_1 9 rfl rfl)
theorem dX3_counted_35 : decode cX3_counted 35 = .ok (.iaload, 1) := dk_46 (dk_at dksX3_counted_1 11 rfl rfl)
theorem dX3_counted_36 : decode cX3_counted 36 = .ok (.istore 8, 2) := dk_54 8 (dk_at dksX3_counted_1 12 rfl rfl)
theorem dX3_counted_38 : decode cX3_counted 38 = .ok (.iload_n 2, 1) := dk_28 (dk_at dksX3_counted_1 14 rfl rfl)
theorem dX3_counted_39 : decode cX3_counted 39 = .ok (.iload 8, 2) := dk_21 8 (dk_at dksX3_counted_1 15 rfl rfl)
theorem dX3_counted_41 : decode cX3_counted 41 = .ok (.iconst (-1), 1) := dk_2 (dk_at dksX3_counted_1 17 rfl rfl)
theorem dX3_counted_42 : decode cX3_counted 42 = .ok (.if_icmp .ne 7, 3) := dk_160 0 7 (dk_at dksX3_counted_1 18 rfl rfl)
theorem dX3_counted_45 : decode cX3_counted 45 = .ok (.iconst 1, 1) := dk_4 (dk_at dksX3_counted_1 21 rfl rfl)
theorem dX3_counted_46 : decode cX3_counted 46 = .ok (.goto 4, 3) := dk_167 0 4 (dk_at dksX3_counted_2 0 rfl rfl)
theorem dX3_counted_49 : decode cX3_counted 49 = .ok (.iconst 0, 1) := dk_3 (dk_at dksX3_counted_2 3 rfl rfl)
theorem dX3_counted_50 : decode cX3_counted 50 = .ok (.iadd, 1) := dk_96 (dk_at dksX3_counted_2 4 rfl rfl)
theorem dX3_counted_51 : decode cX3_counted 51 = .ok (.istore_n 2, 1) := dk_61 (dk_at dksX3_counted_2 5 rfl rfl)
theorem dX3_counted_52 : decode cX3_counted 52 = .ok (.iload_n 3, 1) := dk_29 (dk_at dksX3_counted_2 6 rfl rfl)
theorem dX3_counted_53 : decode cX3_counted 53 = .ok (.iload 8, 2) := dk_21 8 (dk_at dksX3_counted_2 7 rfl rfl)
theorem dX3_counted_55 : decode cX3_counted 55 = .ok (.ifCond .ne 7, 3) := dk_154 0 7 (dk_at dksX3_counted_2 9 rfl rfl)
theorem dX3_counted_58 : decode cX3_counted 58 = .ok (.iconst 1, 1) := dk_4 (dk_at dksX3_counted_2 12 rfl rfl)
theorem dX3_counted_59 : decode cX3_counted 59 = .ok (.goto 4, 3) := dk_167 0 4 (dk_at dksX3_counted_2 13 rfl rfl)
theorem dX3_counted_62 : decode cX3_counted 62 = .ok (.iconst 0, 1) := dk_3 (dk_at dksX3_counted_2 16 rfl rfl)
theorem dX3_counted_63 : decode cX3_counted 63 = .ok (.iadd, 1) := dk_96 (dk_at dksX3_counted_2 17 rfl rfl)
theorem dX3_counted_64 : decode cX3_counted 64 = .ok (.istore_n 3, 1) := dk_62 (dk_at dksX3_counted_2 18 rfl rfl)
theorem dX3_counted_65 : decode cX3_counted 65 = .ok (.iinc 7 1, 3) := dk_132 7 1 (dk_at dksX3_counted_2 19 rfl rfl)
theorem dX3_counted_68 : decode cX3_counted 68 = .ok (.goto (-44), 3) := dk_167 255 212 (dk_at dksX3_counted_3 0 rfl rfl)
theorem dX3_counted_71 : decode cX3_counted 71 = .ok (.iconst 0, 1) := dk_3 (dk_at dksX3_counted_3 3 rfl rfl)
theorem dX3_counted_72 : decode cX3_counted 72 = .ok (.istore 5, 2) := dk_54 5 (dk_at dksX3_counted_3 4 rfl rfl)
theorem dX3_counted_74 : decode cX3_counted 74 = .ok (.iload 5, 2) := dk_21 5 (dk_at dksX3_counted_3 6 rfl rfl)
theorem dX3_counted_76 : decode cX3_counted 76 = .ok (.aload_n 0, 1) := dk_42 (dk_at dksX3_counted_3 8 rfl rfl)
theorem dX3_counted_77 : decode cX3_counted 77 = .ok (.getfield 42, 3) := dk_180 0 42 (dk_at dksX3_counted_3 9 rfl rfl)
theorem dX3_counted_80 : decode cX3_counted 80 = .ok (.if_icmp .ge 24, 3) := dk_162 0 24 (dk_at dksX3_counted_3 12 rfl rfl)
theorem dX3_counted_83 : decode cX3_counted 83 = .ok (.iload 4, 2) := dk_21 4 (dk_at dksX3_counted_3 15 rfl rfl)
theorem dX3_counted_85 : decode cX3_counted 85 = .ok (.aload_n 0, 1) := dk_42 (dk_at dksX3_counted_3 17 rfl rfl)
theorem dX3_counted_86 : decode cX3_counted 86 = .ok (.getfield 27, 3) := dk_180 0 27 (dk_at dksX3_counted_3 18 rfl rfl)
theorem dX3_counted_89 : decode cX3_counted 89 = .ok (.getfield 90, 3) := dk_180 0 90 (dk_at dksX3_counted_3 21 rfl rfl)
theorem dX3_counted_92 : decode cX3_counted 92 = .ok (.iload 5, 2) := dk_21 5 (dk_at dksX3_counted_4 0 rfl rfl)
theorem dX3_counted_94 : decode cX3_counted 94 = .ok (.iaload, 1) := dk_46 (dk_at dksX3_counted_4 2 rfl rfl)
theorem dX3_counted_95 : decode cX3_counted 95 = .ok (.iadd, 1) := dk_96 (dk_at dksX3_counted_4 3 rfl rfl)
theorem dX3_counted_96 : decode cX3_counted 96 = .ok (.istore 4, 2) := dk_54 4 (dk_at dksX3_counted_4 4 rfl rfl)
theorem dX3_counted_98 : decode cX3_counted 98 = .ok (.iinc 5 1, 3) := dk_132 5 1 (dk_at dksX3_counted_4 6 rfl rfl)
theorem dX3_counted_101 : decode cX3_counted 101 = .ok (.goto (-27), 3) := dk_167 255 229 (dk_at dksX3_counted_4 9 rfl rfl)
theorem dX3_counted_104 : decode cX3_counted 104 = .ok (.bipush 8, 2) := dk_16 8 (dk_at dksX3_counted_4 12 rfl rfl)
theorem dX3_counted_106 : decode cX3_counted 106 = .ok (.newarray .int, 2) := dk_188_10 (dk_at dksX3_counted_4 14 rfl rfl)
theorem dX3_counted_108 : decode cX3_counted 108 = .ok (.dup, 1) := dk_89 (dk_at dksX3_counted_4 16 rfl rfl)
theorem dX3_counted_109 : decode cX3_counted 109 = .ok (.iconst 0, 1) := dk_3 (dk_at dksX3_counted_4 17 rfl rfl)
theorem dX3_counted_110 : decode cX3_counted 110 = .ok (.aload_n 0, 1) := dk_42 (dk_at dksX3_counted_4 18 rfl rfl)
theorem dX3_counted_111 : decode cX3_counted 111 = .ok (.getfield 27, 3) := dk_180 0 27 (dk_at dksX3_counted_4 19 rfl rfl)
theorem dX3_counted_114 : decode cX3_counted 114 = .ok (.getfield 112, 3) := dk_180 0 112 (dk_at dksX3_counted_5 0 rfl rfl)
theorem dX3_counted_117 : decode cX3_counted 117 = .ok (.iastore, 1) := dk_79 (dk_at dksX3_counted_5 3 rfl rfl)
theorem dX3_counted_118 : decode cX3_counted 118 = .ok (.dup, 1) := dk_89 (dk_at dksX3_counted_5 4 rfl rfl)
theorem dX3_counted_119 : decode cX3_counted 119 = .ok (.iconst 1, 1) := dk_4 (dk_at dksX3_counted_5 5 rfl rfl)
theorem dX3_counted_120 : decode cX3_counted 120 = .ok (.iload_n 2, 1) := dk_28 (dk_at dksX3_counted_5 6 rfl rfl)
theorem dX3_counted_121 : decode cX3_counted 121 = .ok (.iastore, 1) := dk_79 (dk_at dksX3_counted_5 7 rfl rfl)
theorem dX3_counted_122 : decode cX3_counted 122 = .ok (.dup, 1) := dk_89 (dk_at dksX3_counted_5 8 rfl rfl)
theorem dX3_counted_123 : decode cX3_counted 123 = .ok (.iconst 2, 1) := dk_5 (dk_at dksX3_counted_5 9 rfl rfl)
theorem dX3_counted_124 : decode cX3_counted 124 = .ok (.aload_n 0, 1) := dk_42 (dk_at dksX3_counted_5 10 rfl rfl)
theorem dX3_counted_125 : decode cX3_counted 125 = .ok (.getfield 27, 3) := dk_180 0 27 (dk_at dksX3_counted_5 11 rfl rfl)
theorem dX3_counted_128 : decode cX3_counted 128 = .ok (.invokevirtual 115, 3) := dk_182 0 115 (dk_at dksX3_counted_5 14 rfl rfl)
theorem dX3_counted_131 : decode cX3_counted 131 = .ok (.iastore, 1) := dk_79 (dk_at dksX3_counted_5 17 rfl rfl)
theorem dX3_counted_132 : decode cX3_counted 132 = .ok (.dup, 1) := dk_89 (dk_at dksX3_counted_5 18 rfl rfl)
theorem dX3_counted_133 : decode cX3_counted 133 = .ok (.iconst 3, 1) := dk_6 (dk_at dksX3_counted_5 19 rfl rfl)
theorem dX3_counted_134 : decode cX3_counted 134 = .ok (.iload_n 3, 1) := dk_29 (dk_at dksX3_counted_5 20 rfl rfl)
theorem dX3_counted_135 : decode cX3_counted 135 = .ok (.iastore, 1) := dk_79 (dk_at dksX3_counted_5 21 rfl rfl)
theorem dX3_counted_136 : decode cX3_counted 136 = .ok (.dup, 1) := dk_89 (dk_at dksX3_counted_5 22 rfl rfl)
theorem dX3_counted_137 : decode cX3_counted 137 = .ok (.iconst 4, 1) := dk_7 (dk_at dksX3_counted_5 23 rfl rfl)
theorem dX3_counted_138 : decode cX3_counted 138 = .ok (.aload_n 0, 1) := dk_42 (dk_at dksX3_counted_6 0 rfl rfl)
theorem dX3_counted_139 : decode cX3_counted 139 = .ok (.invokevirtual 119, 3) := dk_182 0 119 (dk_at dksX3_counted_6 1 rfl rfl)
theorem dX3_counted_142 : decode cX3_counted 142 = .ok (.iastore, 1) := dk_79 (dk_at dksX3_counted_6 4 rfl rfl)
theorem dX3_counted_143 : decode cX3_counted 143 = .ok (.dup, 1) := dk_89 (dk_at dksX3_counted_6 5 rfl rfl)
theorem dX3_counted_144 : decode cX3_counted 144 = .ok (.iconst 5, 1) := dk_8 (dk_at dksX3_counted_6 6 rfl rfl)
theorem dX3_counted_145 : decode cX3_counted 145 = .ok (.aload_n 0, 1) := dk_42 (dk_at dksX3_counted_6 7 rfl rfl)
theorem dX3_counted_146 : decode cX3_counted 146 = .ok (.getfield 27, 3) := dk_180 0 27 (dk_at dksX3_counted_6 8 rfl rfl)
theorem dX3_counted_149 : decode cX3_counted 149 = .ok (.invokevirtual 122, 3) := dk_182 0 122 (dk_at dksX3_counted_6 11 rfl rfl)
theorem dX3_counted_152 : decode cX3_counted 152 = .ok (.iastore, 1) := dk_79 (dk_at dksX3_counted_6 14 rfl rfl)
theorem dX3_counted_153 : decode cX3_counted 153 = .ok (.dup, 1) := dk_89 (dk_at dksX3_counted_6 15 rfl rfl)
theorem dX3_counted_154 : decode cX3_counted 154 = .ok (.bipush 6, 2) := dk_16 6 (dk_at dksX3_counted_6 16 rfl rfl)
theorem dX3_counted_156 : decode cX3_counted 156 = .ok (.aload_n 0, 1) := dk_42 (dk_at dksX3_counted_6 18 rfl rfl)
theorem dX3_counted_157 : decode cX3_counted 157 = .ok (.getfield 45, 3) := dk_180 0 45 (dk_at dksX3_counted_6 19 rfl rfl)
theorem dX3_counted_160 : decode cX3_counted 160 = .ok (.iastore, 1) := dk_79 (dk_at dksX3_counted_6 22 rfl rfl)
theorem dX3_counted_161 : decode cX3_counted 161 = .ok (.dup, 1) := dk_89 (dk_at dksX3_counted_6 23 rfl rfl)
theorem dX3_counted_162 : decode cX3_counted 162 = .ok (.bipush 7, 2) := dk_16 7 (dk_at dksX3_counted_7 0 rfl rfl)
theorem dX3_counted_164 : decode cX3_counted 164 = .ok (.iload 4, 2) := dk_21 4 (dk_at dksX3_counted_7 2 rfl rfl)
theorem dX3_counted_166 : decode cX3_counted 166 = .ok (.iastore, 1) := dk_79 (dk_at dksX3_counted_7 4 rfl rfl)
theorem dX3_counted_167 : decode cX3_counted 167 = .ok (.astore 5, 2) := dk_58 5 (dk_at dksX3_counted_7 5 rfl rfl)
theorem dX3_counted_169 : decode cX3_counted 169 = .ok (.aload 5, 2) := dk_25 5 (dk_at dksX3_counted_7 7 rfl rfl)
theorem dX3_counted_171 : decode cX3_counted 171 = .ok (.iload_n 1, 1) := dk_27 (dk_at dksX3_counted_7 9 rfl rfl)
theorem dX3_counted_172 : decode cX3_counted 172 = .ok (.iaload, 1) := dk_46 (dk_at dksX3_counted_7 10 rfl rfl)
theorem dX3_counted_173 : decode cX3_counted 173 = .ok (.ireturn, 1) := dk_172 (dk_at dksX3_counted_7 11 rfl rfl)
abbrev cX3_left : ByteArray := prog_6_method_21_code
def yX3_left : MethodName := ⟨RX3, "left", "()I"⟩
def dkwX3_left_1 : List UInt8 := [158, 0, 7, 4, 167, 0, 4, 3, 96, 60, 132, 2, 1, 167, 255, 225, 27, 172]
abbrev dktX3_left_1 : List UInt8 := dkwX3_left_1 ++ []
def dkwX3_left_0 : List UInt8 := [3, 60, 3, 61, 28, 42, 180, 0, 42, 162, 0, 29, 27, 42, 180, 0, 27, 180, 0, 72, 28, 46]
abbrev dktX3_left_0 : List UInt8 := dkwX3_left_0 ++ dktX3_left_1
theorem dksX3_left_0 : cX3_left.data.toList.drop 0 = dktX3_left_0 := by decide +kernel
theorem dksX3_left_1 : cX3_left.data.toList.drop 22 = dktX3_left_1 := dk_seg dksX3_left_0 22 rfl rfl
theorem dX3_left_0 : decode cX3_left 0 = .ok (.iconst 0, 1) := dk_3 (dk_at dksX3_left_0 0 rfl rfl)
theorem dX3_left_1 : decode cX3_left 1 = .ok (.istore_n 1, 1) := dk_60 (dk_at dksX3_left_0 1 rfl rfl)
theorem dX3_left_2 : decode cX3_left 2 = .ok (.iconst 0, 1) := dk_3 (dk_at dksX3_left_0 2 rfl rfl)
theorem dX3_left_3 : decode cX3_left 3 = .ok (.istore_n 2, 1) := dk_61 (dk_at dksX3_left_0 3 rfl rfl)
theorem dX3_left_4 : decode cX3_left 4 = .ok (.iload_n 2, 1) := dk_28 (dk_at dksX3_left_0 4 rfl rfl)
theorem dX3_left_5 : decode cX3_left 5 = .ok (.aload_n 0, 1) := dk_42 (dk_at dksX3_left_0 5 rfl rfl)
theorem dX3_left_6 : decode cX3_left 6 = .ok (.getfield 42, 3) := dk_180 0 42 (dk_at dksX3_left_0 6 rfl rfl)
theorem dX3_left_9 : decode cX3_left 9 = .ok (.if_icmp .ge 29, 3) := dk_162 0 29 (dk_at dksX3_left_0 9 rfl rfl)
theorem dX3_left_12 : decode cX3_left 12 = .ok (.iload_n 1, 1) := dk_27 (dk_at dksX3_left_0 12 rfl rfl)
theorem dX3_left_13 : decode cX3_left 13 = .ok (.aload_n 0, 1) := dk_42 (dk_at dksX3_left_0 13 rfl rfl)
theorem dX3_left_14 : decode cX3_left 14 = .ok (.getfield 27, 3) := dk_180 0 27 (dk_at dksX3_left_0 14 rfl rfl)
theorem dX3_left_17 : decode cX3_left 17 = .ok (.getfield 72, 3) := dk_180 0 72 (dk_at dksX3_left_0 17 rfl rfl)
theorem dX3_left_20 : decode cX3_left 20 = .ok (.iload_n 2, 1) := dk_28 (dk_at dksX3_left_0 20 rfl rfl)
theorem dX3_left_21 : decode cX3_left 21 = .ok (.iaload, 1) := dk_46 (dk_at dksX3_left_0 21 rfl rfl)
theorem dX3_left_22 : decode cX3_left 22 = .ok (.ifCond .le 7, 3) := dk_158 0 7 (dk_at dksX3_left_1 0 rfl rfl)
theorem dX3_left_25 : decode cX3_left 25 = .ok (.iconst 1, 1) := dk_4 (dk_at dksX3_left_1 3 rfl rfl)
theorem dX3_left_26 : decode cX3_left 26 = .ok (.goto 4, 3) := dk_167 0 4 (dk_at dksX3_left_1 4 rfl rfl)
theorem dX3_left_29 : decode cX3_left 29 = .ok (.iconst 0, 1) := dk_3 (dk_at dksX3_left_1 7 rfl rfl)
theorem dX3_left_30 : decode cX3_left 30 = .ok (.iadd, 1) := dk_96 (dk_at dksX3_left_1 8 rfl rfl)
theorem dX3_left_31 : decode cX3_left 31 = .ok (.istore_n 1, 1) := dk_60 (dk_at dksX3_left_1 9 rfl rfl)
theorem dX3_left_32 : decode cX3_left 32 = .ok (.iinc 2 1, 3) := dk_132 2 1 (dk_at dksX3_left_1 10 rfl rfl)
theorem dX3_left_35 : decode cX3_left 35 = .ok (.goto (-31), 3) := dk_167 255 225 (dk_at dksX3_left_1 13 rfl rfl)
theorem dX3_left_38 : decode cX3_left 38 = .ok (.iload_n 1, 1) := dk_27 (dk_at dksX3_left_1 16 rfl rfl)
theorem dX3_left_39 : decode cX3_left 39 = .ok (.ireturn, 1) := dk_172 (dk_at dksX3_left_1 17 rfl rfl)
abbrev cX3_way : ByteArray := prog_6_method_24_code
def yX3_way : MethodName := ⟨RX3, "way", "(IIII)I"⟩
def dkwX3_way_10 : List UInt8 := [160, 0, 7, 2, 167, 0, 10, 42, 180, 0, 16, 21, 6, 46, 172]
abbrev dktX3_way_10 : List UInt8 := dkwX3_way_10 ++ []
def dkwX3_way_9 : List UInt8 := [21, 7, 21, 9, 79, 132, 7, 1, 132, 8, 1, 167, 255, 156, 42, 180, 0, 16, 21, 6, 46, 17, 39, 15]
abbrev dktX3_way_9 : List UInt8 := dkwX3_way_9 ++ dktX3_way_10
def dkwX3_way_8 : List UInt8 := [21, 9, 42, 180, 0, 16, 42, 180, 0, 19, 21, 8, 7, 108, 46, 46, 4, 96, 79, 42, 180, 0, 19]
abbrev dktX3_way_8 : List UInt8 := dkwX3_way_8 ++ dktX3_way_9
def dkwX3_way_7 : List UInt8 := [46, 154, 0, 54, 42, 180, 0, 16, 21, 9, 46, 17, 39, 15, 162, 0, 6, 167, 0, 38, 42, 180, 0, 16]
abbrev dktX3_way_7 : List UInt8 := dkwX3_way_7 ++ dktX3_way_8
def dkwX3_way_6 : List UInt8 := [21, 8, 7, 112, 184, 0, 128, 54, 9, 21, 9, 2, 159, 0, 67, 42, 180, 0, 27, 180, 0, 62, 21, 9]
abbrev dktX3_way_6 : List UInt8 := dkwX3_way_6 ++ dktX3_way_7
def dkwX3_way_5 : List UInt8 := [54, 7, 3, 54, 8, 21, 8, 7, 21, 7, 104, 162, 0, 97, 42, 180, 0, 19, 21, 8, 7, 108, 46]
abbrev dktX3_way_5 : List UInt8 := dkwX3_way_5 ++ dktX3_way_6
def dkwX3_way_4 : List UInt8 := [79, 132, 7, 1, 167, 255, 236, 42, 180, 0, 16, 21, 5, 3, 79, 42, 180, 0, 19, 3, 21, 5, 79, 4]
abbrev dktX3_way_4 : List UInt8 := dkwX3_way_4 ++ dktX3_way_5
def dkwX3_way_3 : List UInt8 := [153, 0, 5, 2, 172, 3, 54, 7, 21, 7, 16, 108, 162, 0, 19, 42, 180, 0, 16, 21, 7, 17, 39, 15]
abbrev dktX3_way_3 : List UInt8 := dkwX3_way_3 ++ dktX3_way_4
def dkwX3_way_2 : List UInt8 := [180, 0, 27, 180, 0, 62, 21, 5, 46, 154, 0, 16, 42, 180, 0, 27, 180, 0, 62, 21, 6, 46]
abbrev dktX3_way_2 : List UInt8 := dkwX3_way_2 ++ dktX3_way_3
def dkwX3_way_1 : List UInt8 := [182, 0, 58, 172, 16, 12, 28, 104, 27, 96, 54, 5, 16, 12, 21, 4, 104, 29, 96, 54, 6, 42]
abbrev dktX3_way_1 : List UInt8 := dkwX3_way_1 ++ dktX3_way_2
def dkwX3_way_0 : List UInt8 := [42, 3, 181, 0, 34, 27, 28, 184, 0, 54, 153, 0, 12, 29, 21, 4, 184, 0, 54, 154, 0, 9, 42, 4]
abbrev dktX3_way_0 : List UInt8 := dkwX3_way_0 ++ dktX3_way_1
theorem dksX3_way_0 : cX3_way.data.toList.drop 0 = dktX3_way_0 := by decide +kernel
theorem dksX3_way_1 : cX3_way.data.toList.drop 24 = dktX3_way_1 := dk_seg dksX3_way_0 24 rfl rfl
theorem dksX3_way_2 : cX3_way.data.toList.drop 46 = dktX3_way_2 := dk_seg dksX3_way_1 22 rfl rfl
theorem dksX3_way_3 : cX3_way.data.toList.drop 68 = dktX3_way_3 := dk_seg dksX3_way_2 22 rfl rfl
theorem dksX3_way_4 : cX3_way.data.toList.drop 92 = dktX3_way_4 := dk_seg dksX3_way_3 24 rfl rfl
theorem dksX3_way_5 : cX3_way.data.toList.drop 116 = dktX3_way_5 := dk_seg dksX3_way_4 24 rfl rfl
theorem dksX3_way_6 : cX3_way.data.toList.drop 139 = dktX3_way_6 := dk_seg dksX3_way_5 23 rfl rfl
theorem dksX3_way_7 : cX3_way.data.toList.drop 163 = dktX3_way_7 := dk_seg dksX3_way_6 24 rfl rfl
theorem dksX3_way_8 : cX3_way.data.toList.drop 187 = dktX3_way_8 := dk_seg dksX3_way_7 24 rfl rfl
theorem dksX3_way_9 : cX3_way.data.toList.drop 210 = dktX3_way_9 := dk_seg dksX3_way_8 23 rfl rfl
theorem dksX3_way_10 : cX3_way.data.toList.drop 234 = dktX3_way_10 := dk_seg dksX3_way_9 24 rfl rfl
theorem dX3_way_0 : decode cX3_way 0 = .ok (.aload_n 0, 1) := dk_42 (dk_at dksX3_way_0 0 rfl rfl)
theorem dX3_way_1 : decode cX3_way 1 = .ok (.iconst 0, 1) := dk_3 (dk_at dksX3_way_0 1 rfl rfl)
theorem dX3_way_2 : decode cX3_way 2 = .ok (.putfield 34, 3) := dk_181 0 34 (dk_at dksX3_way_0 2 rfl rfl)
theorem dX3_way_5 : decode cX3_way 5 = .ok (.iload_n 1, 1) := dk_27 (dk_at dksX3_way_0 5 rfl rfl)
theorem dX3_way_6 : decode cX3_way 6 = .ok (.iload_n 2, 1) := dk_28 (dk_at dksX3_way_0 6 rfl rfl)
theorem dX3_way_7 : decode cX3_way 7 = .ok (.invokestatic 54, 3) := dk_184 0 54 (dk_at dksX3_way_0 7 rfl rfl)
theorem dX3_way_10 : decode cX3_way 10 = .ok (.ifCond .eq 12, 3) := dk_153 0 12 (dk_at dksX3_way_0 10 rfl rfl)
theorem dX3_way_13 : decode cX3_way 13 = .ok (.iload_n 3, 1) := dk_29 (dk_at dksX3_way_0 13 rfl rfl)
theorem dX3_way_14 : decode cX3_way 14 = .ok (.iload 4, 2) := dk_21 4 (dk_at dksX3_way_0 14 rfl rfl)
theorem dX3_way_16 : decode cX3_way 16 = .ok (.invokestatic 54, 3) := dk_184 0 54 (dk_at dksX3_way_0 16 rfl rfl)
theorem dX3_way_19 : decode cX3_way 19 = .ok (.ifCond .ne 9, 3) := dk_154 0 9 (dk_at dksX3_way_0 19 rfl rfl)
theorem dX3_way_22 : decode cX3_way 22 = .ok (.aload_n 0, 1) := dk_42 (dk_at dksX3_way_0 22 rfl rfl)
theorem dX3_way_23 : decode cX3_way 23 = .ok (.iconst 1, 1) := dk_4 (dk_at dksX3_way_0 23 rfl rfl)
theorem dX3_way_24 : decode cX3_way 24 = .ok (.invokevirtual 58, 3) := dk_182 0 58 (dk_at dksX3_way_1 0 rfl rfl)
theorem dX3_way_27 : decode cX3_way 27 = .ok (.ireturn, 1) := dk_172 (dk_at dksX3_way_1 3 rfl rfl)
theorem dX3_way_28 : decode cX3_way 28 = .ok (.bipush 12, 2) := dk_16 12 (dk_at dksX3_way_1 4 rfl rfl)
theorem dX3_way_30 : decode cX3_way 30 = .ok (.iload_n 2, 1) := dk_28 (dk_at dksX3_way_1 6 rfl rfl)
theorem dX3_way_31 : decode cX3_way 31 = .ok (.imul, 1) := dk_104 (dk_at dksX3_way_1 7 rfl rfl)
theorem dX3_way_32 : decode cX3_way 32 = .ok (.iload_n 1, 1) := dk_27 (dk_at dksX3_way_1 8 rfl rfl)
theorem dX3_way_33 : decode cX3_way 33 = .ok (.iadd, 1) := dk_96 (dk_at dksX3_way_1 9 rfl rfl)
theorem dX3_way_34 : decode cX3_way 34 = .ok (.istore 5, 2) := dk_54 5 (dk_at dksX3_way_1 10 rfl rfl)
theorem dX3_way_36 : decode cX3_way 36 = .ok (.bipush 12, 2) := dk_16 12 (dk_at dksX3_way_1 12 rfl rfl)
theorem dX3_way_38 : decode cX3_way 38 = .ok (.iload 4, 2) := dk_21 4 (dk_at dksX3_way_1 14 rfl rfl)
theorem dX3_way_40 : decode cX3_way 40 = .ok (.imul, 1) := dk_104 (dk_at dksX3_way_1 16 rfl rfl)
theorem dX3_way_41 : decode cX3_way 41 = .ok (.iload_n 3, 1) := dk_29 (dk_at dksX3_way_1 17 rfl rfl)
theorem dX3_way_42 : decode cX3_way 42 = .ok (.iadd, 1) := dk_96 (dk_at dksX3_way_1 18 rfl rfl)
theorem dX3_way_43 : decode cX3_way 43 = .ok (.istore 6, 2) := dk_54 6 (dk_at dksX3_way_1 19 rfl rfl)
theorem dX3_way_45 : decode cX3_way 45 = .ok (.aload_n 0, 1) := dk_42 (dk_at dksX3_way_1 21 rfl rfl)
theorem dX3_way_46 : decode cX3_way 46 = .ok (.getfield 27, 3) := dk_180 0 27 (dk_at dksX3_way_2 0 rfl rfl)
theorem dX3_way_49 : decode cX3_way 49 = .ok (.getfield 62, 3) := dk_180 0 62 (dk_at dksX3_way_2 3 rfl rfl)
theorem dX3_way_52 : decode cX3_way 52 = .ok (.iload 5, 2) := dk_21 5 (dk_at dksX3_way_2 6 rfl rfl)
theorem dX3_way_54 : decode cX3_way 54 = .ok (.iaload, 1) := dk_46 (dk_at dksX3_way_2 8 rfl rfl)
theorem dX3_way_55 : decode cX3_way 55 = .ok (.ifCond .ne 16, 3) := dk_154 0 16 (dk_at dksX3_way_2 9 rfl rfl)
theorem dX3_way_58 : decode cX3_way 58 = .ok (.aload_n 0, 1) := dk_42 (dk_at dksX3_way_2 12 rfl rfl)
theorem dX3_way_59 : decode cX3_way 59 = .ok (.getfield 27, 3) := dk_180 0 27 (dk_at dksX3_way_2 13 rfl rfl)
theorem dX3_way_62 : decode cX3_way 62 = .ok (.getfield 62, 3) := dk_180 0 62 (dk_at dksX3_way_2 16 rfl rfl)
theorem dX3_way_65 : decode cX3_way 65 = .ok (.iload 6, 2) := dk_21 6 (dk_at dksX3_way_2 19 rfl rfl)
theorem dX3_way_67 : decode cX3_way 67 = .ok (.iaload, 1) := dk_46 (dk_at dksX3_way_2 21 rfl rfl)
theorem dX3_way_68 : decode cX3_way 68 = .ok (.ifCond .eq 5, 3) := dk_153 0 5 (dk_at dksX3_way_3 0 rfl rfl)
theorem dX3_way_71 : decode cX3_way 71 = .ok (.iconst (-1), 1) := dk_2 (dk_at dksX3_way_3 3 rfl rfl)
theorem dX3_way_72 : decode cX3_way 72 = .ok (.ireturn, 1) := dk_172 (dk_at dksX3_way_3 4 rfl rfl)
theorem dX3_way_73 : decode cX3_way 73 = .ok (.iconst 0, 1) := dk_3 (dk_at dksX3_way_3 5 rfl rfl)
theorem dX3_way_74 : decode cX3_way 74 = .ok (.istore 7, 2) := dk_54 7 (dk_at dksX3_way_3 6 rfl rfl)
theorem dX3_way_76 : decode cX3_way 76 = .ok (.iload 7, 2) := dk_21 7 (dk_at dksX3_way_3 8 rfl rfl)
theorem dX3_way_78 : decode cX3_way 78 = .ok (.bipush 108, 2) := dk_16 108 (dk_at dksX3_way_3 10 rfl rfl)
theorem dX3_way_80 : decode cX3_way 80 = .ok (.if_icmp .ge 19, 3) := dk_162 0 19 (dk_at dksX3_way_3 12 rfl rfl)
theorem dX3_way_83 : decode cX3_way 83 = .ok (.aload_n 0, 1) := dk_42 (dk_at dksX3_way_3 15 rfl rfl)
theorem dX3_way_84 : decode cX3_way 84 = .ok (.getfield 16, 3) := dk_180 0 16 (dk_at dksX3_way_3 16 rfl rfl)
theorem dX3_way_87 : decode cX3_way 87 = .ok (.iload 7, 2) := dk_21 7 (dk_at dksX3_way_3 19 rfl rfl)
theorem dX3_way_89 : decode cX3_way 89 = .ok (.sipush 9999, 3) := dk_17 39 15 (dk_at dksX3_way_3 21 rfl rfl)
theorem dX3_way_92 : decode cX3_way 92 = .ok (.iastore, 1) := dk_79 (dk_at dksX3_way_4 0 rfl rfl)
theorem dX3_way_93 : decode cX3_way 93 = .ok (.iinc 7 1, 3) := dk_132 7 1 (dk_at dksX3_way_4 1 rfl rfl)
theorem dX3_way_96 : decode cX3_way 96 = .ok (.goto (-20), 3) := dk_167 255 236 (dk_at dksX3_way_4 4 rfl rfl)
theorem dX3_way_99 : decode cX3_way 99 = .ok (.aload_n 0, 1) := dk_42 (dk_at dksX3_way_4 7 rfl rfl)
theorem dX3_way_100 : decode cX3_way 100 = .ok (.getfield 16, 3) := dk_180 0 16 (dk_at dksX3_way_4 8 rfl rfl)
theorem dX3_way_103 : decode cX3_way 103 = .ok (.iload 5, 2) := dk_21 5 (dk_at dksX3_way_4 11 rfl rfl)
theorem dX3_way_105 : decode cX3_way 105 = .ok (.iconst 0, 1) := dk_3 (dk_at dksX3_way_4 13 rfl rfl)
theorem dX3_way_106 : decode cX3_way 106 = .ok (.iastore, 1) := dk_79 (dk_at dksX3_way_4 14 rfl rfl)
theorem dX3_way_107 : decode cX3_way 107 = .ok (.aload_n 0, 1) := dk_42 (dk_at dksX3_way_4 15 rfl rfl)
theorem dX3_way_108 : decode cX3_way 108 = .ok (.getfield 19, 3) := dk_180 0 19 (dk_at dksX3_way_4 16 rfl rfl)
theorem dX3_way_111 : decode cX3_way 111 = .ok (.iconst 0, 1) := dk_3 (dk_at dksX3_way_4 19 rfl rfl)
theorem dX3_way_112 : decode cX3_way 112 = .ok (.iload 5, 2) := dk_21 5 (dk_at dksX3_way_4 20 rfl rfl)
theorem dX3_way_114 : decode cX3_way 114 = .ok (.iastore, 1) := dk_79 (dk_at dksX3_way_4 22 rfl rfl)
theorem dX3_way_115 : decode cX3_way 115 = .ok (.iconst 1, 1) := dk_4 (dk_at dksX3_way_4 23 rfl rfl)
theorem dX3_way_116 : decode cX3_way 116 = .ok (.istore 7, 2) := dk_54 7 (dk_at dksX3_way_5 0 rfl rfl)
theorem dX3_way_118 : decode cX3_way 118 = .ok (.iconst 0, 1) := dk_3 (dk_at dksX3_way_5 2 rfl rfl)
theorem dX3_way_119 : decode cX3_way 119 = .ok (.istore 8, 2) := dk_54 8 (dk_at dksX3_way_5 3 rfl rfl)
theorem dX3_way_121 : decode cX3_way 121 = .ok (.iload 8, 2) := dk_21 8 (dk_at dksX3_way_5 5 rfl rfl)
theorem dX3_way_123 : decode cX3_way 123 = .ok (.iconst 4, 1) := dk_7 (dk_at dksX3_way_5 7 rfl rfl)
theorem dX3_way_124 : decode cX3_way 124 = .ok (.iload 7, 2) := dk_21 7 (dk_at dksX3_way_5 8 rfl rfl)
theorem dX3_way_126 : decode cX3_way 126 = .ok (.imul, 1) := dk_104 (dk_at dksX3_way_5 10 rfl rfl)
theorem dX3_way_127 : decode cX3_way 127 = .ok (.if_icmp .ge 97, 3) := dk_162 0 97 (dk_at dksX3_way_5 11 rfl rfl)
theorem dX3_way_130 : decode cX3_way 130 = .ok (.aload_n 0, 1) := dk_42 (dk_at dksX3_way_5 14 rfl rfl)
theorem dX3_way_131 : decode cX3_way 131 = .ok (.getfield 19, 3) := dk_180 0 19 (dk_at dksX3_way_5 15 rfl rfl)
theorem dX3_way_134 : decode cX3_way 134 = .ok (.iload 8, 2) := dk_21 8 (dk_at dksX3_way_5 18 rfl rfl)
theorem dX3_way_136 : decode cX3_way 136 = .ok (.iconst 4, 1) := dk_7 (dk_at dksX3_way_5 20 rfl rfl)
theorem dX3_way_137 : decode cX3_way 137 = .ok (.idiv, 1) := dk_108 (dk_at dksX3_way_5 21 rfl rfl)
theorem dX3_way_138 : decode cX3_way 138 = .ok (.iaload, 1) := dk_46 (dk_at dksX3_way_5 22 rfl rfl)
theorem dX3_way_139 : decode cX3_way 139 = .ok (.iload 8, 2) := dk_21 8 (dk_at dksX3_way_6 0 rfl rfl)
theorem dX3_way_141 : decode cX3_way 141 = .ok (.iconst 4, 1) := dk_7 (dk_at dksX3_way_6 2 rfl rfl)
theorem dX3_way_142 : decode cX3_way 142 = .ok (.irem, 1) := dk_112 (dk_at dksX3_way_6 3 rfl rfl)
theorem dX3_way_143 : decode cX3_way 143 = .ok (.invokestatic 128, 3) := dk_184 0 128 (dk_at dksX3_way_6 4 rfl rfl)
theorem dX3_way_146 : decode cX3_way 146 = .ok (.istore 9, 2) := dk_54 9 (dk_at dksX3_way_6 7 rfl rfl)
theorem dX3_way_148 : decode cX3_way 148 = .ok (.iload 9, 2) := dk_21 9 (dk_at dksX3_way_6 9 rfl rfl)
theorem dX3_way_150 : decode cX3_way 150 = .ok (.iconst (-1), 1) := dk_2 (dk_at dksX3_way_6 11 rfl rfl)
theorem dX3_way_151 : decode cX3_way 151 = .ok (.if_icmp .eq 67, 3) := dk_159 0 67 (dk_at dksX3_way_6 12 rfl rfl)
theorem dX3_way_154 : decode cX3_way 154 = .ok (.aload_n 0, 1) := dk_42 (dk_at dksX3_way_6 15 rfl rfl)
theorem dX3_way_155 : decode cX3_way 155 = .ok (.getfield 27, 3) := dk_180 0 27 (dk_at dksX3_way_6 16 rfl rfl)
theorem dX3_way_158 : decode cX3_way 158 = .ok (.getfield 62, 3) := dk_180 0 62 (dk_at dksX3_way_6 19 rfl rfl)
theorem dX3_way_161 : decode cX3_way 161 = .ok (.iload 9, 2) := dk_21 9 (dk_at dksX3_way_6 22 rfl rfl)
theorem dX3_way_163 : decode cX3_way 163 = .ok (.iaload, 1) := dk_46 (dk_at dksX3_way_7 0 rfl rfl)
theorem dX3_way_164 : decode cX3_way 164 = .ok (.ifCond .ne 54, 3) := dk_154 0 54 (dk_at dksX3_way_7 1 rfl rfl)
theorem dX3_way_167 : decode cX3_way 167 = .ok (.aload_n 0, 1) := dk_42 (dk_at dksX3_way_7 4 rfl rfl)
theorem dX3_way_168 : decode cX3_way 168 = .ok (.getfield 16, 3) := dk_180 0 16 (dk_at dksX3_way_7 5 rfl rfl)
theorem dX3_way_171 : decode cX3_way 171 = .ok (.iload 9, 2) := dk_21 9 (dk_at dksX3_way_7 8 rfl rfl)
theorem dX3_way_173 : decode cX3_way 173 = .ok (.iaload, 1) := dk_46 (dk_at dksX3_way_7 10 rfl rfl)
theorem dX3_way_174 : decode cX3_way 174 = .ok (.sipush 9999, 3) := dk_17 39 15 (dk_at dksX3_way_7 11 rfl rfl)
theorem dX3_way_177 : decode cX3_way 177 = .ok (.if_icmp .ge 6, 3) := dk_162 0 6 (dk_at dksX3_way_7 14 rfl rfl)
theorem dX3_way_180 : decode cX3_way 180 = .ok (.goto 38, 3) := dk_167 0 38 (dk_at dksX3_way_7 17 rfl rfl)
theorem dX3_way_183 : decode cX3_way 183 = .ok (.aload_n 0, 1) := dk_42 (dk_at dksX3_way_7 20 rfl rfl)
theorem dX3_way_184 : decode cX3_way 184 = .ok (.getfield 16, 3) := dk_180 0 16 (dk_at dksX3_way_7 21 rfl rfl)
theorem dX3_way_187 : decode cX3_way 187 = .ok (.iload 9, 2) := dk_21 9 (dk_at dksX3_way_8 0 rfl rfl)
theorem dX3_way_189 : decode cX3_way 189 = .ok (.aload_n 0, 1) := dk_42 (dk_at dksX3_way_8 2 rfl rfl)
theorem dX3_way_190 : decode cX3_way 190 = .ok (.getfield 16, 3) := dk_180 0 16 (dk_at dksX3_way_8 3 rfl rfl)
theorem dX3_way_193 : decode cX3_way 193 = .ok (.aload_n 0, 1) := dk_42 (dk_at dksX3_way_8 6 rfl rfl)
theorem dX3_way_194 : decode cX3_way 194 = .ok (.getfield 19, 3) := dk_180 0 19 (dk_at dksX3_way_8 7 rfl rfl)
theorem dX3_way_197 : decode cX3_way 197 = .ok (.iload 8, 2) := dk_21 8 (dk_at dksX3_way_8 10 rfl rfl)
theorem dX3_way_199 : decode cX3_way 199 = .ok (.iconst 4, 1) := dk_7 (dk_at dksX3_way_8 12 rfl rfl)
theorem dX3_way_200 : decode cX3_way 200 = .ok (.idiv, 1) := dk_108 (dk_at dksX3_way_8 13 rfl rfl)
theorem dX3_way_201 : decode cX3_way 201 = .ok (.iaload, 1) := dk_46 (dk_at dksX3_way_8 14 rfl rfl)
theorem dX3_way_202 : decode cX3_way 202 = .ok (.iaload, 1) := dk_46 (dk_at dksX3_way_8 15 rfl rfl)
theorem dX3_way_203 : decode cX3_way 203 = .ok (.iconst 1, 1) := dk_4 (dk_at dksX3_way_8 16 rfl rfl)
theorem dX3_way_204 : decode cX3_way 204 = .ok (.iadd, 1) := dk_96 (dk_at dksX3_way_8 17 rfl rfl)
theorem dX3_way_205 : decode cX3_way 205 = .ok (.iastore, 1) := dk_79 (dk_at dksX3_way_8 18 rfl rfl)
theorem dX3_way_206 : decode cX3_way 206 = .ok (.aload_n 0, 1) := dk_42 (dk_at dksX3_way_8 19 rfl rfl)
theorem dX3_way_207 : decode cX3_way 207 = .ok (.getfield 19, 3) := dk_180 0 19 (dk_at dksX3_way_8 20 rfl rfl)
theorem dX3_way_210 : decode cX3_way 210 = .ok (.iload 7, 2) := dk_21 7 (dk_at dksX3_way_9 0 rfl rfl)
theorem dX3_way_212 : decode cX3_way 212 = .ok (.iload 9, 2) := dk_21 9 (dk_at dksX3_way_9 2 rfl rfl)
theorem dX3_way_214 : decode cX3_way 214 = .ok (.iastore, 1) := dk_79 (dk_at dksX3_way_9 4 rfl rfl)
theorem dX3_way_215 : decode cX3_way 215 = .ok (.iinc 7 1, 3) := dk_132 7 1 (dk_at dksX3_way_9 5 rfl rfl)
theorem dX3_way_218 : decode cX3_way 218 = .ok (.iinc 8 1, 3) := dk_132 8 1 (dk_at dksX3_way_9 8 rfl rfl)
theorem dX3_way_221 : decode cX3_way 221 = .ok (.goto (-100), 3) := dk_167 255 156 (dk_at dksX3_way_9 11 rfl rfl)
theorem dX3_way_224 : decode cX3_way 224 = .ok (.aload_n 0, 1) := dk_42 (dk_at dksX3_way_9 14 rfl rfl)
theorem dX3_way_225 : decode cX3_way 225 = .ok (.getfield 16, 3) := dk_180 0 16 (dk_at dksX3_way_9 15 rfl rfl)
theorem dX3_way_228 : decode cX3_way 228 = .ok (.iload 6, 2) := dk_21 6 (dk_at dksX3_way_9 18 rfl rfl)
theorem dX3_way_230 : decode cX3_way 230 = .ok (.iaload, 1) := dk_46 (dk_at dksX3_way_9 20 rfl rfl)
theorem dX3_way_231 : decode cX3_way 231 = .ok (.sipush 9999, 3) := dk_17 39 15 (dk_at dksX3_way_9 21 rfl rfl)
theorem dX3_way_234 : decode cX3_way 234 = .ok (.if_icmp .ne 7, 3) := dk_160 0 7 (dk_at dksX3_way_10 0 rfl rfl)
theorem dX3_way_237 : decode cX3_way 237 = .ok (.iconst (-1), 1) := dk_2 (dk_at dksX3_way_10 3 rfl rfl)
theorem dX3_way_238 : decode cX3_way 238 = .ok (.goto 10, 3) := dk_167 0 10 (dk_at dksX3_way_10 4 rfl rfl)
theorem dX3_way_241 : decode cX3_way 241 = .ok (.aload_n 0, 1) := dk_42 (dk_at dksX3_way_10 7 rfl rfl)
theorem dX3_way_242 : decode cX3_way 242 = .ok (.getfield 16, 3) := dk_180 0 16 (dk_at dksX3_way_10 8 rfl rfl)
theorem dX3_way_245 : decode cX3_way 245 = .ok (.iload 6, 2) := dk_21 6 (dk_at dksX3_way_10 11 rfl rfl)
theorem dX3_way_247 : decode cX3_way 247 = .ok (.iaload, 1) := dk_46 (dk_at dksX3_way_10 13 rfl rfl)
theorem dX3_way_248 : decode cX3_way 248 = .ok (.ireturn, 1) := dk_172 (dk_at dksX3_way_10 14 rfl rfl)
abbrev cX3_beside : ByteArray := prog_6_method_8_code
def yX3_beside : MethodName := ⟨RX3, "beside", "(II)I"⟩
def dkwX3_beside_1 : List UInt8 := [184, 0, 54, 153, 0, 12, 16, 12, 29, 104, 28, 96, 167, 0, 4, 2, 172]
abbrev dktX3_beside_1 : List UInt8 := dkwX3_beside_1 ++ []
def dkwX3_beside_0 : List UInt8 := [26, 16, 12, 112, 178, 0, 48, 27, 46, 96, 61, 26, 16, 12, 108, 178, 0, 51, 27, 46, 96, 62, 28, 29]
abbrev dktX3_beside_0 : List UInt8 := dkwX3_beside_0 ++ dktX3_beside_1
theorem dksX3_beside_0 : cX3_beside.data.toList.drop 0 = dktX3_beside_0 := by decide +kernel
theorem dksX3_beside_1 : cX3_beside.data.toList.drop 24 = dktX3_beside_1 := dk_seg dksX3_beside_0 24 rfl rfl
theorem dX3_beside_0 : decode cX3_beside 0 = .ok (.iload_n 0, 1) := dk_26 (dk_at dksX3_beside_0 0 rfl rfl)
theorem dX3_beside_1 : decode cX3_beside 1 = .ok (.bipush 12, 2) := dk_16 12 (dk_at dksX3_beside_0 1 rfl rfl)
theorem dX3_beside_3 : decode cX3_beside 3 = .ok (.irem, 1) := dk_112 (dk_at dksX3_beside_0 3 rfl rfl)
theorem dX3_beside_4 : decode cX3_beside 4 = .ok (.getstatic 48, 3) := dk_178 0 48 (dk_at dksX3_beside_0 4 rfl rfl)
theorem dX3_beside_7 : decode cX3_beside 7 = .ok (.iload_n 1, 1) := dk_27 (dk_at dksX3_beside_0 7 rfl rfl)
theorem dX3_beside_8 : decode cX3_beside 8 = .ok (.iaload, 1) := dk_46 (dk_at dksX3_beside_0 8 rfl rfl)
theorem dX3_beside_9 : decode cX3_beside 9 = .ok (.iadd, 1) := dk_96 (dk_at dksX3_beside_0 9 rfl rfl)
theorem dX3_beside_10 : decode cX3_beside 10 = .ok (.istore_n 2, 1) := dk_61 (dk_at dksX3_beside_0 10 rfl rfl)
theorem dX3_beside_11 : decode cX3_beside 11 = .ok (.iload_n 0, 1) := dk_26 (dk_at dksX3_beside_0 11 rfl rfl)
theorem dX3_beside_12 : decode cX3_beside 12 = .ok (.bipush 12, 2) := dk_16 12 (dk_at dksX3_beside_0 12 rfl rfl)
theorem dX3_beside_14 : decode cX3_beside 14 = .ok (.idiv, 1) := dk_108 (dk_at dksX3_beside_0 14 rfl rfl)
theorem dX3_beside_15 : decode cX3_beside 15 = .ok (.getstatic 51, 3) := dk_178 0 51 (dk_at dksX3_beside_0 15 rfl rfl)
theorem dX3_beside_18 : decode cX3_beside 18 = .ok (.iload_n 1, 1) := dk_27 (dk_at dksX3_beside_0 18 rfl rfl)
theorem dX3_beside_19 : decode cX3_beside 19 = .ok (.iaload, 1) := dk_46 (dk_at dksX3_beside_0 19 rfl rfl)
theorem dX3_beside_20 : decode cX3_beside 20 = .ok (.iadd, 1) := dk_96 (dk_at dksX3_beside_0 20 rfl rfl)
theorem dX3_beside_21 : decode cX3_beside 21 = .ok (.istore_n 3, 1) := dk_62 (dk_at dksX3_beside_0 21 rfl rfl)
theorem dX3_beside_22 : decode cX3_beside 22 = .ok (.iload_n 2, 1) := dk_28 (dk_at dksX3_beside_0 22 rfl rfl)
theorem dX3_beside_23 : decode cX3_beside 23 = .ok (.iload_n 3, 1) := dk_29 (dk_at dksX3_beside_0 23 rfl rfl)
theorem dX3_beside_24 : decode cX3_beside 24 = .ok (.invokestatic 54, 3) := dk_184 0 54 (dk_at dksX3_beside_1 0 rfl rfl)
theorem dX3_beside_27 : decode cX3_beside 27 = .ok (.ifCond .eq 12, 3) := dk_153 0 12 (dk_at dksX3_beside_1 3 rfl rfl)
theorem dX3_beside_30 : decode cX3_beside 30 = .ok (.bipush 12, 2) := dk_16 12 (dk_at dksX3_beside_1 6 rfl rfl)
theorem dX3_beside_32 : decode cX3_beside 32 = .ok (.iload_n 3, 1) := dk_29 (dk_at dksX3_beside_1 8 rfl rfl)
theorem dX3_beside_33 : decode cX3_beside 33 = .ok (.imul, 1) := dk_104 (dk_at dksX3_beside_1 9 rfl rfl)
theorem dX3_beside_34 : decode cX3_beside 34 = .ok (.iload_n 2, 1) := dk_28 (dk_at dksX3_beside_1 10 rfl rfl)
theorem dX3_beside_35 : decode cX3_beside 35 = .ok (.iadd, 1) := dk_96 (dk_at dksX3_beside_1 11 rfl rfl)
theorem dX3_beside_36 : decode cX3_beside 36 = .ok (.goto 4, 3) := dk_167 0 4 (dk_at dksX3_beside_1 12 rfl rfl)
theorem dX3_beside_39 : decode cX3_beside 39 = .ok (.iconst (-1), 1) := dk_2 (dk_at dksX3_beside_1 15 rfl rfl)
theorem dX3_beside_40 : decode cX3_beside 40 = .ok (.ireturn, 1) := dk_172 (dk_at dksX3_beside_1 16 rfl rfl)
abbrev cX3_shuts : ByteArray := prog_6_method_25_code
def yX3_shuts : MethodName := ⟨RX3, "shuts", "()I"⟩
def dkwX3_shuts_0 : List UInt8 := [42, 3, 181, 0, 34, 42, 180, 0, 27, 182, 0, 131, 172]
abbrev dktX3_shuts_0 : List UInt8 := dkwX3_shuts_0 ++ []
theorem dksX3_shuts_0 : cX3_shuts.data.toList.drop 0 = dktX3_shuts_0 := by decide +kernel
theorem dX3_shuts_0 : decode cX3_shuts 0 = .ok (.aload_n 0, 1) := dk_42 (dk_at dksX3_shuts_0 0 rfl rfl)
theorem dX3_shuts_1 : decode cX3_shuts 1 = .ok (.iconst 0, 1) := dk_3 (dk_at dksX3_shuts_0 1 rfl rfl)
theorem dX3_shuts_2 : decode cX3_shuts 2 = .ok (.putfield 34, 3) := dk_181 0 34 (dk_at dksX3_shuts_0 2 rfl rfl)
theorem dX3_shuts_5 : decode cX3_shuts 5 = .ok (.aload_n 0, 1) := dk_42 (dk_at dksX3_shuts_0 5 rfl rfl)
theorem dX3_shuts_6 : decode cX3_shuts 6 = .ok (.getfield 27, 3) := dk_180 0 27 (dk_at dksX3_shuts_0 6 rfl rfl)
theorem dX3_shuts_9 : decode cX3_shuts 9 = .ok (.invokevirtual 131, 3) := dk_182 0 131 (dk_at dksX3_shuts_0 9 rfl rfl)
theorem dX3_shuts_12 : decode cX3_shuts 12 = .ok (.ireturn, 1) := dk_172 (dk_at dksX3_shuts_0 12 rfl rfl)
abbrev cX3_pass : ByteArray := prog_6_method_26_code
def yX3_pass : MethodName := ⟨RX3, "pass", "(I)I"⟩
def dkwX3_pass_2 : List UInt8 := [167, 255, 241, 28, 42, 180, 0, 27, 182, 0, 122, 100, 172]
abbrev dktX3_pass_2 : List UInt8 := dkwX3_pass_2 ++ []
def dkwX3_pass_1 : List UInt8 := [180, 0, 27, 182, 0, 122, 61, 3, 62, 29, 27, 162, 0, 16, 42, 180, 0, 27, 182, 0, 134, 132, 3, 1]
abbrev dktX3_pass_1 : List UInt8 := dkwX3_pass_1 ++ dktX3_pass_2
def dkwX3_pass_0 : List UInt8 := [42, 3, 181, 0, 34, 27, 4, 16, 60, 184, 0, 38, 154, 0, 9, 42, 4, 182, 0, 58, 172, 42]
abbrev dktX3_pass_0 : List UInt8 := dkwX3_pass_0 ++ dktX3_pass_1
theorem dksX3_pass_0 : cX3_pass.data.toList.drop 0 = dktX3_pass_0 := by decide +kernel
theorem dksX3_pass_1 : cX3_pass.data.toList.drop 22 = dktX3_pass_1 := dk_seg dksX3_pass_0 22 rfl rfl
theorem dksX3_pass_2 : cX3_pass.data.toList.drop 46 = dktX3_pass_2 := dk_seg dksX3_pass_1 24 rfl rfl
theorem dX3_pass_0 : decode cX3_pass 0 = .ok (.aload_n 0, 1) := dk_42 (dk_at dksX3_pass_0 0 rfl rfl)
theorem dX3_pass_1 : decode cX3_pass 1 = .ok (.iconst 0, 1) := dk_3 (dk_at dksX3_pass_0 1 rfl rfl)
theorem dX3_pass_2 : decode cX3_pass 2 = .ok (.putfield 34, 3) := dk_181 0 34 (dk_at dksX3_pass_0 2 rfl rfl)
theorem dX3_pass_5 : decode cX3_pass 5 = .ok (.iload_n 1, 1) := dk_27 (dk_at dksX3_pass_0 5 rfl rfl)
theorem dX3_pass_6 : decode cX3_pass 6 = .ok (.iconst 1, 1) := dk_4 (dk_at dksX3_pass_0 6 rfl rfl)
theorem dX3_pass_7 : decode cX3_pass 7 = .ok (.bipush 60, 2) := dk_16 60 (dk_at dksX3_pass_0 7 rfl rfl)
theorem dX3_pass_9 : decode cX3_pass 9 = .ok (.invokestatic 38, 3) := dk_184 0 38 (dk_at dksX3_pass_0 9 rfl rfl)
theorem dX3_pass_12 : decode cX3_pass 12 = .ok (.ifCond .ne 9, 3) := dk_154 0 9 (dk_at dksX3_pass_0 12 rfl rfl)
theorem dX3_pass_15 : decode cX3_pass 15 = .ok (.aload_n 0, 1) := dk_42 (dk_at dksX3_pass_0 15 rfl rfl)
theorem dX3_pass_16 : decode cX3_pass 16 = .ok (.iconst 1, 1) := dk_4 (dk_at dksX3_pass_0 16 rfl rfl)
theorem dX3_pass_17 : decode cX3_pass 17 = .ok (.invokevirtual 58, 3) := dk_182 0 58 (dk_at dksX3_pass_0 17 rfl rfl)
theorem dX3_pass_20 : decode cX3_pass 20 = .ok (.ireturn, 1) := dk_172 (dk_at dksX3_pass_0 20 rfl rfl)
theorem dX3_pass_21 : decode cX3_pass 21 = .ok (.aload_n 0, 1) := dk_42 (dk_at dksX3_pass_0 21 rfl rfl)
theorem dX3_pass_22 : decode cX3_pass 22 = .ok (.getfield 27, 3) := dk_180 0 27 (dk_at dksX3_pass_1 0 rfl rfl)
theorem dX3_pass_25 : decode cX3_pass 25 = .ok (.invokevirtual 122, 3) := dk_182 0 122 (dk_at dksX3_pass_1 3 rfl rfl)
theorem dX3_pass_28 : decode cX3_pass 28 = .ok (.istore_n 2, 1) := dk_61 (dk_at dksX3_pass_1 6 rfl rfl)
theorem dX3_pass_29 : decode cX3_pass 29 = .ok (.iconst 0, 1) := dk_3 (dk_at dksX3_pass_1 7 rfl rfl)
theorem dX3_pass_30 : decode cX3_pass 30 = .ok (.istore_n 3, 1) := dk_62 (dk_at dksX3_pass_1 8 rfl rfl)
theorem dX3_pass_31 : decode cX3_pass 31 = .ok (.iload_n 3, 1) := dk_29 (dk_at dksX3_pass_1 9 rfl rfl)
theorem dX3_pass_32 : decode cX3_pass 32 = .ok (.iload_n 1, 1) := dk_27 (dk_at dksX3_pass_1 10 rfl rfl)
theorem dX3_pass_33 : decode cX3_pass 33 = .ok (.if_icmp .ge 16, 3) := dk_162 0 16 (dk_at dksX3_pass_1 11 rfl rfl)
theorem dX3_pass_36 : decode cX3_pass 36 = .ok (.aload_n 0, 1) := dk_42 (dk_at dksX3_pass_1 14 rfl rfl)
theorem dX3_pass_37 : decode cX3_pass 37 = .ok (.getfield 27, 3) := dk_180 0 27 (dk_at dksX3_pass_1 15 rfl rfl)
theorem dX3_pass_40 : decode cX3_pass 40 = .ok (.invokevirtual 134, 3) := dk_182 0 134 (dk_at dksX3_pass_1 18 rfl rfl)
theorem dX3_pass_43 : decode cX3_pass 43 = .ok (.iinc 3 1, 3) := dk_132 3 1 (dk_at dksX3_pass_1 21 rfl rfl)
theorem dX3_pass_46 : decode cX3_pass 46 = .ok (.goto (-15), 3) := dk_167 255 241 (dk_at dksX3_pass_2 0 rfl rfl)
theorem dX3_pass_49 : decode cX3_pass 49 = .ok (.iload_n 2, 1) := dk_28 (dk_at dksX3_pass_2 3 rfl rfl)
theorem dX3_pass_50 : decode cX3_pass 50 = .ok (.aload_n 0, 1) := dk_42 (dk_at dksX3_pass_2 4 rfl rfl)
theorem dX3_pass_51 : decode cX3_pass 51 = .ok (.getfield 27, 3) := dk_180 0 27 (dk_at dksX3_pass_2 5 rfl rfl)
theorem dX3_pass_54 : decode cX3_pass 54 = .ok (.invokevirtual 122, 3) := dk_182 0 122 (dk_at dksX3_pass_2 8 rfl rfl)
theorem dX3_pass_57 : decode cX3_pass 57 = .ok (.isub, 1) := dk_100 (dk_at dksX3_pass_2 11 rfl rfl)
theorem dX3_pass_58 : decode cX3_pass 58 = .ok (.ireturn, 1) := dk_172 (dk_at dksX3_pass_2 12 rfl rfl)
abbrev cX3_foresee : ByteArray := prog_6_method_27_code
def yX3_foresee : MethodName := ⟨RX3, "foresee", "(II)I"⟩
def dkwX3_foresee_4 : List UInt8 := [42, 180, 0, 31, 182, 0, 131, 172]
abbrev dktX3_foresee_4 : List UInt8 := dkwX3_foresee_4 ++ []
def dkwX3_foresee_3 : List UInt8 := [180, 0, 31, 182, 0, 122, 167, 0, 25, 28, 4, 160, 0, 13, 42, 180, 0, 31, 182, 0, 115, 167, 0, 10]
abbrev dktX3_foresee_3 : List UInt8 := dkwX3_foresee_3 ++ dktX3_foresee_4
def dkwX3_foresee_2 : List UInt8 := [62, 29, 27, 162, 0, 16, 42, 180, 0, 31, 182, 0, 134, 132, 3, 1, 167, 255, 241, 28, 154, 0, 13, 42]
abbrev dktX3_foresee_2 : List UInt8 := dkwX3_foresee_2 ++ dktX3_foresee_3
def dkwX3_foresee_1 : List UInt8 := [184, 0, 38, 154, 0, 9, 42, 5, 182, 0, 58, 172, 42, 180, 0, 31, 42, 180, 0, 27, 182, 0, 137, 3]
abbrev dktX3_foresee_1 : List UInt8 := dkwX3_foresee_1 ++ dktX3_foresee_2
def dkwX3_foresee_0 : List UInt8 := [42, 3, 181, 0, 34, 27, 4, 16, 60, 184, 0, 38, 154, 0, 9, 42, 4, 182, 0, 58, 172, 28, 3, 5]
abbrev dktX3_foresee_0 : List UInt8 := dkwX3_foresee_0 ++ dktX3_foresee_1
theorem dksX3_foresee_0 : cX3_foresee.data.toList.drop 0 = dktX3_foresee_0 := by decide +kernel
theorem dksX3_foresee_1 : cX3_foresee.data.toList.drop 24 = dktX3_foresee_1 := dk_seg dksX3_foresee_0 24 rfl rfl
theorem dksX3_foresee_2 : cX3_foresee.data.toList.drop 48 = dktX3_foresee_2 := dk_seg dksX3_foresee_1 24 rfl rfl
theorem dksX3_foresee_3 : cX3_foresee.data.toList.drop 72 = dktX3_foresee_3 := dk_seg dksX3_foresee_2 24 rfl rfl
theorem dksX3_foresee_4 : cX3_foresee.data.toList.drop 96 = dktX3_foresee_4 := dk_seg dksX3_foresee_3 24 rfl rfl
theorem dX3_foresee_0 : decode cX3_foresee 0 = .ok (.aload_n 0, 1) := dk_42 (dk_at dksX3_foresee_0 0 rfl rfl)
theorem dX3_foresee_1 : decode cX3_foresee 1 = .ok (.iconst 0, 1) := dk_3 (dk_at dksX3_foresee_0 1 rfl rfl)
theorem dX3_foresee_2 : decode cX3_foresee 2 = .ok (.putfield 34, 3) := dk_181 0 34 (dk_at dksX3_foresee_0 2 rfl rfl)
theorem dX3_foresee_5 : decode cX3_foresee 5 = .ok (.iload_n 1, 1) := dk_27 (dk_at dksX3_foresee_0 5 rfl rfl)
theorem dX3_foresee_6 : decode cX3_foresee 6 = .ok (.iconst 1, 1) := dk_4 (dk_at dksX3_foresee_0 6 rfl rfl)
theorem dX3_foresee_7 : decode cX3_foresee 7 = .ok (.bipush 60, 2) := dk_16 60 (dk_at dksX3_foresee_0 7 rfl rfl)
theorem dX3_foresee_9 : decode cX3_foresee 9 = .ok (.invokestatic 38, 3) := dk_184 0 38 (dk_at dksX3_foresee_0 9 rfl rfl)
theorem dX3_foresee_12 : decode cX3_foresee 12 = .ok (.ifCond .ne 9, 3) := dk_154 0 9 (dk_at dksX3_foresee_0 12 rfl rfl)
theorem dX3_foresee_15 : decode cX3_foresee 15 = .ok (.aload_n 0, 1) := dk_42 (dk_at dksX3_foresee_0 15 rfl rfl)
theorem dX3_foresee_16 : decode cX3_foresee 16 = .ok (.iconst 1, 1) := dk_4 (dk_at dksX3_foresee_0 16 rfl rfl)
theorem dX3_foresee_17 : decode cX3_foresee 17 = .ok (.invokevirtual 58, 3) := dk_182 0 58 (dk_at dksX3_foresee_0 17 rfl rfl)
theorem dX3_foresee_20 : decode cX3_foresee 20 = .ok (.ireturn, 1) := dk_172 (dk_at dksX3_foresee_0 20 rfl rfl)
theorem dX3_foresee_21 : decode cX3_foresee 21 = .ok (.iload_n 2, 1) := dk_28 (dk_at dksX3_foresee_0 21 rfl rfl)
theorem dX3_foresee_22 : decode cX3_foresee 22 = .ok (.iconst 0, 1) := dk_3 (dk_at dksX3_foresee_0 22 rfl rfl)
theorem dX3_foresee_23 : decode cX3_foresee 23 = .ok (.iconst 2, 1) := dk_5 (dk_at dksX3_foresee_0 23 rfl rfl)
theorem dX3_foresee_24 : decode cX3_foresee 24 = .ok (.invokestatic 38, 3) := dk_184 0 38 (dk_at dksX3_foresee_1 0 rfl rfl)
theorem dX3_foresee_27 : decode cX3_foresee 27 = .ok (.ifCond .ne 9, 3) := dk_154 0 9 (dk_at dksX3_foresee_1 3 rfl rfl)
theorem dX3_foresee_30 : decode cX3_foresee 30 = .ok (.aload_n 0, 1) := dk_42 (dk_at dksX3_foresee_1 6 rfl rfl)
theorem dX3_foresee_31 : decode cX3_foresee 31 = .ok (.iconst 2, 1) := dk_5 (dk_at dksX3_foresee_1 7 rfl rfl)
theorem dX3_foresee_32 : decode cX3_foresee 32 = .ok (.invokevirtual 58, 3) := dk_182 0 58 (dk_at dksX3_foresee_1 8 rfl rfl)
theorem dX3_foresee_35 : decode cX3_foresee 35 = .ok (.ireturn, 1) := dk_172 (dk_at dksX3_foresee_1 11 rfl rfl)
theorem dX3_foresee_36 : decode cX3_foresee 36 = .ok (.aload_n 0, 1) := dk_42 (dk_at dksX3_foresee_1 12 rfl rfl)
theorem dX3_foresee_37 : decode cX3_foresee 37 = .ok (.getfield 31, 3) := dk_180 0 31 (dk_at dksX3_foresee_1 13 rfl rfl)
theorem dX3_foresee_40 : decode cX3_foresee 40 = .ok (.aload_n 0, 1) := dk_42 (dk_at dksX3_foresee_1 16 rfl rfl)
theorem dX3_foresee_41 : decode cX3_foresee 41 = .ok (.getfield 27, 3) := dk_180 0 27 (dk_at dksX3_foresee_1 17 rfl rfl)
theorem dX3_foresee_44 : decode cX3_foresee 44 = .ok (.invokevirtual 137, 3) := dk_182 0 137 (dk_at dksX3_foresee_1 20 rfl rfl)
theorem dX3_foresee_47 : decode cX3_foresee 47 = .ok (.iconst 0, 1) := dk_3 (dk_at dksX3_foresee_1 23 rfl rfl)
theorem dX3_foresee_48 : decode cX3_foresee 48 = .ok (.istore_n 3, 1) := dk_62 (dk_at dksX3_foresee_2 0 rfl rfl)
theorem dX3_foresee_49 : decode cX3_foresee 49 = .ok (.iload_n 3, 1) := dk_29 (dk_at dksX3_foresee_2 1 rfl rfl)
theorem dX3_foresee_50 : decode cX3_foresee 50 = .ok (.iload_n 1, 1) := dk_27 (dk_at dksX3_foresee_2 2 rfl rfl)
theorem dX3_foresee_51 : decode cX3_foresee 51 = .ok (.if_icmp .ge 16, 3) := dk_162 0 16 (dk_at dksX3_foresee_2 3 rfl rfl)
theorem dX3_foresee_54 : decode cX3_foresee 54 = .ok (.aload_n 0, 1) := dk_42 (dk_at dksX3_foresee_2 6 rfl rfl)
theorem dX3_foresee_55 : decode cX3_foresee 55 = .ok (.getfield 31, 3) := dk_180 0 31 (dk_at dksX3_foresee_2 7 rfl rfl)
theorem dX3_foresee_58 : decode cX3_foresee 58 = .ok (.invokevirtual 134, 3) := dk_182 0 134 (dk_at dksX3_foresee_2 10 rfl rfl)
theorem dX3_foresee_61 : decode cX3_foresee 61 = .ok (.iinc 3 1, 3) := dk_132 3 1 (dk_at dksX3_foresee_2 13 rfl rfl)
theorem dX3_foresee_64 : decode cX3_foresee 64 = .ok (.goto (-15), 3) := dk_167 255 241 (dk_at dksX3_foresee_2 16 rfl rfl)
theorem dX3_foresee_67 : decode cX3_foresee 67 = .ok (.iload_n 2, 1) := dk_28 (dk_at dksX3_foresee_2 19 rfl rfl)
theorem dX3_foresee_68 : decode cX3_foresee 68 = .ok (.ifCond .ne 13, 3) := dk_154 0 13 (dk_at dksX3_foresee_2 20 rfl rfl)
theorem dX3_foresee_71 : decode cX3_foresee 71 = .ok (.aload_n 0, 1) := dk_42 (dk_at dksX3_foresee_2 23 rfl rfl)
theorem dX3_foresee_72 : decode cX3_foresee 72 = .ok (.getfield 31, 3) := dk_180 0 31 (dk_at dksX3_foresee_3 0 rfl rfl)
theorem dX3_foresee_75 : decode cX3_foresee 75 = .ok (.invokevirtual 122, 3) := dk_182 0 122 (dk_at dksX3_foresee_3 3 rfl rfl)
theorem dX3_foresee_78 : decode cX3_foresee 78 = .ok (.goto 25, 3) := dk_167 0 25 (dk_at dksX3_foresee_3 6 rfl rfl)
theorem dX3_foresee_81 : decode cX3_foresee 81 = .ok (.iload_n 2, 1) := dk_28 (dk_at dksX3_foresee_3 9 rfl rfl)
theorem dX3_foresee_82 : decode cX3_foresee 82 = .ok (.iconst 1, 1) := dk_4 (dk_at dksX3_foresee_3 10 rfl rfl)
theorem dX3_foresee_83 : decode cX3_foresee 83 = .ok (.if_icmp .ne 13, 3) := dk_160 0 13 (dk_at dksX3_foresee_3 11 rfl rfl)
theorem dX3_foresee_86 : decode cX3_foresee 86 = .ok (.aload_n 0, 1) := dk_42 (dk_at dksX3_foresee_3 14 rfl rfl)
theorem dX3_foresee_87 : decode cX3_foresee 87 = .ok (.getfield 31, 3) := dk_180 0 31 (dk_at dksX3_foresee_3 15 rfl rfl)
theorem dX3_foresee_90 : decode cX3_foresee 90 = .ok (.invokevirtual 115, 3) := dk_182 0 115 (dk_at dksX3_foresee_3 18 rfl rfl)
theorem dX3_foresee_93 : decode cX3_foresee 93 = .ok (.goto 10, 3) := dk_167 0 10 (dk_at dksX3_foresee_3 21 rfl rfl)
theorem dX3_foresee_96 : decode cX3_foresee 96 = .ok (.aload_n 0, 1) := dk_42 (dk_at dksX3_foresee_4 0 rfl rfl)
theorem dX3_foresee_97 : decode cX3_foresee 97 = .ok (.getfield 31, 3) := dk_180 0 31 (dk_at dksX3_foresee_4 1 rfl rfl)
theorem dX3_foresee_100 : decode cX3_foresee 100 = .ok (.invokevirtual 131, 3) := dk_182 0 131 (dk_at dksX3_foresee_4 4 rfl rfl)
theorem dX3_foresee_103 : decode cX3_foresee 103 = .ok (.ireturn, 1) := dk_172 (dk_at dksX3_foresee_4 7 rfl rfl)
abbrev cX3_advise : ByteArray := prog_6_method_28_code
def yX3_advise : MethodName := ⟨RX3, "advise", "(I)I"⟩
def dkwX3_advise_5 : List UInt8 := [132, 4, 1, 167, 255, 180, 28, 172]
abbrev dktX3_advise_5 : List UInt8 := dkwX3_advise_5 ++ []
def dkwX3_advise_4 : List UInt8 := [180, 0, 31, 182, 0, 131, 54, 5, 21, 5, 29, 161, 0, 6, 167, 0, 9, 21, 5, 62, 21, 4, 61]
abbrev dktX3_advise_4 : List UInt8 := dkwX3_advise_4 ++ dktX3_advise_5
def dkwX3_advise_3 : List UInt8 := [42, 180, 0, 31, 180, 0, 84, 16, 24, 27, 104, 21, 4, 79, 42, 180, 0, 31, 182, 0, 134, 42]
abbrev dktX3_advise_3 : List UInt8 := dkwX3_advise_3 ++ dktX3_advise_4
def dkwX3_advise_2 : List UInt8 := [162, 0, 75, 42, 180, 0, 31, 42, 180, 0, 27, 182, 0, 137, 42, 180, 0, 31, 180, 0, 81, 27, 4, 79]
abbrev dktX3_advise_2 : List UInt8 := dkwX3_advise_2 ++ dktX3_advise_3
def dkwX3_advise_1 : List UInt8 := [180, 0, 72, 27, 46, 154, 0, 5, 2, 172, 2, 61, 17, 39, 15, 62, 3, 54, 4, 21, 4, 16, 12]
abbrev dktX3_advise_1 : List UInt8 := dkwX3_advise_1 ++ dktX3_advise_2
def dkwX3_advise_0 : List UInt8 := [42, 3, 181, 0, 34, 42, 27, 182, 0, 78, 154, 0, 9, 42, 4, 182, 0, 58, 172, 42, 180, 0, 27]
abbrev dktX3_advise_0 : List UInt8 := dkwX3_advise_0 ++ dktX3_advise_1
theorem dksX3_advise_0 : cX3_advise.data.toList.drop 0 = dktX3_advise_0 := by decide +kernel
theorem dksX3_advise_1 : cX3_advise.data.toList.drop 23 = dktX3_advise_1 := dk_seg dksX3_advise_0 23 rfl rfl
theorem dksX3_advise_2 : cX3_advise.data.toList.drop 46 = dktX3_advise_2 := dk_seg dksX3_advise_1 23 rfl rfl
theorem dksX3_advise_3 : cX3_advise.data.toList.drop 70 = dktX3_advise_3 := dk_seg dksX3_advise_2 24 rfl rfl
theorem dksX3_advise_4 : cX3_advise.data.toList.drop 92 = dktX3_advise_4 := dk_seg dksX3_advise_3 22 rfl rfl
theorem dksX3_advise_5 : cX3_advise.data.toList.drop 115 = dktX3_advise_5 := dk_seg dksX3_advise_4 23 rfl rfl
theorem dX3_advise_0 : decode cX3_advise 0 = .ok (.aload_n 0, 1) := dk_42 (dk_at dksX3_advise_0 0 rfl rfl)
theorem dX3_advise_1 : decode cX3_advise 1 = .ok (.iconst 0, 1) := dk_3 (dk_at dksX3_advise_0 1 rfl rfl)
theorem dX3_advise_2 : decode cX3_advise 2 = .ok (.putfield 34, 3) := dk_181 0 34 (dk_at dksX3_advise_0 2 rfl rfl)
theorem dX3_advise_5 : decode cX3_advise 5 = .ok (.aload_n 0, 1) := dk_42 (dk_at dksX3_advise_0 5 rfl rfl)
theorem dX3_advise_6 : decode cX3_advise 6 = .ok (.iload_n 1, 1) := dk_27 (dk_at dksX3_advise_0 6 rfl rfl)
theorem dX3_advise_7 : decode cX3_advise 7 = .ok (.invokevirtual 78, 3) := dk_182 0 78 (dk_at dksX3_advise_0 7 rfl rfl)
theorem dX3_advise_10 : decode cX3_advise 10 = .ok (.ifCond .ne 9, 3) := dk_154 0 9 (dk_at dksX3_advise_0 10 rfl rfl)
theorem dX3_advise_13 : decode cX3_advise 13 = .ok (.aload_n 0, 1) := dk_42 (dk_at dksX3_advise_0 13 rfl rfl)
theorem dX3_advise_14 : decode cX3_advise 14 = .ok (.iconst 1, 1) := dk_4 (dk_at dksX3_advise_0 14 rfl rfl)
theorem dX3_advise_15 : decode cX3_advise 15 = .ok (.invokevirtual 58, 3) := dk_182 0 58 (dk_at dksX3_advise_0 15 rfl rfl)
theorem dX3_advise_18 : decode cX3_advise 18 = .ok (.ireturn, 1) := dk_172 (dk_at dksX3_advise_0 18 rfl rfl)
theorem dX3_advise_19 : decode cX3_advise 19 = .ok (.aload_n 0, 1) := dk_42 (dk_at dksX3_advise_0 19 rfl rfl)
theorem dX3_advise_20 : decode cX3_advise 20 = .ok (.getfield 27, 3) := dk_180 0 27 (dk_at dksX3_advise_0 20 rfl rfl)
theorem dX3_advise_23 : decode cX3_advise 23 = .ok (.getfield 72, 3) := dk_180 0 72 (dk_at dksX3_advise_1 0 rfl rfl)
theorem dX3_advise_26 : decode cX3_advise 26 = .ok (.iload_n 1, 1) := dk_27 (dk_at dksX3_advise_1 3 rfl rfl)
theorem dX3_advise_27 : decode cX3_advise 27 = .ok (.iaload, 1) := dk_46 (dk_at dksX3_advise_1 4 rfl rfl)
theorem dX3_advise_28 : decode cX3_advise 28 = .ok (.ifCond .ne 5, 3) := dk_154 0 5 (dk_at dksX3_advise_1 5 rfl rfl)
theorem dX3_advise_31 : decode cX3_advise 31 = .ok (.iconst (-1), 1) := dk_2 (dk_at dksX3_advise_1 8 rfl rfl)
theorem dX3_advise_32 : decode cX3_advise 32 = .ok (.ireturn, 1) := dk_172 (dk_at dksX3_advise_1 9 rfl rfl)
theorem dX3_advise_33 : decode cX3_advise 33 = .ok (.iconst (-1), 1) := dk_2 (dk_at dksX3_advise_1 10 rfl rfl)
theorem dX3_advise_34 : decode cX3_advise 34 = .ok (.istore_n 2, 1) := dk_61 (dk_at dksX3_advise_1 11 rfl rfl)
theorem dX3_advise_35 : decode cX3_advise 35 = .ok (.sipush 9999, 3) := dk_17 39 15 (dk_at dksX3_advise_1 12 rfl rfl)
theorem dX3_advise_38 : decode cX3_advise 38 = .ok (.istore_n 3, 1) := dk_62 (dk_at dksX3_advise_1 15 rfl rfl)
theorem dX3_advise_39 : decode cX3_advise 39 = .ok (.iconst 0, 1) := dk_3 (dk_at dksX3_advise_1 16 rfl rfl)
theorem dX3_advise_40 : decode cX3_advise 40 = .ok (.istore 4, 2) := dk_54 4 (dk_at dksX3_advise_1 17 rfl rfl)
theorem dX3_advise_42 : decode cX3_advise 42 = .ok (.iload 4, 2) := dk_21 4 (dk_at dksX3_advise_1 19 rfl rfl)
theorem dX3_advise_44 : decode cX3_advise 44 = .ok (.bipush 12, 2) := dk_16 12 (dk_at dksX3_advise_1 21 rfl rfl)
theorem dX3_advise_46 : decode cX3_advise 46 = .ok (.if_icmp .ge 75, 3) := dk_162 0 75 (dk_at dksX3_advise_2 0 rfl rfl)
theorem dX3_advise_49 : decode cX3_advise 49 = .ok (.aload_n 0, 1) := dk_42 (dk_at dksX3_advise_2 3 rfl rfl)
theorem dX3_advise_50 : decode cX3_advise 50 = .ok (.getfield 31, 3) := dk_180 0 31 (dk_at dksX3_advise_2 4 rfl rfl)
theorem dX3_advise_53 : decode cX3_advise 53 = .ok (.aload_n 0, 1) := dk_42 (dk_at dksX3_advise_2 7 rfl rfl)
theorem dX3_advise_54 : decode cX3_advise 54 = .ok (.getfield 27, 3) := dk_180 0 27 (dk_at dksX3_advise_2 8 rfl rfl)
theorem dX3_advise_57 : decode cX3_advise 57 = .ok (.invokevirtual 137, 3) := dk_182 0 137 (dk_at dksX3_advise_2 11 rfl rfl)
theorem dX3_advise_60 : decode cX3_advise 60 = .ok (.aload_n 0, 1) := dk_42 (dk_at dksX3_advise_2 14 rfl rfl)
theorem dX3_advise_61 : decode cX3_advise 61 = .ok (.getfield 31, 3) := dk_180 0 31 (dk_at dksX3_advise_2 15 rfl rfl)
theorem dX3_advise_64 : decode cX3_advise 64 = .ok (.getfield 81, 3) := dk_180 0 81 (dk_at dksX3_advise_2 18 rfl rfl)
theorem dX3_advise_67 : decode cX3_advise 67 = .ok (.iload_n 1, 1) := dk_27 (dk_at dksX3_advise_2 21 rfl rfl)
theorem dX3_advise_68 : decode cX3_advise 68 = .ok (.iconst 1, 1) := dk_4 (dk_at dksX3_advise_2 22 rfl rfl)
theorem dX3_advise_69 : decode cX3_advise 69 = .ok (.iastore, 1) := dk_79 (dk_at dksX3_advise_2 23 rfl rfl)
theorem dX3_advise_70 : decode cX3_advise 70 = .ok (.aload_n 0, 1) := dk_42 (dk_at dksX3_advise_3 0 rfl rfl)
theorem dX3_advise_71 : decode cX3_advise 71 = .ok (.getfield 31, 3) := dk_180 0 31 (dk_at dksX3_advise_3 1 rfl rfl)
theorem dX3_advise_74 : decode cX3_advise 74 = .ok (.getfield 84, 3) := dk_180 0 84 (dk_at dksX3_advise_3 4 rfl rfl)
theorem dX3_advise_77 : decode cX3_advise 77 = .ok (.bipush 24, 2) := dk_16 24 (dk_at dksX3_advise_3 7 rfl rfl)
theorem dX3_advise_79 : decode cX3_advise 79 = .ok (.iload_n 1, 1) := dk_27 (dk_at dksX3_advise_3 9 rfl rfl)
theorem dX3_advise_80 : decode cX3_advise 80 = .ok (.imul, 1) := dk_104 (dk_at dksX3_advise_3 10 rfl rfl)
theorem dX3_advise_81 : decode cX3_advise 81 = .ok (.iload 4, 2) := dk_21 4 (dk_at dksX3_advise_3 11 rfl rfl)
theorem dX3_advise_83 : decode cX3_advise 83 = .ok (.iastore, 1) := dk_79 (dk_at dksX3_advise_3 13 rfl rfl)
theorem dX3_advise_84 : decode cX3_advise 84 = .ok (.aload_n 0, 1) := dk_42 (dk_at dksX3_advise_3 14 rfl rfl)
theorem dX3_advise_85 : decode cX3_advise 85 = .ok (.getfield 31, 3) := dk_180 0 31 (dk_at dksX3_advise_3 15 rfl rfl)
theorem dX3_advise_88 : decode cX3_advise 88 = .ok (.invokevirtual 134, 3) := dk_182 0 134 (dk_at dksX3_advise_3 18 rfl rfl)
theorem dX3_advise_91 : decode cX3_advise 91 = .ok (.aload_n 0, 1) := dk_42 (dk_at dksX3_advise_3 21 rfl rfl)
theorem dX3_advise_92 : decode cX3_advise 92 = .ok (.getfield 31, 3) := dk_180 0 31 (dk_at dksX3_advise_4 0 rfl rfl)
theorem dX3_advise_95 : decode cX3_advise 95 = .ok (.invokevirtual 131, 3) := dk_182 0 131 (dk_at dksX3_advise_4 3 rfl rfl)
theorem dX3_advise_98 : decode cX3_advise 98 = .ok (.istore 5, 2) := dk_54 5 (dk_at dksX3_advise_4 6 rfl rfl)
theorem dX3_advise_100 : decode cX3_advise 100 = .ok (.iload 5, 2) := dk_21 5 (dk_at dksX3_advise_4 8 rfl rfl)
theorem dX3_advise_102 : decode cX3_advise 102 = .ok (.iload_n 3, 1) := dk_29 (dk_at dksX3_advise_4 10 rfl rfl)
theorem dX3_advise_103 : decode cX3_advise 103 = .ok (.if_icmp .lt 6, 3) := dk_161 0 6 (dk_at dksX3_advise_4 11 rfl rfl)
theorem dX3_advise_106 : decode cX3_advise 106 = .ok (.goto 9, 3) := dk_167 0 9 (dk_at dksX3_advise_4 14 rfl rfl)
theorem dX3_advise_109 : decode cX3_advise 109 = .ok (.iload 5, 2) := dk_21 5 (dk_at dksX3_advise_4 17 rfl rfl)
theorem dX3_advise_111 : decode cX3_advise 111 = .ok (.istore_n 3, 1) := dk_62 (dk_at dksX3_advise_4 19 rfl rfl)
theorem dX3_advise_112 : decode cX3_advise 112 = .ok (.iload 4, 2) := dk_21 4 (dk_at dksX3_advise_4 20 rfl rfl)
theorem dX3_advise_114 : decode cX3_advise 114 = .ok (.istore_n 2, 1) := dk_61 (dk_at dksX3_advise_4 22 rfl rfl)
theorem dX3_advise_115 : decode cX3_advise 115 = .ok (.iinc 4 1, 3) := dk_132 4 1 (dk_at dksX3_advise_5 0 rfl rfl)
theorem dX3_advise_118 : decode cX3_advise 118 = .ok (.goto (-76), 3) := dk_167 255 180 (dk_at dksX3_advise_5 3 rfl rfl)
theorem dX3_advise_121 : decode cX3_advise 121 = .ok (.iload_n 2, 1) := dk_28 (dk_at dksX3_advise_5 6 rfl rfl)
theorem dX3_advise_122 : decode cX3_advise 122 = .ok (.ireturn, 1) := dk_172 (dk_at dksX3_advise_5 7 rfl rfl)
abbrev cX3_mean : ByteArray := prog_6_method_29_code
def yX3_mean : MethodName := ⟨RX3, "mean", "()D"⟩
def dkwX3_mean_1 : List UInt8 := [42, 182, 0, 119, 135, 111, 175]
abbrev dktX3_mean_1 : List UInt8 := dkwX3_mean_1 ++ []
def dkwX3_mean_0 : List UInt8 := [42, 3, 181, 0, 34, 42, 182, 0, 119, 154, 0, 7, 14, 167, 0, 17, 42, 180, 0, 27, 182, 0, 122, 135]
abbrev dktX3_mean_0 : List UInt8 := dkwX3_mean_0 ++ dktX3_mean_1
theorem dksX3_mean_0 : cX3_mean.data.toList.drop 0 = dktX3_mean_0 := by decide +kernel
theorem dksX3_mean_1 : cX3_mean.data.toList.drop 24 = dktX3_mean_1 := dk_seg dksX3_mean_0 24 rfl rfl
theorem dX3_mean_0 : decode cX3_mean 0 = .ok (.aload_n 0, 1) := dk_42 (dk_at dksX3_mean_0 0 rfl rfl)
theorem dX3_mean_1 : decode cX3_mean 1 = .ok (.iconst 0, 1) := dk_3 (dk_at dksX3_mean_0 1 rfl rfl)
theorem dX3_mean_2 : decode cX3_mean 2 = .ok (.putfield 34, 3) := dk_181 0 34 (dk_at dksX3_mean_0 2 rfl rfl)
theorem dX3_mean_5 : decode cX3_mean 5 = .ok (.aload_n 0, 1) := dk_42 (dk_at dksX3_mean_0 5 rfl rfl)
theorem dX3_mean_6 : decode cX3_mean 6 = .ok (.invokevirtual 119, 3) := dk_182 0 119 (dk_at dksX3_mean_0 6 rfl rfl)
theorem dX3_mean_9 : decode cX3_mean 9 = .ok (.ifCond .ne 7, 3) := dk_154 0 7 (dk_at dksX3_mean_0 9 rfl rfl)
theorem dX3_mean_12 : decode cX3_mean 12 = .ok (.dconst 0, 1) := dk_14 (dk_at dksX3_mean_0 12 rfl rfl)
theorem dX3_mean_13 : decode cX3_mean 13 = .ok (.goto 17, 3) := dk_167 0 17 (dk_at dksX3_mean_0 13 rfl rfl)
theorem dX3_mean_16 : decode cX3_mean 16 = .ok (.aload_n 0, 1) := dk_42 (dk_at dksX3_mean_0 16 rfl rfl)
theorem dX3_mean_17 : decode cX3_mean 17 = .ok (.getfield 27, 3) := dk_180 0 27 (dk_at dksX3_mean_0 17 rfl rfl)
theorem dX3_mean_20 : decode cX3_mean 20 = .ok (.invokevirtual 122, 3) := dk_182 0 122 (dk_at dksX3_mean_0 20 rfl rfl)
theorem dX3_mean_23 : decode cX3_mean 23 = .ok (.i2d, 1) := dk_135 (dk_at dksX3_mean_0 23 rfl rfl)
theorem dX3_mean_24 : decode cX3_mean 24 = .ok (.aload_n 0, 1) := dk_42 (dk_at dksX3_mean_1 0 rfl rfl)
theorem dX3_mean_25 : decode cX3_mean 25 = .ok (.invokevirtual 119, 3) := dk_182 0 119 (dk_at dksX3_mean_1 1 rfl rfl)
theorem dX3_mean_28 : decode cX3_mean 28 = .ok (.i2d, 1) := dk_135 (dk_at dksX3_mean_1 4 rfl rfl)
theorem dX3_mean_29 : decode cX3_mean 29 = .ok (.ddiv, 1) := dk_111 (dk_at dksX3_mean_1 5 rfl rfl)
theorem dX3_mean_30 : decode cX3_mean 30 = .ok (.dreturn, 1) := dk_175 (dk_at dksX3_mean_1 6 rfl rfl)
abbrev cX3_digest : ByteArray := prog_6_method_30_code
def yX3_digest : MethodName := ⟨RX3, "digest", "()J"⟩
def dkwX3_digest_8 : List UInt8 := [182, 0, 109, 133, 97, 64, 132, 4, 1, 167, 255, 232, 132, 3, 1, 167, 255, 215, 31, 173]
abbrev dktX3_digest_8 : List UInt8 := dkwX3_digest_8 ++ []
def dkwX3_digest_7 : List UInt8 := [180, 0, 45, 162, 0, 39, 3, 54, 4, 21, 4, 6, 163, 0, 24, 31, 20, 0, 143, 105, 42, 29, 21, 4]
abbrev dktX3_digest_7 : List UInt8 := dkwX3_digest_7 ++ dktX3_digest_8
def dkwX3_digest_6 : List UInt8 := [21, 4, 96, 46, 133, 97, 64, 132, 4, 1, 167, 255, 216, 132, 3, 1, 167, 255, 168, 3, 62, 29, 42]
abbrev dktX3_digest_6 : List UInt8 := dkwX3_digest_6 ++ dktX3_digest_7
def dkwX3_digest_5 : List UInt8 := [180, 0, 81, 29, 46, 162, 0, 32, 31, 20, 0, 143, 105, 42, 180, 0, 27, 180, 0, 84, 16, 24, 29, 104]
abbrev dktX3_digest_5 : List UInt8 := dkwX3_digest_5 ++ dktX3_digest_6
def dkwX3_digest_4 : List UInt8 := [21, 4, 182, 0, 96, 133, 97, 64, 132, 4, 1, 167, 255, 231, 3, 54, 4, 21, 4, 42, 180, 0, 27]
abbrev dktX3_digest_4 : List UInt8 := dkwX3_digest_4 ++ dktX3_digest_5
def dkwX3_digest_3 : List UInt8 := [180, 0, 42, 162, 0, 86, 3, 54, 4, 21, 4, 16, 7, 163, 0, 24, 31, 20, 0, 143, 105, 42, 29]
abbrev dktX3_digest_3 : List UInt8 := dkwX3_digest_3 ++ dktX3_digest_4
def dkwX3_digest_2 : List UInt8 := [105, 42, 180, 0, 27, 180, 0, 62, 29, 46, 133, 97, 64, 132, 3, 1, 167, 255, 230, 3, 62, 29, 42]
abbrev dktX3_digest_2 : List UInt8 := dkwX3_digest_2 ++ dktX3_digest_3
def dkwX3_digest_1 : List UInt8 := [182, 0, 125, 133, 97, 64, 132, 3, 1, 167, 255, 234, 3, 62, 29, 16, 108, 162, 0, 26, 31, 20, 0, 143]
abbrev dktX3_digest_1 : List UInt8 := dkwX3_digest_1 ++ dktX3_digest_2
def dkwX3_digest_0 : List UInt8 := [42, 3, 181, 0, 34, 20, 0, 141, 64, 3, 62, 29, 16, 7, 163, 0, 22, 31, 20, 0, 143, 105, 42, 29]
abbrev dktX3_digest_0 : List UInt8 := dkwX3_digest_0 ++ dktX3_digest_1
theorem dksX3_digest_0 : cX3_digest.data.toList.drop 0 = dktX3_digest_0 := by decide +kernel
theorem dksX3_digest_1 : cX3_digest.data.toList.drop 24 = dktX3_digest_1 := dk_seg dksX3_digest_0 24 rfl rfl
theorem dksX3_digest_2 : cX3_digest.data.toList.drop 48 = dktX3_digest_2 := dk_seg dksX3_digest_1 24 rfl rfl
theorem dksX3_digest_3 : cX3_digest.data.toList.drop 71 = dktX3_digest_3 := dk_seg dksX3_digest_2 23 rfl rfl
theorem dksX3_digest_4 : cX3_digest.data.toList.drop 94 = dktX3_digest_4 := dk_seg dksX3_digest_3 23 rfl rfl
theorem dksX3_digest_5 : cX3_digest.data.toList.drop 117 = dktX3_digest_5 := dk_seg dksX3_digest_4 23 rfl rfl
theorem dksX3_digest_6 : cX3_digest.data.toList.drop 141 = dktX3_digest_6 := dk_seg dksX3_digest_5 24 rfl rfl
theorem dksX3_digest_7 : cX3_digest.data.toList.drop 164 = dktX3_digest_7 := dk_seg dksX3_digest_6 23 rfl rfl
theorem dksX3_digest_8 : cX3_digest.data.toList.drop 188 = dktX3_digest_8 := dk_seg dksX3_digest_7 24 rfl rfl
theorem dX3_digest_0 : decode cX3_digest 0 = .ok (.aload_n 0, 1) := dk_42 (dk_at dksX3_digest_0 0 rfl rfl)
theorem dX3_digest_1 : decode cX3_digest 1 = .ok (.iconst 0, 1) := dk_3 (dk_at dksX3_digest_0 1 rfl rfl)
theorem dX3_digest_2 : decode cX3_digest 2 = .ok (.putfield 34, 3) := dk_181 0 34 (dk_at dksX3_digest_0 2 rfl rfl)
theorem dX3_digest_5 : decode cX3_digest 5 = .ok (.ldc2_w 141, 3) := dk_20 0 141 (dk_at dksX3_digest_0 5 rfl rfl)
theorem dX3_digest_8 : decode cX3_digest 8 = .ok (.lstore_n 1, 1) := dk_64 (dk_at dksX3_digest_0 8 rfl rfl)
theorem dX3_digest_9 : decode cX3_digest 9 = .ok (.iconst 0, 1) := dk_3 (dk_at dksX3_digest_0 9 rfl rfl)
theorem dX3_digest_10 : decode cX3_digest 10 = .ok (.istore_n 3, 1) := dk_62 (dk_at dksX3_digest_0 10 rfl rfl)
theorem dX3_digest_11 : decode cX3_digest 11 = .ok (.iload_n 3, 1) := dk_29 (dk_at dksX3_digest_0 11 rfl rfl)
theorem dX3_digest_12 : decode cX3_digest 12 = .ok (.bipush 7, 2) := dk_16 7 (dk_at dksX3_digest_0 12 rfl rfl)
theorem dX3_digest_14 : decode cX3_digest 14 = .ok (.if_icmp .gt 22, 3) := dk_163 0 22 (dk_at dksX3_digest_0 14 rfl rfl)
theorem dX3_digest_17 : decode cX3_digest 17 = .ok (.lload_n 1, 1) := dk_31 (dk_at dksX3_digest_0 17 rfl rfl)
theorem dX3_digest_18 : decode cX3_digest 18 = .ok (.ldc2_w 143, 3) := dk_20 0 143 (dk_at dksX3_digest_0 18 rfl rfl)
theorem dX3_digest_21 : decode cX3_digest 21 = .ok (.lmul, 1) := dk_105 (dk_at dksX3_digest_0 21 rfl rfl)
theorem dX3_digest_22 : decode cX3_digest 22 = .ok (.aload_n 0, 1) := dk_42 (dk_at dksX3_digest_0 22 rfl rfl)
theorem dX3_digest_23 : decode cX3_digest 23 = .ok (.iload_n 3, 1) := dk_29 (dk_at dksX3_digest_0 23 rfl rfl)
theorem dX3_digest_24 : decode cX3_digest 24 = .ok (.invokevirtual 125, 3) := dk_182 0 125 (dk_at dksX3_digest_1 0 rfl rfl)
theorem dX3_digest_27 : decode cX3_digest 27 = .ok (.i2l, 1) := dk_133 (dk_at dksX3_digest_1 3 rfl rfl)
theorem dX3_digest_28 : decode cX3_digest 28 = .ok (.ladd, 1) := dk_97 (dk_at dksX3_digest_1 4 rfl rfl)
theorem dX3_digest_29 : decode cX3_digest 29 = .ok (.lstore_n 1, 1) := dk_64 (dk_at dksX3_digest_1 5 rfl rfl)
theorem dX3_digest_30 : decode cX3_digest 30 = .ok (.iinc 3 1, 3) := dk_132 3 1 (dk_at dksX3_digest_1 6 rfl rfl)
theorem dX3_digest_33 : decode cX3_digest 33 = .ok (.goto (-22), 3) := dk_167 255 234 (dk_at dksX3_digest_1 9 rfl rfl)
theorem dX3_digest_36 : decode cX3_digest 36 = .ok (.iconst 0, 1) := dk_3 (dk_at dksX3_digest_1 12 rfl rfl)
theorem dX3_digest_37 : decode cX3_digest 37 = .ok (.istore_n 3, 1) := dk_62 (dk_at dksX3_digest_1 13 rfl rfl)
theorem dX3_digest_38 : decode cX3_digest 38 = .ok (.iload_n 3, 1) := dk_29 (dk_at dksX3_digest_1 14 rfl rfl)
theorem dX3_digest_39 : decode cX3_digest 39 = .ok (.bipush 108, 2) := dk_16 108 (dk_at dksX3_digest_1 15 rfl rfl)
theorem dX3_digest_41 : decode cX3_digest 41 = .ok (.if_icmp .ge 26, 3) := dk_162 0 26 (dk_at dksX3_digest_1 17 rfl rfl)
theorem dX3_digest_44 : decode cX3_digest 44 = .ok (.lload_n 1, 1) := dk_31 (dk_at dksX3_digest_1 20 rfl rfl)
theorem dX3_digest_45 : decode cX3_digest 45 = .ok (.ldc2_w 143, 3) := dk_20 0 143 (dk_at dksX3_digest_1 21 rfl rfl)
theorem dX3_digest_48 : decode cX3_digest 48 = .ok (.lmul, 1) := dk_105 (dk_at dksX3_digest_2 0 rfl rfl)
theorem dX3_digest_49 : decode cX3_digest 49 = .ok (.aload_n 0, 1) := dk_42 (dk_at dksX3_digest_2 1 rfl rfl)
theorem dX3_digest_50 : decode cX3_digest 50 = .ok (.getfield 27, 3) := dk_180 0 27 (dk_at dksX3_digest_2 2 rfl rfl)
theorem dX3_digest_53 : decode cX3_digest 53 = .ok (.getfield 62, 3) := dk_180 0 62 (dk_at dksX3_digest_2 5 rfl rfl)
theorem dX3_digest_56 : decode cX3_digest 56 = .ok (.iload_n 3, 1) := dk_29 (dk_at dksX3_digest_2 8 rfl rfl)
theorem dX3_digest_57 : decode cX3_digest 57 = .ok (.iaload, 1) := dk_46 (dk_at dksX3_digest_2 9 rfl rfl)
theorem dX3_digest_58 : decode cX3_digest 58 = .ok (.i2l, 1) := dk_133 (dk_at dksX3_digest_2 10 rfl rfl)
theorem dX3_digest_59 : decode cX3_digest 59 = .ok (.ladd, 1) := dk_97 (dk_at dksX3_digest_2 11 rfl rfl)
theorem dX3_digest_60 : decode cX3_digest 60 = .ok (.lstore_n 1, 1) := dk_64 (dk_at dksX3_digest_2 12 rfl rfl)
theorem dX3_digest_61 : decode cX3_digest 61 = .ok (.iinc 3 1, 3) := dk_132 3 1 (dk_at dksX3_digest_2 13 rfl rfl)
theorem dX3_digest_64 : decode cX3_digest 64 = .ok (.goto (-26), 3) := dk_167 255 230 (dk_at dksX3_digest_2 16 rfl rfl)
theorem dX3_digest_67 : decode cX3_digest 67 = .ok (.iconst 0, 1) := dk_3 (dk_at dksX3_digest_2 19 rfl rfl)
theorem dX3_digest_68 : decode cX3_digest 68 = .ok (.istore_n 3, 1) := dk_62 (dk_at dksX3_digest_2 20 rfl rfl)
theorem dX3_digest_69 : decode cX3_digest 69 = .ok (.iload_n 3, 1) := dk_29 (dk_at dksX3_digest_2 21 rfl rfl)
theorem dX3_digest_70 : decode cX3_digest 70 = .ok (.aload_n 0, 1) := dk_42 (dk_at dksX3_digest_2 22 rfl rfl)
theorem dX3_digest_71 : decode cX3_digest 71 = .ok (.getfield 42, 3) := dk_180 0 42 (dk_at dksX3_digest_3 0 rfl rfl)
theorem dX3_digest_74 : decode cX3_digest 74 = .ok (.if_icmp .ge 86, 3) := dk_162 0 86 (dk_at dksX3_digest_3 3 rfl rfl)
theorem dX3_digest_77 : decode cX3_digest 77 = .ok (.iconst 0, 1) := dk_3 (dk_at dksX3_digest_3 6 rfl rfl)
theorem dX3_digest_78 : decode cX3_digest 78 = .ok (.istore 4, 2) := dk_54 4 (dk_at dksX3_digest_3 7 rfl rfl)
theorem dX3_digest_80 : decode cX3_digest 80 = .ok (.iload 4, 2) := dk_21 4 (dk_at dksX3_digest_3 9 rfl rfl)
theorem dX3_digest_82 : decode cX3_digest 82 = .ok (.bipush 7, 2) := dk_16 7 (dk_at dksX3_digest_3 11 rfl rfl)
theorem dX3_digest_84 : decode cX3_digest 84 = .ok (.if_icmp .gt 24, 3) := dk_163 0 24 (dk_at dksX3_digest_3 13 rfl rfl)
theorem dX3_digest_87 : decode cX3_digest 87 = .ok (.lload_n 1, 1) := dk_31 (dk_at dksX3_digest_3 16 rfl rfl)
theorem dX3_digest_88 : decode cX3_digest 88 = .ok (.ldc2_w 143, 3) := dk_20 0 143 (dk_at dksX3_digest_3 17 rfl rfl)
theorem dX3_digest_91 : decode cX3_digest 91 = .ok (.lmul, 1) := dk_105 (dk_at dksX3_digest_3 20 rfl rfl)
theorem dX3_digest_92 : decode cX3_digest 92 = .ok (.aload_n 0, 1) := dk_42 (dk_at dksX3_digest_3 21 rfl rfl)
theorem dX3_digest_93 : decode cX3_digest 93 = .ok (.iload_n 3, 1) := dk_29 (dk_at dksX3_digest_3 22 rfl rfl)
theorem dX3_digest_94 : decode cX3_digest 94 = .ok (.iload 4, 2) := dk_21 4 (dk_at dksX3_digest_4 0 rfl rfl)
theorem dX3_digest_96 : decode cX3_digest 96 = .ok (.invokevirtual 96, 3) := dk_182 0 96 (dk_at dksX3_digest_4 2 rfl rfl)
theorem dX3_digest_99 : decode cX3_digest 99 = .ok (.i2l, 1) := dk_133 (dk_at dksX3_digest_4 5 rfl rfl)
theorem dX3_digest_100 : decode cX3_digest 100 = .ok (.ladd, 1) := dk_97 (dk_at dksX3_digest_4 6 rfl rfl)
theorem dX3_digest_101 : decode cX3_digest 101 = .ok (.lstore_n 1, 1) := dk_64 (dk_at dksX3_digest_4 7 rfl rfl)
theorem dX3_digest_102 : decode cX3_digest 102 = .ok (.iinc 4 1, 3) := dk_132 4 1 (dk_at dksX3_digest_4 8 rfl rfl)
theorem dX3_digest_105 : decode cX3_digest 105 = .ok (.goto (-25), 3) := dk_167 255 231 (dk_at dksX3_digest_4 11 rfl rfl)
theorem dX3_digest_108 : decode cX3_digest 108 = .ok (.iconst 0, 1) := dk_3 (dk_at dksX3_digest_4 14 rfl rfl)
theorem dX3_digest_109 : decode cX3_digest 109 = .ok (.istore 4, 2) := dk_54 4 (dk_at dksX3_digest_4 15 rfl rfl)
theorem dX3_digest_111 : decode cX3_digest 111 = .ok (.iload 4, 2) := dk_21 4 (dk_at dksX3_digest_4 17 rfl rfl)
theorem dX3_digest_113 : decode cX3_digest 113 = .ok (.aload_n 0, 1) := dk_42 (dk_at dksX3_digest_4 19 rfl rfl)
theorem dX3_digest_114 : decode cX3_digest 114 = .ok (.getfield 27, 3) := dk_180 0 27 (dk_at dksX3_digest_4 20 rfl rfl)
theorem dX3_digest_117 : decode cX3_digest 117 = .ok (.getfield 81, 3) := dk_180 0 81 (dk_at dksX3_digest_5 0 rfl rfl)
theorem dX3_digest_120 : decode cX3_digest 120 = .ok (.iload_n 3, 1) := dk_29 (dk_at dksX3_digest_5 3 rfl rfl)
theorem dX3_digest_121 : decode cX3_digest 121 = .ok (.iaload, 1) := dk_46 (dk_at dksX3_digest_5 4 rfl rfl)
theorem dX3_digest_122 : decode cX3_digest 122 = .ok (.if_icmp .ge 32, 3) := dk_162 0 32 (dk_at dksX3_digest_5 5 rfl rfl)
theorem dX3_digest_125 : decode cX3_digest 125 = .ok (.lload_n 1, 1) := dk_31 (dk_at dksX3_digest_5 8 rfl rfl)
theorem dX3_digest_126 : decode cX3_digest 126 = .ok (.ldc2_w 143, 3) := dk_20 0 143 (dk_at dksX3_digest_5 9 rfl rfl)
theorem dX3_digest_129 : decode cX3_digest 129 = .ok (.lmul, 1) := dk_105 (dk_at dksX3_digest_5 12 rfl rfl)
theorem dX3_digest_130 : decode cX3_digest 130 = .ok (.aload_n 0, 1) := dk_42 (dk_at dksX3_digest_5 13 rfl rfl)
theorem dX3_digest_131 : decode cX3_digest 131 = .ok (.getfield 27, 3) := dk_180 0 27 (dk_at dksX3_digest_5 14 rfl rfl)
theorem dX3_digest_134 : decode cX3_digest 134 = .ok (.getfield 84, 3) := dk_180 0 84 (dk_at dksX3_digest_5 17 rfl rfl)
theorem dX3_digest_137 : decode cX3_digest 137 = .ok (.bipush 24, 2) := dk_16 24 (dk_at dksX3_digest_5 20 rfl rfl)
theorem dX3_digest_139 : decode cX3_digest 139 = .ok (.iload_n 3, 1) := dk_29 (dk_at dksX3_digest_5 22 rfl rfl)
theorem dX3_digest_140 : decode cX3_digest 140 = .ok (.imul, 1) := dk_104 (dk_at dksX3_digest_5 23 rfl rfl)
theorem dX3_digest_141 : decode cX3_digest 141 = .ok (.iload 4, 2) := dk_21 4 (dk_at dksX3_digest_6 0 rfl rfl)
theorem dX3_digest_143 : decode cX3_digest 143 = .ok (.iadd, 1) := dk_96 (dk_at dksX3_digest_6 2 rfl rfl)
theorem dX3_digest_144 : decode cX3_digest 144 = .ok (.iaload, 1) := dk_46 (dk_at dksX3_digest_6 3 rfl rfl)
theorem dX3_digest_145 : decode cX3_digest 145 = .ok (.i2l, 1) := dk_133 (dk_at dksX3_digest_6 4 rfl rfl)
theorem dX3_digest_146 : decode cX3_digest 146 = .ok (.ladd, 1) := dk_97 (dk_at dksX3_digest_6 5 rfl rfl)
theorem dX3_digest_147 : decode cX3_digest 147 = .ok (.lstore_n 1, 1) := dk_64 (dk_at dksX3_digest_6 6 rfl rfl)
theorem dX3_digest_148 : decode cX3_digest 148 = .ok (.iinc 4 1, 3) := dk_132 4 1 (dk_at dksX3_digest_6 7 rfl rfl)
theorem dX3_digest_151 : decode cX3_digest 151 = .ok (.goto (-40), 3) := dk_167 255 216 (dk_at dksX3_digest_6 10 rfl rfl)
theorem dX3_digest_154 : decode cX3_digest 154 = .ok (.iinc 3 1, 3) := dk_132 3 1 (dk_at dksX3_digest_6 13 rfl rfl)
theorem dX3_digest_157 : decode cX3_digest 157 = .ok (.goto (-88), 3) := dk_167 255 168 (dk_at dksX3_digest_6 16 rfl rfl)
theorem dX3_digest_160 : decode cX3_digest 160 = .ok (.iconst 0, 1) := dk_3 (dk_at dksX3_digest_6 19 rfl rfl)
theorem dX3_digest_161 : decode cX3_digest 161 = .ok (.istore_n 3, 1) := dk_62 (dk_at dksX3_digest_6 20 rfl rfl)
theorem dX3_digest_162 : decode cX3_digest 162 = .ok (.iload_n 3, 1) := dk_29 (dk_at dksX3_digest_6 21 rfl rfl)
theorem dX3_digest_163 : decode cX3_digest 163 = .ok (.aload_n 0, 1) := dk_42 (dk_at dksX3_digest_6 22 rfl rfl)
theorem dX3_digest_164 : decode cX3_digest 164 = .ok (.getfield 45, 3) := dk_180 0 45 (dk_at dksX3_digest_7 0 rfl rfl)
theorem dX3_digest_167 : decode cX3_digest 167 = .ok (.if_icmp .ge 39, 3) := dk_162 0 39 (dk_at dksX3_digest_7 3 rfl rfl)
theorem dX3_digest_170 : decode cX3_digest 170 = .ok (.iconst 0, 1) := dk_3 (dk_at dksX3_digest_7 6 rfl rfl)
theorem dX3_digest_171 : decode cX3_digest 171 = .ok (.istore 4, 2) := dk_54 4 (dk_at dksX3_digest_7 7 rfl rfl)
theorem dX3_digest_173 : decode cX3_digest 173 = .ok (.iload 4, 2) := dk_21 4 (dk_at dksX3_digest_7 9 rfl rfl)
theorem dX3_digest_175 : decode cX3_digest 175 = .ok (.iconst 3, 1) := dk_6 (dk_at dksX3_digest_7 11 rfl rfl)
theorem dX3_digest_176 : decode cX3_digest 176 = .ok (.if_icmp .gt 24, 3) := dk_163 0 24 (dk_at dksX3_digest_7 12 rfl rfl)
theorem dX3_digest_179 : decode cX3_digest 179 = .ok (.lload_n 1, 1) := dk_31 (dk_at dksX3_digest_7 15 rfl rfl)
theorem dX3_digest_180 : decode cX3_digest 180 = .ok (.ldc2_w 143, 3) := dk_20 0 143 (dk_at dksX3_digest_7 16 rfl rfl)
theorem dX3_digest_183 : decode cX3_digest 183 = .ok (.lmul, 1) := dk_105 (dk_at dksX3_digest_7 19 rfl rfl)
theorem dX3_digest_184 : decode cX3_digest 184 = .ok (.aload_n 0, 1) := dk_42 (dk_at dksX3_digest_7 20 rfl rfl)
theorem dX3_digest_185 : decode cX3_digest 185 = .ok (.iload_n 3, 1) := dk_29 (dk_at dksX3_digest_7 21 rfl rfl)
theorem dX3_digest_186 : decode cX3_digest 186 = .ok (.iload 4, 2) := dk_21 4 (dk_at dksX3_digest_7 22 rfl rfl)
theorem dX3_digest_188 : decode cX3_digest 188 = .ok (.invokevirtual 109, 3) := dk_182 0 109 (dk_at dksX3_digest_8 0 rfl rfl)
theorem dX3_digest_191 : decode cX3_digest 191 = .ok (.i2l, 1) := dk_133 (dk_at dksX3_digest_8 3 rfl rfl)
theorem dX3_digest_192 : decode cX3_digest 192 = .ok (.ladd, 1) := dk_97 (dk_at dksX3_digest_8 4 rfl rfl)
theorem dX3_digest_193 : decode cX3_digest 193 = .ok (.lstore_n 1, 1) := dk_64 (dk_at dksX3_digest_8 5 rfl rfl)
theorem dX3_digest_194 : decode cX3_digest 194 = .ok (.iinc 4 1, 3) := dk_132 4 1 (dk_at dksX3_digest_8 6 rfl rfl)
theorem dX3_digest_197 : decode cX3_digest 197 = .ok (.goto (-24), 3) := dk_167 255 232 (dk_at dksX3_digest_8 9 rfl rfl)
theorem dX3_digest_200 : decode cX3_digest 200 = .ok (.iinc 3 1, 3) := dk_132 3 1 (dk_at dksX3_digest_8 12 rfl rfl)
theorem dX3_digest_203 : decode cX3_digest 203 = .ok (.goto (-41), 3) := dk_167 255 215 (dk_at dksX3_digest_8 15 rfl rfl)
theorem dX3_digest_206 : decode cX3_digest 206 = .ok (.lload_n 1, 1) := dk_31 (dk_at dksX3_digest_8 18 rfl rfl)
theorem dX3_digest_207 : decode cX3_digest 207 = .ok (.lreturn, 1) := dk_173 (dk_at dksX3_digest_8 19 rfl rfl)
theorem q42 : (Jvm.Cond.initialized "LaneCrowdsModel") ∈ lw_all := lw_g (lw_at lw_m1 6 rfl) rfl
theorem q505 : (Jvm.Cond.selects "LaneCrowdsModel" ({ cls := "java/lang/Object", name := "getClass", desc := "()Ljava/lang/Class;" } : Jvm.MethodName) ({ cls := "java/lang/Object", name := "getClass", desc := "()Ljava/lang/Class;" } : Jvm.MethodName)) ∈ lw_all := lw_g (lw_at lw_m2 229 rfl) rfl
theorem q750 : (Jvm.Cond.instantiable "LaneCrowdsModel" (9 : Nat)) ∈ lw_all := lw_g (lw_at lw_m3 234 rfl) rfl
theorem q752 : (Jvm.Cond.instanceMethod ({ cls := "LaneCrowdsModel", name := "<init>", desc := "()V" } : Jvm.MethodName)) ∈ lw_all := lw_g (lw_at lw_m3 236 rfl) rfl
theorem q753 : (Jvm.Cond.code ({ cls := "LaneCrowdsModel", name := "<init>", desc := "()V" } : Jvm.MethodName) prog_6_method_1_code (1 : Nat) (Option.none : Option Jvm.ClassFile.FieldType)) ∈ lw_all := lw_g (lw_at lw_m3 237 rfl) rfl
theorem q754 : (Jvm.Cond.methodLink "LaneCrowdsModel" (3 : Nat) ({ cls := "java/lang/Object", name := "<init>", desc := "()V" } : Jvm.MethodName)) ∈ lw_all := lw_g (lw_at lw_m3 238 rfl) rfl
theorem q755 : (Jvm.Cond.classLink "LaneCrowdsModel" (22 : Nat) "LaneCrowdsModel$State") ∈ lw_all := lw_g (lw_at lw_m3 239 rfl) rfl
theorem q757 : (Jvm.Cond.methodLinkNest "LaneCrowdsModel" (24 : Nat) ({ cls := "LaneCrowdsModel$State", name := "<init>", desc := "(LLaneCrowdsModel;)V" } : Jvm.MethodName) "LaneCrowdsModel") ∈ lw_tbl := lw_at lw_m4 1 rfl
theorem q762 : (Jvm.Cond.fieldLinkNest "LaneCrowdsModel" (112 : Nat) "LaneCrowdsModel$State" "step" "I" "LaneCrowdsModel") ∈ lw_tbl := lw_at lw_m4 6 rfl
theorem q764 : (Jvm.Cond.fieldLinkNest "LaneCrowdsModel" (62 : Nat) "LaneCrowdsModel$State" "cells" "[I" "LaneCrowdsModel") ∈ lw_tbl := lw_at lw_m4 8 rfl
theorem q766 : (Jvm.Cond.fieldLinkNest "LaneCrowdsModel" (69 : Nat) "LaneCrowdsModel$State" "at" "[I" "LaneCrowdsModel") ∈ lw_tbl := lw_at lw_m4 10 rfl
theorem q768 : (Jvm.Cond.fieldLinkNest "LaneCrowdsModel" (72 : Nat) "LaneCrowdsModel$State" "people" "[I" "LaneCrowdsModel") ∈ lw_tbl := lw_at lw_m4 12 rfl
theorem q770 : (Jvm.Cond.fieldLinkNest "LaneCrowdsModel" (75 : Nat) "LaneCrowdsModel$State" "torch" "[I" "LaneCrowdsModel") ∈ lw_tbl := lw_at lw_m4 14 rfl
theorem q772 : (Jvm.Cond.fieldLinkNest "LaneCrowdsModel" (81 : Nat) "LaneCrowdsModel$State" "many" "[I" "LaneCrowdsModel") ∈ lw_tbl := lw_at lw_m4 16 rfl
theorem q774 : (Jvm.Cond.fieldLinkNest "LaneCrowdsModel" (84 : Nat) "LaneCrowdsModel$State" "orders" "[I" "LaneCrowdsModel") ∈ lw_tbl := lw_at lw_m4 18 rfl
theorem q776 : (Jvm.Cond.fieldLinkNest "LaneCrowdsModel" (90 : Nat) "LaneCrowdsModel$State" "missed" "[I" "LaneCrowdsModel") ∈ lw_tbl := lw_at lw_m4 20 rfl
theorem q778 : (Jvm.Cond.fieldLinkNest "LaneCrowdsModel" (87 : Nat) "LaneCrowdsModel$State" "post" "[I" "LaneCrowdsModel") ∈ lw_tbl := lw_at lw_m4 22 rfl
theorem q780 : (Jvm.Cond.fieldLinkNest "LaneCrowdsModel" (103 : Nat) "LaneCrowdsModel$State" "next" "[I" "LaneCrowdsModel") ∈ lw_tbl := lw_at lw_m4 24 rfl
theorem q805 : (Jvm.Cond.fieldLink "LaneCrowdsModel" (34 : Nat) "LaneCrowdsModel" "thrown" "I") ∈ lw_all := lw_g (lw_at lw_m4 49 rfl) rfl
theorem q807 : (Jvm.Cond.fieldLink "LaneCrowdsModel" (42 : Nat) "LaneCrowdsModel" "crowds" "I") ∈ lw_all := lw_g (lw_at lw_m4 51 rfl) rfl
theorem q809 : (Jvm.Cond.fieldLink "LaneCrowdsModel" (45 : Nat) "LaneCrowdsModel" "patrols" "I") ∈ lw_all := lw_g (lw_at lw_m4 53 rfl) rfl
theorem q810 : (Jvm.Cond.fieldLink "LaneCrowdsModel" (9 : Nat) "LaneCrowdsModel" "length" "[I") ∈ lw_all := lw_g (lw_at lw_m4 54 rfl) rfl
theorem q812 : (Jvm.Cond.fieldLink "LaneCrowdsModel" (13 : Nat) "LaneCrowdsModel" "round" "[I") ∈ lw_all := lw_g (lw_at lw_m4 56 rfl) rfl
theorem q814 : (Jvm.Cond.fieldLink "LaneCrowdsModel" (16 : Nat) "LaneCrowdsModel" "few" "[I") ∈ lw_all := lw_g (lw_at lw_m4 58 rfl) rfl
theorem q816 : (Jvm.Cond.fieldLink "LaneCrowdsModel" (19 : Nat) "LaneCrowdsModel" "row" "[I") ∈ lw_all := lw_g (lw_at lw_m4 60 rfl) rfl
theorem q817 : (Jvm.Cond.fieldLink "LaneCrowdsModel" (27 : Nat) "LaneCrowdsModel" "s" "LLaneCrowdsModel$State;") ∈ lw_all := lw_g (lw_at lw_m4 61 rfl) rfl
theorem q818 : (Jvm.Cond.fieldLink "LaneCrowdsModel" (31 : Nat) "LaneCrowdsModel" "ahead" "LLaneCrowdsModel$State;") ∈ lw_all := lw_g (lw_at lw_m4 62 rfl) rfl
theorem q819 : (Jvm.Cond.lays "LaneCrowdsModel" "LaneCrowdsModel" "thrown" "I") ∈ lw_all := lw_g (lw_at lw_m4 63 rfl) rfl
theorem q820 : (Jvm.Cond.soleField "LaneCrowdsModel" "thrown") ∈ lw_all := lw_g (lw_at lw_m4 64 rfl) rfl
theorem q821 : (Jvm.Cond.lays "LaneCrowdsModel" "LaneCrowdsModel" "crowds" "I") ∈ lw_all := lw_g (lw_at lw_m4 65 rfl) rfl
theorem q822 : (Jvm.Cond.soleField "LaneCrowdsModel" "crowds") ∈ lw_all := lw_g (lw_at lw_m4 66 rfl) rfl
theorem q823 : (Jvm.Cond.lays "LaneCrowdsModel" "LaneCrowdsModel" "patrols" "I") ∈ lw_all := lw_g (lw_at lw_m4 67 rfl) rfl
theorem q824 : (Jvm.Cond.soleField "LaneCrowdsModel" "patrols") ∈ lw_all := lw_g (lw_at lw_m4 68 rfl) rfl
theorem q825 : (Jvm.Cond.laysFinal "LaneCrowdsModel" "LaneCrowdsModel" "length" "[I") ∈ lw_all := lw_g (lw_at lw_m4 69 rfl) rfl
theorem q826 : (Jvm.Cond.soleField "LaneCrowdsModel" "length") ∈ lw_all := lw_g (lw_at lw_m4 70 rfl) rfl
theorem q827 : (Jvm.Cond.laysFinal "LaneCrowdsModel" "LaneCrowdsModel" "round" "[I") ∈ lw_all := lw_g (lw_at lw_m4 71 rfl) rfl
theorem q828 : (Jvm.Cond.soleField "LaneCrowdsModel" "round") ∈ lw_all := lw_g (lw_at lw_m4 72 rfl) rfl
theorem q829 : (Jvm.Cond.laysFinal "LaneCrowdsModel" "LaneCrowdsModel" "few" "[I") ∈ lw_all := lw_g (lw_at lw_m4 73 rfl) rfl
theorem q830 : (Jvm.Cond.soleField "LaneCrowdsModel" "few") ∈ lw_all := lw_g (lw_at lw_m4 74 rfl) rfl
theorem q831 : (Jvm.Cond.laysFinal "LaneCrowdsModel" "LaneCrowdsModel" "row" "[I") ∈ lw_all := lw_g (lw_at lw_m4 75 rfl) rfl
theorem q832 : (Jvm.Cond.soleField "LaneCrowdsModel" "row") ∈ lw_all := lw_g (lw_at lw_m4 76 rfl) rfl
theorem q833 : (Jvm.Cond.laysFinal "LaneCrowdsModel" "LaneCrowdsModel" "s" "LLaneCrowdsModel$State;") ∈ lw_all := lw_g (lw_at lw_m4 77 rfl) rfl
theorem q834 : (Jvm.Cond.soleField "LaneCrowdsModel" "s") ∈ lw_all := lw_g (lw_at lw_m4 78 rfl) rfl
theorem q835 : (Jvm.Cond.laysFinal "LaneCrowdsModel" "LaneCrowdsModel" "ahead" "LLaneCrowdsModel$State;") ∈ lw_all := lw_g (lw_at lw_m4 79 rfl) rfl
theorem q836 : (Jvm.Cond.soleField "LaneCrowdsModel" "ahead") ∈ lw_all := lw_g (lw_at lw_m4 80 rfl) rfl
theorem q837 : (Jvm.Cond.superclass "LaneCrowdsModel" "java/lang/Object") ∈ lw_all := lw_g (lw_at lw_m4 81 rfl) rfl
theorem q839 : (Jvm.Cond.instanceMethod ({ cls := "LaneCrowdsModel", name := "thrown", desc := "()I" } : Jvm.MethodName)) ∈ lw_all := lw_g (lw_at lw_m4 83 rfl) rfl
theorem q840 : (Jvm.Cond.selects "LaneCrowdsModel" ({ cls := "LaneCrowdsModel", name := "thrown", desc := "()I" } : Jvm.MethodName) ({ cls := "LaneCrowdsModel", name := "thrown", desc := "()I" } : Jvm.MethodName)) ∈ lw_all := lw_g (lw_at lw_m4 84 rfl) rfl
theorem q841 : (Jvm.Cond.code ({ cls := "LaneCrowdsModel", name := "thrown", desc := "()I" } : Jvm.MethodName) prog_6_method_2_code (1 : Nat) (Option.some Jvm.ClassFile.FieldType.int)) ∈ lw_all := lw_g (lw_at lw_m4 85 rfl) rfl
theorem q843 : (Jvm.Cond.instanceMethod ({ cls := "LaneCrowdsModel", name := "house", desc := "(II)Z" } : Jvm.MethodName)) ∈ lw_all := lw_g (lw_at lw_m4 87 rfl) rfl
theorem q844 : (Jvm.Cond.selects "LaneCrowdsModel" ({ cls := "LaneCrowdsModel", name := "house", desc := "(II)Z" } : Jvm.MethodName) ({ cls := "LaneCrowdsModel", name := "house", desc := "(II)Z" } : Jvm.MethodName)) ∈ lw_all := lw_g (lw_at lw_m4 88 rfl) rfl
theorem q845 : (Jvm.Cond.code ({ cls := "LaneCrowdsModel", name := "house", desc := "(II)Z" } : Jvm.MethodName) prog_6_method_9_code (4 : Nat) (Option.some Jvm.ClassFile.FieldType.boolean)) ∈ lw_all := lw_g (lw_at lw_m4 89 rfl) rfl
theorem q846 : (Jvm.Cond.methodLink "LaneCrowdsModel" (54 : Nat) ({ cls := "LaneCrowdsModel", name := "isCell", desc := "(II)Z" } : Jvm.MethodName)) ∈ lw_all := lw_g (lw_at lw_m4 90 rfl) rfl
theorem q847 : (Jvm.Cond.static ({ cls := "LaneCrowdsModel", name := "isCell", desc := "(II)Z" } : Jvm.MethodName)) ∈ lw_all := lw_g (lw_at lw_m4 91 rfl) rfl
theorem q848 : (Jvm.Cond.code ({ cls := "LaneCrowdsModel", name := "isCell", desc := "(II)Z" } : Jvm.MethodName) prog_6_method_5_code (2 : Nat) (Option.some Jvm.ClassFile.FieldType.boolean)) ∈ lw_all := lw_g (lw_at lw_m4 92 rfl) rfl
theorem q849 : (Jvm.Cond.methodLink "LaneCrowdsModel" (38 : Nat) ({ cls := "LaneCrowdsModel", name := "isIn", desc := "(III)Z" } : Jvm.MethodName)) ∈ lw_all := lw_g (lw_at lw_m4 93 rfl) rfl
theorem q850 : (Jvm.Cond.static ({ cls := "LaneCrowdsModel", name := "isIn", desc := "(III)Z" } : Jvm.MethodName)) ∈ lw_all := lw_g (lw_at lw_m4 94 rfl) rfl
theorem q851 : (Jvm.Cond.code ({ cls := "LaneCrowdsModel", name := "isIn", desc := "(III)Z" } : Jvm.MethodName) prog_6_method_4_code (3 : Nat) (Option.some Jvm.ClassFile.FieldType.boolean)) ∈ lw_all := lw_g (lw_at lw_m4 95 rfl) rfl
theorem q852 : (Jvm.Cond.methodLink "LaneCrowdsModel" (58 : Nat) ({ cls := "LaneCrowdsModel", name := "no", desc := "(I)I" } : Jvm.MethodName)) ∈ lw_all := lw_g (lw_at lw_m4 96 rfl) rfl
theorem q853 : (Jvm.Cond.privateMethod ({ cls := "LaneCrowdsModel", name := "no", desc := "(I)I" } : Jvm.MethodName)) ∈ lw_tbl := lw_at lw_m4 97 rfl
theorem q854 : (Jvm.Cond.instanceMethod ({ cls := "LaneCrowdsModel", name := "no", desc := "(I)I" } : Jvm.MethodName)) ∈ lw_all := lw_g (lw_at lw_m4 98 rfl) rfl
theorem q855 : (Jvm.Cond.code ({ cls := "LaneCrowdsModel", name := "no", desc := "(I)I" } : Jvm.MethodName) prog_6_method_3_code (2 : Nat) (Option.some Jvm.ClassFile.FieldType.int)) ∈ lw_all := lw_g (lw_at lw_m4 99 rfl) rfl
theorem q856 : (Jvm.Cond.methodLink "LaneCrowdsModel" (65 : Nat) ({ cls := "LaneCrowdsModel$State", name := "isBusy", desc := "(I)Z" } : Jvm.MethodName)) ∈ lw_all := lw_g (lw_at lw_m4 100 rfl) rfl
theorem q861 : (Jvm.Cond.instanceMethod ({ cls := "LaneCrowdsModel", name := "block", desc := "(III)I" } : Jvm.MethodName)) ∈ lw_all := lw_g (lw_at lw_m4 105 rfl) rfl
theorem q862 : (Jvm.Cond.selects "LaneCrowdsModel" ({ cls := "LaneCrowdsModel", name := "block", desc := "(III)I" } : Jvm.MethodName) ({ cls := "LaneCrowdsModel", name := "block", desc := "(III)I" } : Jvm.MethodName)) ∈ lw_all := lw_g (lw_at lw_m4 106 rfl) rfl
theorem q863 : (Jvm.Cond.code ({ cls := "LaneCrowdsModel", name := "block", desc := "(III)I" } : Jvm.MethodName) prog_6_method_10_code (6 : Nat) (Option.some Jvm.ClassFile.FieldType.int)) ∈ lw_all := lw_g (lw_at lw_m4 107 rfl) rfl
theorem q865 : (Jvm.Cond.instanceMethod ({ cls := "LaneCrowdsModel", name := "cell", desc := "(II)I" } : Jvm.MethodName)) ∈ lw_all := lw_g (lw_at lw_m4 109 rfl) rfl
theorem q866 : (Jvm.Cond.selects "LaneCrowdsModel" ({ cls := "LaneCrowdsModel", name := "cell", desc := "(II)I" } : Jvm.MethodName) ({ cls := "LaneCrowdsModel", name := "cell", desc := "(II)I" } : Jvm.MethodName)) ∈ lw_all := lw_g (lw_at lw_m4 110 rfl) rfl
theorem q867 : (Jvm.Cond.code ({ cls := "LaneCrowdsModel", name := "cell", desc := "(II)I" } : Jvm.MethodName) prog_6_method_11_code (3 : Nat) (Option.some Jvm.ClassFile.FieldType.int)) ∈ lw_all := lw_g (lw_at lw_m4 111 rfl) rfl
theorem q869 : (Jvm.Cond.instanceMethod ({ cls := "LaneCrowdsModel", name := "gather", desc := "(III)I" } : Jvm.MethodName)) ∈ lw_all := lw_g (lw_at lw_m4 113 rfl) rfl
theorem q870 : (Jvm.Cond.selects "LaneCrowdsModel" ({ cls := "LaneCrowdsModel", name := "gather", desc := "(III)I" } : Jvm.MethodName) ({ cls := "LaneCrowdsModel", name := "gather", desc := "(III)I" } : Jvm.MethodName)) ∈ lw_all := lw_g (lw_at lw_m4 114 rfl) rfl
theorem q871 : (Jvm.Cond.code ({ cls := "LaneCrowdsModel", name := "gather", desc := "(III)I" } : Jvm.MethodName) prog_6_method_12_code (4 : Nat) (Option.some Jvm.ClassFile.FieldType.int)) ∈ lw_all := lw_g (lw_at lw_m4 115 rfl) rfl
theorem q873 : (Jvm.Cond.instanceMethod ({ cls := "LaneCrowdsModel", name := "order", desc := "(II)I" } : Jvm.MethodName)) ∈ lw_all := lw_g (lw_at lw_m4 117 rfl) rfl
theorem q874 : (Jvm.Cond.selects "LaneCrowdsModel" ({ cls := "LaneCrowdsModel", name := "order", desc := "(II)I" } : Jvm.MethodName) ({ cls := "LaneCrowdsModel", name := "order", desc := "(II)I" } : Jvm.MethodName)) ∈ lw_all := lw_g (lw_at lw_m4 118 rfl) rfl
theorem q875 : (Jvm.Cond.code ({ cls := "LaneCrowdsModel", name := "order", desc := "(II)I" } : Jvm.MethodName) prog_6_method_13_code (3 : Nat) (Option.some Jvm.ClassFile.FieldType.int)) ∈ lw_all := lw_g (lw_at lw_m4 119 rfl) rfl
theorem q876 : (Jvm.Cond.methodLink "LaneCrowdsModel" (78 : Nat) ({ cls := "LaneCrowdsModel", name := "isCrowd", desc := "(I)Z" } : Jvm.MethodName)) ∈ lw_all := lw_g (lw_at lw_m4 120 rfl) rfl
theorem q877 : (Jvm.Cond.privateMethod ({ cls := "LaneCrowdsModel", name := "isCrowd", desc := "(I)Z" } : Jvm.MethodName)) ∈ lw_tbl := lw_at lw_m4 121 rfl
theorem q878 : (Jvm.Cond.instanceMethod ({ cls := "LaneCrowdsModel", name := "isCrowd", desc := "(I)Z" } : Jvm.MethodName)) ∈ lw_all := lw_g (lw_at lw_m4 122 rfl) rfl
theorem q879 : (Jvm.Cond.code ({ cls := "LaneCrowdsModel", name := "isCrowd", desc := "(I)Z" } : Jvm.MethodName) prog_6_method_6_code (2 : Nat) (Option.some Jvm.ClassFile.FieldType.boolean)) ∈ lw_all := lw_g (lw_at lw_m4 123 rfl) rfl
theorem q881 : (Jvm.Cond.instanceMethod ({ cls := "LaneCrowdsModel", name := "torch", desc := "(I)Z" } : Jvm.MethodName)) ∈ lw_all := lw_g (lw_at lw_m4 125 rfl) rfl
theorem q882 : (Jvm.Cond.selects "LaneCrowdsModel" ({ cls := "LaneCrowdsModel", name := "torch", desc := "(I)Z" } : Jvm.MethodName) ({ cls := "LaneCrowdsModel", name := "torch", desc := "(I)Z" } : Jvm.MethodName)) ∈ lw_all := lw_g (lw_at lw_m4 126 rfl) rfl
theorem q883 : (Jvm.Cond.code ({ cls := "LaneCrowdsModel", name := "torch", desc := "(I)Z" } : Jvm.MethodName) prog_6_method_14_code (2 : Nat) (Option.some Jvm.ClassFile.FieldType.boolean)) ∈ lw_all := lw_g (lw_at lw_m4 127 rfl) rfl
theorem q885 : (Jvm.Cond.instanceMethod ({ cls := "LaneCrowdsModel", name := "patrol", desc := "(IIII)I" } : Jvm.MethodName)) ∈ lw_all := lw_g (lw_at lw_m4 129 rfl) rfl
theorem q886 : (Jvm.Cond.selects "LaneCrowdsModel" ({ cls := "LaneCrowdsModel", name := "patrol", desc := "(IIII)I" } : Jvm.MethodName) ({ cls := "LaneCrowdsModel", name := "patrol", desc := "(IIII)I" } : Jvm.MethodName)) ∈ lw_all := lw_g (lw_at lw_m4 130 rfl) rfl
theorem q887 : (Jvm.Cond.code ({ cls := "LaneCrowdsModel", name := "patrol", desc := "(IIII)I" } : Jvm.MethodName) prog_6_method_15_code (6 : Nat) (Option.some Jvm.ClassFile.FieldType.int)) ∈ lw_all := lw_g (lw_at lw_m4 131 rfl) rfl
theorem q889 : (Jvm.Cond.instanceMethod ({ cls := "LaneCrowdsModel", name := "crowd", desc := "(II)I" } : Jvm.MethodName)) ∈ lw_all := lw_g (lw_at lw_m4 133 rfl) rfl
theorem q890 : (Jvm.Cond.selects "LaneCrowdsModel" ({ cls := "LaneCrowdsModel", name := "crowd", desc := "(II)I" } : Jvm.MethodName) ({ cls := "LaneCrowdsModel", name := "crowd", desc := "(II)I" } : Jvm.MethodName)) ∈ lw_all := lw_g (lw_at lw_m4 134 rfl) rfl
theorem q891 : (Jvm.Cond.code ({ cls := "LaneCrowdsModel", name := "crowd", desc := "(II)I" } : Jvm.MethodName) prog_6_method_17_code (3 : Nat) (Option.some Jvm.ClassFile.FieldType.int)) ∈ lw_all := lw_g (lw_at lw_m4 135 rfl) rfl
theorem q892 : (Jvm.Cond.methodLink "LaneCrowdsModel" (96 : Nat) ({ cls := "LaneCrowdsModel", name := "crowdTold", desc := "(II)I" } : Jvm.MethodName)) ∈ lw_all := lw_g (lw_at lw_m4 136 rfl) rfl
theorem q893 : (Jvm.Cond.privateMethod ({ cls := "LaneCrowdsModel", name := "crowdTold", desc := "(II)I" } : Jvm.MethodName)) ∈ lw_tbl := lw_at lw_m4 137 rfl
theorem q894 : (Jvm.Cond.instanceMethod ({ cls := "LaneCrowdsModel", name := "crowdTold", desc := "(II)I" } : Jvm.MethodName)) ∈ lw_all := lw_g (lw_at lw_m4 138 rfl) rfl
theorem q895 : (Jvm.Cond.code ({ cls := "LaneCrowdsModel", name := "crowdTold", desc := "(II)I" } : Jvm.MethodName) prog_6_method_16_code (3 : Nat) (Option.some Jvm.ClassFile.FieldType.int)) ∈ lw_all := lw_g (lw_at lw_m4 139 rfl) rfl
theorem q896 : (Jvm.Cond.methodLink "LaneCrowdsModel" (93 : Nat) ({ cls := "LaneCrowdsModel$State", name := "seenBy", desc := "(I)I" } : Jvm.MethodName)) ∈ lw_all := lw_g (lw_at lw_m4 140 rfl) rfl
theorem q907 : (Jvm.Cond.instanceMethod ({ cls := "LaneCrowdsModel", name := "guard", desc := "(II)I" } : Jvm.MethodName)) ∈ lw_all := lw_g (lw_at lw_m4 151 rfl) rfl
theorem q908 : (Jvm.Cond.selects "LaneCrowdsModel" ({ cls := "LaneCrowdsModel", name := "guard", desc := "(II)I" } : Jvm.MethodName) ({ cls := "LaneCrowdsModel", name := "guard", desc := "(II)I" } : Jvm.MethodName)) ∈ lw_all := lw_g (lw_at lw_m4 152 rfl) rfl
theorem q909 : (Jvm.Cond.code ({ cls := "LaneCrowdsModel", name := "guard", desc := "(II)I" } : Jvm.MethodName) prog_6_method_19_code (3 : Nat) (Option.some Jvm.ClassFile.FieldType.int)) ∈ lw_all := lw_g (lw_at lw_m4 153 rfl) rfl
theorem q910 : (Jvm.Cond.methodLink "LaneCrowdsModel" (106 : Nat) ({ cls := "LaneCrowdsModel", name := "isPatrol", desc := "(I)Z" } : Jvm.MethodName)) ∈ lw_all := lw_g (lw_at lw_m4 154 rfl) rfl
theorem q911 : (Jvm.Cond.privateMethod ({ cls := "LaneCrowdsModel", name := "isPatrol", desc := "(I)Z" } : Jvm.MethodName)) ∈ lw_tbl := lw_at lw_m4 155 rfl
theorem q912 : (Jvm.Cond.instanceMethod ({ cls := "LaneCrowdsModel", name := "isPatrol", desc := "(I)Z" } : Jvm.MethodName)) ∈ lw_all := lw_g (lw_at lw_m4 156 rfl) rfl
theorem q913 : (Jvm.Cond.code ({ cls := "LaneCrowdsModel", name := "isPatrol", desc := "(I)Z" } : Jvm.MethodName) prog_6_method_7_code (2 : Nat) (Option.some Jvm.ClassFile.FieldType.boolean)) ∈ lw_all := lw_g (lw_at lw_m4 157 rfl) rfl
theorem q914 : (Jvm.Cond.methodLink "LaneCrowdsModel" (109 : Nat) ({ cls := "LaneCrowdsModel", name := "guardTold", desc := "(II)I" } : Jvm.MethodName)) ∈ lw_all := lw_g (lw_at lw_m4 158 rfl) rfl
theorem q915 : (Jvm.Cond.privateMethod ({ cls := "LaneCrowdsModel", name := "guardTold", desc := "(II)I" } : Jvm.MethodName)) ∈ lw_tbl := lw_at lw_m4 159 rfl
theorem q916 : (Jvm.Cond.instanceMethod ({ cls := "LaneCrowdsModel", name := "guardTold", desc := "(II)I" } : Jvm.MethodName)) ∈ lw_all := lw_g (lw_at lw_m4 160 rfl) rfl
theorem q917 : (Jvm.Cond.code ({ cls := "LaneCrowdsModel", name := "guardTold", desc := "(II)I" } : Jvm.MethodName) prog_6_method_18_code (5 : Nat) (Option.some Jvm.ClassFile.FieldType.int)) ∈ lw_all := lw_g (lw_at lw_m4 161 rfl) rfl
theorem q918 : (Jvm.Cond.methodLink "LaneCrowdsModel" (100 : Nat) ({ cls := "LaneCrowdsModel$State", name := "sees", desc := "(II)Z" } : Jvm.MethodName)) ∈ lw_all := lw_g (lw_at lw_m4 162 rfl) rfl
theorem q920 : (Jvm.Cond.instanceMethod ({ cls := "LaneCrowdsModel", name := "sees", desc := "(II)Z" } : Jvm.MethodName)) ∈ lw_all := lw_g (lw_at lw_m4 164 rfl) rfl
theorem q921 : (Jvm.Cond.selects "LaneCrowdsModel" ({ cls := "LaneCrowdsModel", name := "sees", desc := "(II)Z" } : Jvm.MethodName) ({ cls := "LaneCrowdsModel", name := "sees", desc := "(II)Z" } : Jvm.MethodName)) ∈ lw_all := lw_g (lw_at lw_m4 165 rfl) rfl
theorem q922 : (Jvm.Cond.code ({ cls := "LaneCrowdsModel", name := "sees", desc := "(II)Z" } : Jvm.MethodName) prog_6_method_20_code (3 : Nat) (Option.some Jvm.ClassFile.FieldType.boolean)) ∈ lw_all := lw_g (lw_at lw_m4 166 rfl) rfl
theorem q924 : (Jvm.Cond.instanceMethod ({ cls := "LaneCrowdsModel", name := "count", desc := "(I)I" } : Jvm.MethodName)) ∈ lw_all := lw_g (lw_at lw_m4 168 rfl) rfl
theorem q925 : (Jvm.Cond.selects "LaneCrowdsModel" ({ cls := "LaneCrowdsModel", name := "count", desc := "(I)I" } : Jvm.MethodName) ({ cls := "LaneCrowdsModel", name := "count", desc := "(I)I" } : Jvm.MethodName)) ∈ lw_all := lw_g (lw_at lw_m4 169 rfl) rfl
theorem q926 : (Jvm.Cond.code ({ cls := "LaneCrowdsModel", name := "count", desc := "(I)I" } : Jvm.MethodName) prog_6_method_23_code (2 : Nat) (Option.some Jvm.ClassFile.FieldType.int)) ∈ lw_all := lw_g (lw_at lw_m4 170 rfl) rfl
theorem q927 : (Jvm.Cond.methodLink "LaneCrowdsModel" (125 : Nat) ({ cls := "LaneCrowdsModel", name := "counted", desc := "(I)I" } : Jvm.MethodName)) ∈ lw_all := lw_g (lw_at lw_m4 171 rfl) rfl
theorem q928 : (Jvm.Cond.privateMethod ({ cls := "LaneCrowdsModel", name := "counted", desc := "(I)I" } : Jvm.MethodName)) ∈ lw_tbl := lw_at lw_m4 172 rfl
theorem q929 : (Jvm.Cond.instanceMethod ({ cls := "LaneCrowdsModel", name := "counted", desc := "(I)I" } : Jvm.MethodName)) ∈ lw_all := lw_g (lw_at lw_m4 173 rfl) rfl
theorem q930 : (Jvm.Cond.code ({ cls := "LaneCrowdsModel", name := "counted", desc := "(I)I" } : Jvm.MethodName) prog_6_method_22_code (9 : Nat) (Option.some Jvm.ClassFile.FieldType.int)) ∈ lw_all := lw_g (lw_at lw_m4 174 rfl) rfl
theorem q931 : (Jvm.Cond.methodLink "LaneCrowdsModel" (115 : Nat) ({ cls := "LaneCrowdsModel$State", name := "barricades", desc := "()I" } : Jvm.MethodName)) ∈ lw_all := lw_g (lw_at lw_m4 175 rfl) rfl
theorem q936 : (Jvm.Cond.methodLink "LaneCrowdsModel" (119 : Nat) ({ cls := "LaneCrowdsModel", name := "left", desc := "()I" } : Jvm.MethodName)) ∈ lw_all := lw_g (lw_at lw_m4 180 rfl) rfl
theorem q937 : (Jvm.Cond.privateMethod ({ cls := "LaneCrowdsModel", name := "left", desc := "()I" } : Jvm.MethodName)) ∈ lw_tbl := lw_at lw_m4 181 rfl
theorem q938 : (Jvm.Cond.instanceMethod ({ cls := "LaneCrowdsModel", name := "left", desc := "()I" } : Jvm.MethodName)) ∈ lw_all := lw_g (lw_at lw_m4 182 rfl) rfl
theorem q939 : (Jvm.Cond.code ({ cls := "LaneCrowdsModel", name := "left", desc := "()I" } : Jvm.MethodName) prog_6_method_21_code (3 : Nat) (Option.some Jvm.ClassFile.FieldType.int)) ∈ lw_all := lw_g (lw_at lw_m4 183 rfl) rfl
theorem q940 : (Jvm.Cond.methodLink "LaneCrowdsModel" (122 : Nat) ({ cls := "LaneCrowdsModel$State", name := "allPeople", desc := "()I" } : Jvm.MethodName)) ∈ lw_all := lw_g (lw_at lw_m4 184 rfl) rfl
theorem q945 : (Jvm.Cond.instanceMethod ({ cls := "LaneCrowdsModel", name := "way", desc := "(IIII)I" } : Jvm.MethodName)) ∈ lw_all := lw_g (lw_at lw_m4 189 rfl) rfl
theorem q946 : (Jvm.Cond.selects "LaneCrowdsModel" ({ cls := "LaneCrowdsModel", name := "way", desc := "(IIII)I" } : Jvm.MethodName) ({ cls := "LaneCrowdsModel", name := "way", desc := "(IIII)I" } : Jvm.MethodName)) ∈ lw_all := lw_g (lw_at lw_m4 190 rfl) rfl
theorem q947 : (Jvm.Cond.code ({ cls := "LaneCrowdsModel", name := "way", desc := "(IIII)I" } : Jvm.MethodName) prog_6_method_24_code (10 : Nat) (Option.some Jvm.ClassFile.FieldType.int)) ∈ lw_all := lw_g (lw_at lw_m4 191 rfl) rfl
theorem q948 : (Jvm.Cond.methodLink "LaneCrowdsModel" (128 : Nat) ({ cls := "LaneCrowdsModel", name := "beside", desc := "(II)I" } : Jvm.MethodName)) ∈ lw_all := lw_g (lw_at lw_m4 192 rfl) rfl
theorem q949 : (Jvm.Cond.static ({ cls := "LaneCrowdsModel", name := "beside", desc := "(II)I" } : Jvm.MethodName)) ∈ lw_all := lw_g (lw_at lw_m4 193 rfl) rfl
theorem q950 : (Jvm.Cond.code ({ cls := "LaneCrowdsModel", name := "beside", desc := "(II)I" } : Jvm.MethodName) prog_6_method_8_code (4 : Nat) (Option.some Jvm.ClassFile.FieldType.int)) ∈ lw_all := lw_g (lw_at lw_m4 194 rfl) rfl
theorem q951 : (Jvm.Cond.fieldLink "LaneCrowdsModel" (48 : Nat) "LaneCrowdsModel" "BY_X" "[I") ∈ lw_all := lw_g (lw_at lw_m4 195 rfl) rfl
theorem q952 : (Jvm.Cond.laysStatic "LaneCrowdsModel" "BY_X" "[I") ∈ lw_tbl := lw_at lw_m4 196 rfl
theorem q953 : (Jvm.Cond.fieldLink "LaneCrowdsModel" (51 : Nat) "LaneCrowdsModel" "BY_Y" "[I") ∈ lw_all := lw_g (lw_at lw_m4 197 rfl) rfl
theorem q954 : (Jvm.Cond.laysStatic "LaneCrowdsModel" "BY_Y" "[I") ∈ lw_tbl := lw_at lw_m4 198 rfl
theorem q956 : (Jvm.Cond.instanceMethod ({ cls := "LaneCrowdsModel", name := "shuts", desc := "()I" } : Jvm.MethodName)) ∈ lw_all := lw_g (lw_at lw_m4 200 rfl) rfl
theorem q957 : (Jvm.Cond.selects "LaneCrowdsModel" ({ cls := "LaneCrowdsModel", name := "shuts", desc := "()I" } : Jvm.MethodName) ({ cls := "LaneCrowdsModel", name := "shuts", desc := "()I" } : Jvm.MethodName)) ∈ lw_all := lw_g (lw_at lw_m4 201 rfl) rfl
theorem q958 : (Jvm.Cond.code ({ cls := "LaneCrowdsModel", name := "shuts", desc := "()I" } : Jvm.MethodName) prog_6_method_25_code (1 : Nat) (Option.some Jvm.ClassFile.FieldType.int)) ∈ lw_all := lw_g (lw_at lw_m4 202 rfl) rfl
theorem q959 : (Jvm.Cond.methodLink "LaneCrowdsModel" (131 : Nat) ({ cls := "LaneCrowdsModel$State", name := "shuts", desc := "()I" } : Jvm.MethodName)) ∈ lw_all := lw_g (lw_at lw_m4 203 rfl) rfl
theorem q973 : (Jvm.Cond.instanceMethod ({ cls := "LaneCrowdsModel", name := "pass", desc := "(I)I" } : Jvm.MethodName)) ∈ lw_all := lw_g (lw_at lw_m4 217 rfl) rfl
theorem q974 : (Jvm.Cond.selects "LaneCrowdsModel" ({ cls := "LaneCrowdsModel", name := "pass", desc := "(I)I" } : Jvm.MethodName) ({ cls := "LaneCrowdsModel", name := "pass", desc := "(I)I" } : Jvm.MethodName)) ∈ lw_all := lw_g (lw_at lw_m4 218 rfl) rfl
theorem q975 : (Jvm.Cond.code ({ cls := "LaneCrowdsModel", name := "pass", desc := "(I)I" } : Jvm.MethodName) prog_6_method_26_code (4 : Nat) (Option.some Jvm.ClassFile.FieldType.int)) ∈ lw_all := lw_g (lw_at lw_m4 219 rfl) rfl
theorem q976 : (Jvm.Cond.methodLink "LaneCrowdsModel" (134 : Nat) ({ cls := "LaneCrowdsModel$State", name := "pass", desc := "()V" } : Jvm.MethodName)) ∈ lw_all := lw_g (lw_at lw_m4 220 rfl) rfl
theorem q1013 : (Jvm.Cond.instanceMethod ({ cls := "LaneCrowdsModel", name := "foresee", desc := "(II)I" } : Jvm.MethodName)) ∈ lw_all := lw_g (lw_at lw_m5 17 rfl) rfl
theorem q1014 : (Jvm.Cond.selects "LaneCrowdsModel" ({ cls := "LaneCrowdsModel", name := "foresee", desc := "(II)I" } : Jvm.MethodName) ({ cls := "LaneCrowdsModel", name := "foresee", desc := "(II)I" } : Jvm.MethodName)) ∈ lw_all := lw_g (lw_at lw_m5 18 rfl) rfl
theorem q1015 : (Jvm.Cond.code ({ cls := "LaneCrowdsModel", name := "foresee", desc := "(II)I" } : Jvm.MethodName) prog_6_method_27_code (4 : Nat) (Option.some Jvm.ClassFile.FieldType.int)) ∈ lw_all := lw_g (lw_at lw_m5 19 rfl) rfl
theorem q1016 : (Jvm.Cond.methodLink "LaneCrowdsModel" (137 : Nat) ({ cls := "LaneCrowdsModel$State", name := "become", desc := "(LLaneCrowdsModel$State;)V" } : Jvm.MethodName)) ∈ lw_all := lw_g (lw_at lw_m5 20 rfl) rfl
theorem q1025 : (Jvm.Cond.instanceMethod ({ cls := "LaneCrowdsModel", name := "advise", desc := "(I)I" } : Jvm.MethodName)) ∈ lw_all := lw_g (lw_at lw_m5 29 rfl) rfl
theorem q1026 : (Jvm.Cond.selects "LaneCrowdsModel" ({ cls := "LaneCrowdsModel", name := "advise", desc := "(I)I" } : Jvm.MethodName) ({ cls := "LaneCrowdsModel", name := "advise", desc := "(I)I" } : Jvm.MethodName)) ∈ lw_all := lw_g (lw_at lw_m5 30 rfl) rfl
theorem q1027 : (Jvm.Cond.code ({ cls := "LaneCrowdsModel", name := "advise", desc := "(I)I" } : Jvm.MethodName) prog_6_method_28_code (6 : Nat) (Option.some Jvm.ClassFile.FieldType.int)) ∈ lw_all := lw_g (lw_at lw_m5 31 rfl) rfl
theorem q1029 : (Jvm.Cond.instanceMethod ({ cls := "LaneCrowdsModel", name := "mean", desc := "()D" } : Jvm.MethodName)) ∈ lw_all := lw_g (lw_at lw_m5 33 rfl) rfl
theorem q1030 : (Jvm.Cond.selects "LaneCrowdsModel" ({ cls := "LaneCrowdsModel", name := "mean", desc := "()D" } : Jvm.MethodName) ({ cls := "LaneCrowdsModel", name := "mean", desc := "()D" } : Jvm.MethodName)) ∈ lw_all := lw_g (lw_at lw_m5 34 rfl) rfl
theorem q1031 : (Jvm.Cond.code ({ cls := "LaneCrowdsModel", name := "mean", desc := "()D" } : Jvm.MethodName) prog_6_method_29_code (1 : Nat) (Option.some Jvm.ClassFile.FieldType.double)) ∈ lw_all := lw_g (lw_at lw_m5 35 rfl) rfl
theorem q1033 : (Jvm.Cond.instanceMethod ({ cls := "LaneCrowdsModel", name := "digest", desc := "()J" } : Jvm.MethodName)) ∈ lw_all := lw_g (lw_at lw_m5 37 rfl) rfl
theorem q1034 : (Jvm.Cond.selects "LaneCrowdsModel" ({ cls := "LaneCrowdsModel", name := "digest", desc := "()J" } : Jvm.MethodName) ({ cls := "LaneCrowdsModel", name := "digest", desc := "()J" } : Jvm.MethodName)) ∈ lw_all := lw_g (lw_at lw_m5 38 rfl) rfl
theorem q1035 : (Jvm.Cond.code ({ cls := "LaneCrowdsModel", name := "digest", desc := "()J" } : Jvm.MethodName) prog_6_method_30_code (5 : Nat) (Option.some Jvm.ClassFile.FieldType.long)) ∈ lw_all := lw_g (lw_at lw_m5 39 rfl) rfl
theorem q1036 : (Jvm.Cond.constantLong "LaneCrowdsModel" (141 : Nat) (997 : Int64)) ∈ lw_all := lw_g (lw_at lw_m5 40 rfl) rfl
theorem q1037 : (Jvm.Cond.constantLong "LaneCrowdsModel" (143 : Nat) (31 : Int64)) ∈ lw_all := lw_g (lw_at lw_m5 41 rfl) rfl
theorem q1045 : (Jvm.Cond.castable "LaneCrowdsModel" "java/lang/Object") ∈ lw_tbl := lw_at lw_m5 49 rfl
theorem in_X3 : ∀ w ∈ wsX30, w ∈ lw_all := lw_in wsX30 [819, 821, 823, 825, 827, 829, 831, 833, 835] (by decide +kernel) (by decide +kernel)
