/-! LaneCrowds -/
set_option maxRecDepth 100000
def RX1 : String := "LaneCrowds"
def TX1 : u_T := fun k => match k with
  | _ => ("LaneCrowds", "quarter", "LLaneCrowds$Quarter;", true)
def tyX1 : Nat → FieldType := fun k => match k with
  | _ => .object "LaneCrowds$Quarter"
abbrev wsX10 : List Cond := u_ws RX1 TX1 1
theorem nmX1 : ∀ a, a < 1 → ∀ b, b < 1 → a ≠ b → (TX1 a).2.1 ≠ (TX1 b).2.1 := by decide +kernel
theorem tyX1_ok : ∀ k, k < 1 → parseFieldDescriptor (TX1 k).2.2.1 = some (tyX1 k) := by decide +kernel
abbrev cX1_init : ByteArray := prog_1_method_8_code
def yX1_init : MethodName := ⟨RX1, "<init>", "()V"⟩
def dkwX1_init_0 : List UInt8 := [42, 183, 0, 33, 42, 187, 0, 36, 89, 183, 0, 38, 181, 0, 39, 177]
abbrev dktX1_init_0 : List UInt8 := dkwX1_init_0 ++ []
theorem dksX1_init_0 : cX1_init.data.toList.drop 0 = dktX1_init_0 := by decide +kernel
theorem dX1_init_0 : decode cX1_init 0 = .ok (.aload_n 0, 1) := dk_42 (dk_at dksX1_init_0 0 rfl rfl)
theorem dX1_init_1 : decode cX1_init 1 = .ok (.invokespecial 33, 3) := dk_183 0 33 (dk_at dksX1_init_0 1 rfl rfl)
theorem dX1_init_4 : decode cX1_init 4 = .ok (.aload_n 0, 1) := dk_42 (dk_at dksX1_init_0 4 rfl rfl)
theorem dX1_init_5 : decode cX1_init 5 = .ok (.new 36, 3) := dk_187 0 36 (dk_at dksX1_init_0 5 rfl rfl)
theorem dX1_init_8 : decode cX1_init 8 = .ok (.dup, 1) := dk_89 (dk_at dksX1_init_0 8 rfl rfl)
theorem dX1_init_9 : decode cX1_init 9 = .ok (.invokespecial 38, 3) := dk_183 0 38 (dk_at dksX1_init_0 9 rfl rfl)
theorem dX1_init_12 : decode cX1_init 12 = .ok (.putfield 39, 3) := dk_181 0 39 (dk_at dksX1_init_0 12 rfl rfl)
theorem dX1_init_15 : decode cX1_init 15 = .ok (.return_, 1) := dk_177 (dk_at dksX1_init_0 15 rfl rfl)
abbrev cX1_shuts : ByteArray := prog_1_method_26_code
def yX1_shuts : MethodName := ⟨RX1, "shuts", "()I"⟩
def dkwX1_shuts_0 : List UInt8 := [42, 180, 0, 39, 182, 0, 176, 172]
abbrev dktX1_shuts_0 : List UInt8 := dkwX1_shuts_0 ++ []
theorem dksX1_shuts_0 : cX1_shuts.data.toList.drop 0 = dktX1_shuts_0 := by decide +kernel
theorem dX1_shuts_0 : decode cX1_shuts 0 = .ok (.aload_n 0, 1) := dk_42 (dk_at dksX1_shuts_0 0 rfl rfl)
theorem dX1_shuts_1 : decode cX1_shuts 1 = .ok (.getfield 39, 3) := dk_180 0 39 (dk_at dksX1_shuts_0 1 rfl rfl)
theorem dX1_shuts_4 : decode cX1_shuts 4 = .ok (.invokevirtual 176, 3) := dk_182 0 176 (dk_at dksX1_shuts_0 4 rfl rfl)
theorem dX1_shuts_7 : decode cX1_shuts 7 = .ok (.ireturn, 1) := dk_172 (dk_at dksX1_shuts_0 7 rfl rfl)
abbrev cX1_mean : ByteArray := prog_1_method_32_code
def yX1_mean : MethodName := ⟨RX1, "mean", "()D"⟩
def dkwX1_mean_1 : List UInt8 := [180, 0, 39, 182, 0, 163, 135, 111, 175]
abbrev dktX1_mean_1 : List UInt8 := dkwX1_mean_1 ++ []
def dkwX1_mean_0 : List UInt8 := [42, 180, 0, 39, 182, 0, 163, 154, 0, 7, 14, 167, 0, 20, 42, 180, 0, 39, 182, 0, 166, 135, 42]
abbrev dktX1_mean_0 : List UInt8 := dkwX1_mean_0 ++ dktX1_mean_1
theorem dksX1_mean_0 : cX1_mean.data.toList.drop 0 = dktX1_mean_0 := by decide +kernel
theorem dksX1_mean_1 : cX1_mean.data.toList.drop 23 = dktX1_mean_1 := dk_seg dksX1_mean_0 23 rfl rfl
theorem dX1_mean_0 : decode cX1_mean 0 = .ok (.aload_n 0, 1) := dk_42 (dk_at dksX1_mean_0 0 rfl rfl)
theorem dX1_mean_1 : decode cX1_mean 1 = .ok (.getfield 39, 3) := dk_180 0 39 (dk_at dksX1_mean_0 1 rfl rfl)
theorem dX1_mean_4 : decode cX1_mean 4 = .ok (.invokevirtual 163, 3) := dk_182 0 163 (dk_at dksX1_mean_0 4 rfl rfl)
theorem dX1_mean_7 : decode cX1_mean 7 = .ok (.ifCond .ne 7, 3) := dk_154 0 7 (dk_at dksX1_mean_0 7 rfl rfl)
theorem dX1_mean_10 : decode cX1_mean 10 = .ok (.dconst 0, 1) := dk_14 (dk_at dksX1_mean_0 10 rfl rfl)
theorem dX1_mean_11 : decode cX1_mean 11 = .ok (.goto 20, 3) := dk_167 0 20 (dk_at dksX1_mean_0 11 rfl rfl)
theorem dX1_mean_14 : decode cX1_mean 14 = .ok (.aload_n 0, 1) := dk_42 (dk_at dksX1_mean_0 14 rfl rfl)
theorem dX1_mean_15 : decode cX1_mean 15 = .ok (.getfield 39, 3) := dk_180 0 39 (dk_at dksX1_mean_0 15 rfl rfl)
theorem dX1_mean_18 : decode cX1_mean 18 = .ok (.invokevirtual 166, 3) := dk_182 0 166 (dk_at dksX1_mean_0 18 rfl rfl)
theorem dX1_mean_21 : decode cX1_mean 21 = .ok (.i2d, 1) := dk_135 (dk_at dksX1_mean_0 21 rfl rfl)
theorem dX1_mean_22 : decode cX1_mean 22 = .ok (.aload_n 0, 1) := dk_42 (dk_at dksX1_mean_0 22 rfl rfl)
theorem dX1_mean_23 : decode cX1_mean 23 = .ok (.getfield 39, 3) := dk_180 0 39 (dk_at dksX1_mean_1 0 rfl rfl)
theorem dX1_mean_26 : decode cX1_mean 26 = .ok (.invokevirtual 163, 3) := dk_182 0 163 (dk_at dksX1_mean_1 3 rfl rfl)
theorem dX1_mean_29 : decode cX1_mean 29 = .ok (.i2d, 1) := dk_135 (dk_at dksX1_mean_1 6 rfl rfl)
theorem dX1_mean_30 : decode cX1_mean 30 = .ok (.ddiv, 1) := dk_111 (dk_at dksX1_mean_1 7 rfl rfl)
theorem dX1_mean_31 : decode cX1_mean 31 = .ok (.dreturn, 1) := dk_175 (dk_at dksX1_mean_1 8 rfl rfl)
abbrev cX1_digest : ByteArray := prog_1_method_33_code
def yX1_digest : MethodName := ⟨RX1, "digest", "()J"⟩
def dkwX1_digest_10 : List UInt8 := [21, 4, 182, 0, 149, 133, 97, 64, 132, 4, 1, 167, 255, 219, 132, 3, 1, 167, 255, 196, 31, 173]
abbrev dktX1_digest_10 : List UInt8 := dkwX1_digest_10 ++ []
def dkwX1_digest_9 : List UInt8 := [7, 162, 0, 37, 31, 20, 0, 197, 105, 42, 42, 180, 0, 39, 180, 0, 104, 29, 182, 0, 122, 192, 0, 107]
abbrev dktX1_digest_9 : List UInt8 := dkwX1_digest_9 ++ dktX1_digest_10
def dkwX1_digest_8 : List UInt8 := [167, 255, 145, 3, 62, 29, 42, 180, 0, 39, 180, 0, 104, 182, 0, 69, 162, 0, 52, 3, 54, 4, 21, 4]
abbrev dktX1_digest_8 : List UInt8 := dkwX1_digest_8 ++ dktX1_digest_9
def dkwX1_digest_7 : List UInt8 := [21, 5, 182, 0, 122, 192, 0, 95, 182, 0, 123, 133, 97, 64, 132, 5, 1, 167, 255, 216, 132, 3, 1]
abbrev dktX1_digest_7 : List UInt8 := dkwX1_digest_7 ++ dktX1_digest_8
def dkwX1_digest_6 : List UInt8 := [21, 5, 25, 4, 180, 0, 91, 182, 0, 69, 162, 0, 33, 31, 20, 0, 197, 105, 25, 4, 180, 0, 91]
abbrev dktX1_digest_6 : List UInt8 := dkwX1_digest_6 ++ dktX1_digest_7
def dkwX1_digest_5 : List UInt8 := [20, 0, 197, 105, 42, 25, 4, 21, 5, 182, 0, 133, 133, 97, 64, 132, 5, 1, 167, 255, 230, 3, 54, 5]
abbrev dktX1_digest_5 : List UInt8 := dkwX1_digest_5 ++ dktX1_digest_6
def dkwX1_digest_4 : List UInt8 := [180, 0, 65, 29, 182, 0, 122, 192, 0, 75, 58, 4, 3, 54, 5, 21, 5, 16, 8, 162, 0, 25, 31]
abbrev dktX1_digest_4 : List UInt8 := dkwX1_digest_4 ++ dktX1_digest_5
def dkwX1_digest_3 : List UInt8 := [167, 255, 230, 3, 62, 29, 42, 180, 0, 39, 180, 0, 65, 182, 0, 69, 162, 0, 103, 42, 180, 0, 39]
abbrev dktX1_digest_3 : List UInt8 := dkwX1_digest_3 ++ dktX1_digest_4
def dkwX1_digest_2 : List UInt8 := [21, 4, 162, 0, 25, 45, 21, 5, 46, 54, 6, 31, 20, 0, 197, 105, 21, 6, 133, 97, 64, 132, 5, 1]
abbrev dktX1_digest_2 : List UInt8 := dkwX1_digest_2 ++ dktX1_digest_3
def dkwX1_digest_1 : List UInt8 := [64, 132, 3, 1, 167, 255, 234, 42, 180, 0, 39, 180, 0, 47, 78, 45, 190, 54, 4, 3, 54, 5, 21, 5]
abbrev dktX1_digest_1 : List UInt8 := dkwX1_digest_1 ++ dktX1_digest_2
def dkwX1_digest_0 : List UInt8 := [20, 0, 195, 64, 3, 62, 29, 16, 8, 162, 0, 22, 31, 20, 0, 197, 105, 42, 29, 182, 0, 170, 133, 97]
abbrev dktX1_digest_0 : List UInt8 := dkwX1_digest_0 ++ dktX1_digest_1
theorem dksX1_digest_0 : cX1_digest.data.toList.drop 0 = dktX1_digest_0 := by decide +kernel
theorem dksX1_digest_1 : cX1_digest.data.toList.drop 24 = dktX1_digest_1 := dk_seg dksX1_digest_0 24 rfl rfl
theorem dksX1_digest_2 : cX1_digest.data.toList.drop 48 = dktX1_digest_2 := dk_seg dksX1_digest_1 24 rfl rfl
theorem dksX1_digest_3 : cX1_digest.data.toList.drop 72 = dktX1_digest_3 := dk_seg dksX1_digest_2 24 rfl rfl
theorem dksX1_digest_4 : cX1_digest.data.toList.drop 95 = dktX1_digest_4 := dk_seg dksX1_digest_3 23 rfl rfl
theorem dksX1_digest_5 : cX1_digest.data.toList.drop 118 = dktX1_digest_5 := dk_seg dksX1_digest_4 23 rfl rfl
theorem dksX1_digest_6 : cX1_digest.data.toList.drop 142 = dktX1_digest_6 := dk_seg dksX1_digest_5 24 rfl rfl
theorem dksX1_digest_7 : cX1_digest.data.toList.drop 165 = dktX1_digest_7 := dk_seg dksX1_digest_6 23 rfl rfl
theorem dksX1_digest_8 : cX1_digest.data.toList.drop 188 = dktX1_digest_8 := dk_seg dksX1_digest_7 23 rfl rfl
theorem dksX1_digest_9 : cX1_digest.data.toList.drop 212 = dktX1_digest_9 := dk_seg dksX1_digest_8 24 rfl rfl
theorem dksX1_digest_10 : cX1_digest.data.toList.drop 236 = dktX1_digest_10 := dk_seg dksX1_digest_9 24 rfl rfl
theorem dX1_digest_0 : decode cX1_digest 0 = .ok (.ldc2_w 195, 3) := dk_20 0 195 (dk_at dksX1_digest_0 0 rfl rfl)
theorem dX1_digest_3 : decode cX1_digest 3 = .ok (.lstore_n 1, 1) := dk_64 (dk_at dksX1_digest_0 3 rfl rfl)
theorem dX1_digest_4 : decode cX1_digest 4 = .ok (.iconst 0, 1) := dk_3 (dk_at dksX1_digest_0 4 rfl rfl)
theorem dX1_digest_5 : decode cX1_digest 5 = .ok (.istore_n 3, 1) := dk_62 (dk_at dksX1_digest_0 5 rfl rfl)
theorem dX1_digest_6 : decode cX1_digest 6 = .ok (.iload_n 3, 1) := dk_29 (dk_at dksX1_digest_0 6 rfl rfl)
theorem dX1_digest_7 : decode cX1_digest 7 = .ok (.bipush 8, 2) := dk_16 8 (dk_at dksX1_digest_0 7 rfl rfl)
theorem dX1_digest_9 : decode cX1_digest 9 = .ok (.if_icmp .ge 22, 3) := dk_162 0 22 (dk_at dksX1_digest_0 9 rfl rfl)
theorem dX1_digest_12 : decode cX1_digest 12 = .ok (.lload_n 1, 1) := dk_31 (dk_at dksX1_digest_0 12 rfl rfl)
theorem dX1_digest_13 : decode cX1_digest 13 = .ok (.ldc2_w 197, 3) := dk_20 0 197 (dk_at dksX1_digest_0 13 rfl rfl)
theorem dX1_digest_16 : decode cX1_digest 16 = .ok (.lmul, 1) := dk_105 (dk_at dksX1_digest_0 16 rfl rfl)
theorem dX1_digest_17 : decode cX1_digest 17 = .ok (.aload_n 0, 1) := dk_42 (dk_at dksX1_digest_0 17 rfl rfl)
theorem dX1_digest_18 : decode cX1_digest 18 = .ok (.iload_n 3, 1) := dk_29 (dk_at dksX1_digest_0 18 rfl rfl)
theorem dX1_digest_19 : decode cX1_digest 19 = .ok (.invokevirtual 170, 3) := dk_182 0 170 (dk_at dksX1_digest_0 19 rfl rfl)
theorem dX1_digest_22 : decode cX1_digest 22 = .ok (.i2l, 1) := dk_133 (dk_at dksX1_digest_0 22 rfl rfl)
theorem dX1_digest_23 : decode cX1_digest 23 = .ok (.ladd, 1) := dk_97 (dk_at dksX1_digest_0 23 rfl rfl)
theorem dX1_digest_24 : decode cX1_digest 24 = .ok (.lstore_n 1, 1) := dk_64 (dk_at dksX1_digest_1 0 rfl rfl)
theorem dX1_digest_25 : decode cX1_digest 25 = .ok (.iinc 3 1, 3) := dk_132 3 1 (dk_at dksX1_digest_1 1 rfl rfl)
theorem dX1_digest_28 : decode cX1_digest 28 = .ok (.goto (-22), 3) := dk_167 255 234 (dk_at dksX1_digest_1 4 rfl rfl)
theorem dX1_digest_31 : decode cX1_digest 31 = .ok (.aload_n 0, 1) := dk_42 (dk_at dksX1_digest_1 7 rfl rfl)
theorem dX1_digest_32 : decode cX1_digest 32 = .ok (.getfield 39, 3) := dk_180 0 39 (dk_at dksX1_digest_1 8 rfl rfl)
theorem dX1_digest_35 : decode cX1_digest 35 = .ok (.getfield 47, 3) := dk_180 0 47 (dk_at dksX1_digest_1 11 rfl rfl)
theorem dX1_digest_38 : decode cX1_digest 38 = .ok (.astore_n 3, 1) := dk_78 (dk_at dksX1_digest_1 14 rfl rfl)
theorem dX1_digest_39 : decode cX1_digest 39 = .ok (.aload_n 3, 1) := dk_45 (dk_at dksX1_digest_1 15 rfl rfl)
theorem dX1_digest_40 : decode cX1_digest 40 = .ok (.arraylength, 1) := dk_190 (dk_at dksX1_digest_1 16 rfl rfl)
theorem dX1_digest_41 : decode cX1_digest 41 = .ok (.istore 4, 2) := dk_54 4 (dk_at dksX1_digest_1 17 rfl rfl)
theorem dX1_digest_43 : decode cX1_digest 43 = .ok (.iconst 0, 1) := dk_3 (dk_at dksX1_digest_1 19 rfl rfl)
theorem dX1_digest_44 : decode cX1_digest 44 = .ok (.istore 5, 2) := dk_54 5 (dk_at dksX1_digest_1 20 rfl rfl)
theorem dX1_digest_46 : decode cX1_digest 46 = .ok (.iload 5, 2) := dk_21 5 (dk_at dksX1_digest_1 22 rfl rfl)
theorem dX1_digest_48 : decode cX1_digest 48 = .ok (.iload 4, 2) := dk_21 4 (dk_at dksX1_digest_2 0 rfl rfl)
theorem dX1_digest_50 : decode cX1_digest 50 = .ok (.if_icmp .ge 25, 3) := dk_162 0 25 (dk_at dksX1_digest_2 2 rfl rfl)
theorem dX1_digest_53 : decode cX1_digest 53 = .ok (.aload_n 3, 1) := dk_45 (dk_at dksX1_digest_2 5 rfl rfl)
theorem dX1_digest_54 : decode cX1_digest 54 = .ok (.iload 5, 2) := dk_21 5 (dk_at dksX1_digest_2 6 rfl rfl)
theorem dX1_digest_56 : decode cX1_digest 56 = .ok (.iaload, 1) := dk_46 (dk_at dksX1_digest_2 8 rfl rfl)
theorem dX1_digest_57 : decode cX1_digest 57 = .ok (.istore 6, 2) := dk_54 6 (dk_at dksX1_digest_2 9 rfl rfl)
theorem dX1_digest_59 : decode cX1_digest 59 = .ok (.lload_n 1, 1) := dk_31 (dk_at dksX1_digest_2 11 rfl rfl)
theorem dX1_digest_60 : decode cX1_digest 60 = .ok (.ldc2_w 197, 3) := dk_20 0 197 (dk_at dksX1_digest_2 12 rfl rfl)
theorem dX1_digest_63 : decode cX1_digest 63 = .ok (.lmul, 1) := dk_105 (dk_at dksX1_digest_2 15 rfl rfl)
theorem dX1_digest_64 : decode cX1_digest 64 = .ok (.iload 6, 2) := dk_21 6 (dk_at dksX1_digest_2 16 rfl rfl)
theorem dX1_digest_66 : decode cX1_digest 66 = .ok (.i2l, 1) := dk_133 (dk_at dksX1_digest_2 18 rfl rfl)
theorem dX1_digest_67 : decode cX1_digest 67 = .ok (.ladd, 1) := dk_97 (dk_at dksX1_digest_2 19 rfl rfl)
theorem dX1_digest_68 : decode cX1_digest 68 = .ok (.lstore_n 1, 1) := dk_64 (dk_at dksX1_digest_2 20 rfl rfl)
theorem dX1_digest_69 : decode cX1_digest 69 = .ok (.iinc 5 1, 3) := dk_132 5 1 (dk_at dksX1_digest_2 21 rfl rfl)
theorem dX1_digest_72 : decode cX1_digest 72 = .ok (.goto (-26), 3) := dk_167 255 230 (dk_at dksX1_digest_3 0 rfl rfl)
theorem dX1_digest_75 : decode cX1_digest 75 = .ok (.iconst 0, 1) := dk_3 (dk_at dksX1_digest_3 3 rfl rfl)
theorem dX1_digest_76 : decode cX1_digest 76 = .ok (.istore_n 3, 1) := dk_62 (dk_at dksX1_digest_3 4 rfl rfl)
theorem dX1_digest_77 : decode cX1_digest 77 = .ok (.iload_n 3, 1) := dk_29 (dk_at dksX1_digest_3 5 rfl rfl)
theorem dX1_digest_78 : decode cX1_digest 78 = .ok (.aload_n 0, 1) := dk_42 (dk_at dksX1_digest_3 6 rfl rfl)
theorem dX1_digest_79 : decode cX1_digest 79 = .ok (.getfield 39, 3) := dk_180 0 39 (dk_at dksX1_digest_3 7 rfl rfl)
theorem dX1_digest_82 : decode cX1_digest 82 = .ok (.getfield 65, 3) := dk_180 0 65 (dk_at dksX1_digest_3 10 rfl rfl)
theorem dX1_digest_85 : decode cX1_digest 85 = .ok (.invokevirtual 69, 3) := dk_182 0 69 (dk_at dksX1_digest_3 13 rfl rfl)
theorem dX1_digest_88 : decode cX1_digest 88 = .ok (.if_icmp .ge 103, 3) := dk_162 0 103 (dk_at dksX1_digest_3 16 rfl rfl)
theorem dX1_digest_91 : decode cX1_digest 91 = .ok (.aload_n 0, 1) := dk_42 (dk_at dksX1_digest_3 19 rfl rfl)
theorem dX1_digest_92 : decode cX1_digest 92 = .ok (.getfield 39, 3) := dk_180 0 39 (dk_at dksX1_digest_3 20 rfl rfl)
theorem dX1_digest_95 : decode cX1_digest 95 = .ok (.getfield 65, 3) := dk_180 0 65 (dk_at dksX1_digest_4 0 rfl rfl)
theorem dX1_digest_98 : decode cX1_digest 98 = .ok (.iload_n 3, 1) := dk_29 (dk_at dksX1_digest_4 3 rfl rfl)
theorem dX1_digest_99 : decode cX1_digest 99 = .ok (.invokevirtual 122, 3) := dk_182 0 122 (dk_at dksX1_digest_4 4 rfl rfl)
theorem dX1_digest_102 : decode cX1_digest 102 = .ok (.checkcast 75, 3) := dk_192 0 75 (dk_at dksX1_digest_4 7 rfl rfl)
theorem dX1_digest_105 : decode cX1_digest 105 = .ok (.astore 4, 2) := dk_58 4 (dk_at dksX1_digest_4 10 rfl rfl)
theorem dX1_digest_107 : decode cX1_digest 107 = .ok (.iconst 0, 1) := dk_3 (dk_at dksX1_digest_4 12 rfl rfl)
theorem dX1_digest_108 : decode cX1_digest 108 = .ok (.istore 5, 2) := dk_54 5 (dk_at dksX1_digest_4 13 rfl rfl)
theorem dX1_digest_110 : decode cX1_digest 110 = .ok (.iload 5, 2) := dk_21 5 (dk_at dksX1_digest_4 15 rfl rfl)
theorem dX1_digest_112 : decode cX1_digest 112 = .ok (.bipush 8, 2) := dk_16 8 (dk_at dksX1_digest_4 17 rfl rfl)
theorem dX1_digest_114 : decode cX1_digest 114 = .ok (.if_icmp .ge 25, 3) := dk_162 0 25 (dk_at dksX1_digest_4 19 rfl rfl)
theorem dX1_digest_117 : decode cX1_digest 117 = .ok (.lload_n 1, 1) := dk_31 (dk_at dksX1_digest_4 22 rfl rfl)
theorem dX1_digest_118 : decode cX1_digest 118 = .ok (.ldc2_w 197, 3) := dk_20 0 197 (dk_at dksX1_digest_5 0 rfl rfl)
theorem dX1_digest_121 : decode cX1_digest 121 = .ok (.lmul, 1) := dk_105 (dk_at dksX1_digest_5 3 rfl rfl)
theorem dX1_digest_122 : decode cX1_digest 122 = .ok (.aload_n 0, 1) := dk_42 (dk_at dksX1_digest_5 4 rfl rfl)
theorem dX1_digest_123 : decode cX1_digest 123 = .ok (.aload 4, 2) := dk_25 4 (dk_at dksX1_digest_5 5 rfl rfl)
theorem dX1_digest_125 : decode cX1_digest 125 = .ok (.iload 5, 2) := dk_21 5 (dk_at dksX1_digest_5 7 rfl rfl)
theorem dX1_digest_127 : decode cX1_digest 127 = .ok (.invokevirtual 133, 3) := dk_182 0 133 (dk_at dksX1_digest_5 9 rfl rfl)
theorem dX1_digest_130 : decode cX1_digest 130 = .ok (.i2l, 1) := dk_133 (dk_at dksX1_digest_5 12 rfl rfl)
theorem dX1_digest_131 : decode cX1_digest 131 = .ok (.ladd, 1) := dk_97 (dk_at dksX1_digest_5 13 rfl rfl)
theorem dX1_digest_132 : decode cX1_digest 132 = .ok (.lstore_n 1, 1) := dk_64 (dk_at dksX1_digest_5 14 rfl rfl)
theorem dX1_digest_133 : decode cX1_digest 133 = .ok (.iinc 5 1, 3) := dk_132 5 1 (dk_at dksX1_digest_5 15 rfl rfl)
theorem dX1_digest_136 : decode cX1_digest 136 = .ok (.goto (-26), 3) := dk_167 255 230 (dk_at dksX1_digest_5 18 rfl rfl)
theorem dX1_digest_139 : decode cX1_digest 139 = .ok (.iconst 0, 1) := dk_3 (dk_at dksX1_digest_5 21 rfl rfl)
theorem dX1_digest_140 : decode cX1_digest 140 = .ok (.istore 5, 2) := dk_54 5 (dk_at dksX1_digest_5 22 rfl rfl)
theorem dX1_digest_142 : decode cX1_digest 142 = .ok (.iload 5, 2) := dk_21 5 (dk_at dksX1_digest_6 0 rfl rfl)
theorem dX1_digest_144 : decode cX1_digest 144 = .ok (.aload 4, 2) := dk_25 4 (dk_at dksX1_digest_6 2 rfl rfl)
theorem dX1_digest_146 : decode cX1_digest 146 = .ok (.getfield 91, 3) := dk_180 0 91 (dk_at dksX1_digest_6 4 rfl rfl)
theorem dX1_digest_149 : decode cX1_digest 149 = .ok (.invokevirtual 69, 3) := dk_182 0 69 (dk_at dksX1_digest_6 7 rfl rfl)
theorem dX1_digest_152 : decode cX1_digest 152 = .ok (.if_icmp .ge 33, 3) := dk_162 0 33 (dk_at dksX1_digest_6 10 rfl rfl)
theorem dX1_digest_155 : decode cX1_digest 155 = .ok (.lload_n 1, 1) := dk_31 (dk_at dksX1_digest_6 13 rfl rfl)
theorem dX1_digest_156 : decode cX1_digest 156 = .ok (.ldc2_w 197, 3) := dk_20 0 197 (dk_at dksX1_digest_6 14 rfl rfl)
theorem dX1_digest_159 : decode cX1_digest 159 = .ok (.lmul, 1) := dk_105 (dk_at dksX1_digest_6 17 rfl rfl)
theorem dX1_digest_160 : decode cX1_digest 160 = .ok (.aload 4, 2) := dk_25 4 (dk_at dksX1_digest_6 18 rfl rfl)
theorem dX1_digest_162 : decode cX1_digest 162 = .ok (.getfield 91, 3) := dk_180 0 91 (dk_at dksX1_digest_6 20 rfl rfl)
theorem dX1_digest_165 : decode cX1_digest 165 = .ok (.iload 5, 2) := dk_21 5 (dk_at dksX1_digest_7 0 rfl rfl)
theorem dX1_digest_167 : decode cX1_digest 167 = .ok (.invokevirtual 122, 3) := dk_182 0 122 (dk_at dksX1_digest_7 2 rfl rfl)
theorem dX1_digest_170 : decode cX1_digest 170 = .ok (.checkcast 95, 3) := dk_192 0 95 (dk_at dksX1_digest_7 5 rfl rfl)
theorem dX1_digest_173 : decode cX1_digest 173 = .ok (.invokevirtual 123, 3) := dk_182 0 123 (dk_at dksX1_digest_7 8 rfl rfl)
theorem dX1_digest_176 : decode cX1_digest 176 = .ok (.i2l, 1) := dk_133 (dk_at dksX1_digest_7 11 rfl rfl)
theorem dX1_digest_177 : decode cX1_digest 177 = .ok (.ladd, 1) := dk_97 (dk_at dksX1_digest_7 12 rfl rfl)
theorem dX1_digest_178 : decode cX1_digest 178 = .ok (.lstore_n 1, 1) := dk_64 (dk_at dksX1_digest_7 13 rfl rfl)
theorem dX1_digest_179 : decode cX1_digest 179 = .ok (.iinc 5 1, 3) := dk_132 5 1 (dk_at dksX1_digest_7 14 rfl rfl)
theorem dX1_digest_182 : decode cX1_digest 182 = .ok (.goto (-40), 3) := dk_167 255 216 (dk_at dksX1_digest_7 17 rfl rfl)
theorem dX1_digest_185 : decode cX1_digest 185 = .ok (.iinc 3 1, 3) := dk_132 3 1 (dk_at dksX1_digest_7 20 rfl rfl)
theorem dX1_digest_188 : decode cX1_digest 188 = .ok (.goto (-111), 3) := dk_167 255 145 (dk_at dksX1_digest_8 0 rfl rfl)
theorem dX1_digest_191 : decode cX1_digest 191 = .ok (.iconst 0, 1) := dk_3 (dk_at dksX1_digest_8 3 rfl rfl)
theorem dX1_digest_192 : decode cX1_digest 192 = .ok (.istore_n 3, 1) := dk_62 (dk_at dksX1_digest_8 4 rfl rfl)
theorem dX1_digest_193 : decode cX1_digest 193 = .ok (.iload_n 3, 1) := dk_29 (dk_at dksX1_digest_8 5 rfl rfl)
theorem dX1_digest_194 : decode cX1_digest 194 = .ok (.aload_n 0, 1) := dk_42 (dk_at dksX1_digest_8 6 rfl rfl)
theorem dX1_digest_195 : decode cX1_digest 195 = .ok (.getfield 39, 3) := dk_180 0 39 (dk_at dksX1_digest_8 7 rfl rfl)
theorem dX1_digest_198 : decode cX1_digest 198 = .ok (.getfield 104, 3) := dk_180 0 104 (dk_at dksX1_digest_8 10 rfl rfl)
theorem dX1_digest_201 : decode cX1_digest 201 = .ok (.invokevirtual 69, 3) := dk_182 0 69 (dk_at dksX1_digest_8 13 rfl rfl)
theorem dX1_digest_204 : decode cX1_digest 204 = .ok (.if_icmp .ge 52, 3) := dk_162 0 52 (dk_at dksX1_digest_8 16 rfl rfl)
theorem dX1_digest_207 : decode cX1_digest 207 = .ok (.iconst 0, 1) := dk_3 (dk_at dksX1_digest_8 19 rfl rfl)
theorem dX1_digest_208 : decode cX1_digest 208 = .ok (.istore 4, 2) := dk_54 4 (dk_at dksX1_digest_8 20 rfl rfl)
theorem dX1_digest_210 : decode cX1_digest 210 = .ok (.iload 4, 2) := dk_21 4 (dk_at dksX1_digest_8 22 rfl rfl)
theorem dX1_digest_212 : decode cX1_digest 212 = .ok (.iconst 4, 1) := dk_7 (dk_at dksX1_digest_9 0 rfl rfl)
theorem dX1_digest_213 : decode cX1_digest 213 = .ok (.if_icmp .ge 37, 3) := dk_162 0 37 (dk_at dksX1_digest_9 1 rfl rfl)
theorem dX1_digest_216 : decode cX1_digest 216 = .ok (.lload_n 1, 1) := dk_31 (dk_at dksX1_digest_9 4 rfl rfl)
theorem dX1_digest_217 : decode cX1_digest 217 = .ok (.ldc2_w 197, 3) := dk_20 0 197 (dk_at dksX1_digest_9 5 rfl rfl)
theorem dX1_digest_220 : decode cX1_digest 220 = .ok (.lmul, 1) := dk_105 (dk_at dksX1_digest_9 8 rfl rfl)
theorem dX1_digest_221 : decode cX1_digest 221 = .ok (.aload_n 0, 1) := dk_42 (dk_at dksX1_digest_9 9 rfl rfl)
theorem dX1_digest_222 : decode cX1_digest 222 = .ok (.aload_n 0, 1) := dk_42 (dk_at dksX1_digest_9 10 rfl rfl)
theorem dX1_digest_223 : decode cX1_digest 223 = .ok (.getfield 39, 3) := dk_180 0 39 (dk_at dksX1_digest_9 11 rfl rfl)
theorem dX1_digest_226 : decode cX1_digest 226 = .ok (.getfield 104, 3) := dk_180 0 104 (dk_at dksX1_digest_9 14 rfl rfl)
theorem dX1_digest_229 : decode cX1_digest 229 = .ok (.iload_n 3, 1) := dk_29 (dk_at dksX1_digest_9 17 rfl rfl)
theorem dX1_digest_230 : decode cX1_digest 230 = .ok (.invokevirtual 122, 3) := dk_182 0 122 (dk_at dksX1_digest_9 18 rfl rfl)
theorem dX1_digest_233 : decode cX1_digest 233 = .ok (.checkcast 107, 3) := dk_192 0 107 (dk_at dksX1_digest_9 21 rfl rfl)
theorem dX1_digest_236 : decode cX1_digest 236 = .ok (.iload 4, 2) := dk_21 4 (dk_at dksX1_digest_10 0 rfl rfl)
theorem dX1_digest_238 : decode cX1_digest 238 = .ok (.invokevirtual 149, 3) := dk_182 0 149 (dk_at dksX1_digest_10 2 rfl rfl)
theorem dX1_digest_241 : decode cX1_digest 241 = .ok (.i2l, 1) := dk_133 (dk_at dksX1_digest_10 5 rfl rfl)
theorem dX1_digest_242 : decode cX1_digest 242 = .ok (.ladd, 1) := dk_97 (dk_at dksX1_digest_10 6 rfl rfl)
theorem dX1_digest_243 : decode cX1_digest 243 = .ok (.lstore_n 1, 1) := dk_64 (dk_at dksX1_digest_10 7 rfl rfl)
theorem dX1_digest_244 : decode cX1_digest 244 = .ok (.iinc 4 1, 3) := dk_132 4 1 (dk_at dksX1_digest_10 8 rfl rfl)
theorem dX1_digest_247 : decode cX1_digest 247 = .ok (.goto (-37), 3) := dk_167 255 219 (dk_at dksX1_digest_10 11 rfl rfl)
theorem dX1_digest_250 : decode cX1_digest 250 = .ok (.iinc 3 1, 3) := dk_132 3 1 (dk_at dksX1_digest_10 14 rfl rfl)
theorem dX1_digest_253 : decode cX1_digest 253 = .ok (.goto (-60), 3) := dk_167 255 196 (dk_at dksX1_digest_10 17 rfl rfl)
theorem dX1_digest_256 : decode cX1_digest 256 = .ok (.lload_n 1, 1) := dk_31 (dk_at dksX1_digest_10 20 rfl rfl)
theorem dX1_digest_257 : decode cX1_digest 257 = .ok (.lreturn, 1) := dk_173 (dk_at dksX1_digest_10 21 rfl rfl)
abbrev cX1_counted : ByteArray := prog_1_method_23_code
def yX1_counted : MethodName := ⟨RX1, "counted", "(I)I"⟩
def dkwX1_counted_4 : List UInt8 := [182, 0, 166, 172, 42, 180, 0, 39, 180, 0, 104, 182, 0, 69, 172, 42, 182, 0, 168, 172]
abbrev dktX1_counted_4 : List UInt8 := dkwX1_counted_4 ++ []
def dkwX1_counted_3 : List UInt8 := [172, 42, 180, 0, 39, 3, 182, 0, 156, 172, 42, 180, 0, 39, 182, 0, 163, 172, 42, 180, 0, 39]
abbrev dktX1_counted_3 : List UInt8 := dkwX1_counted_3 ++ dktX1_counted_4
def dkwX1_counted_2 : List UInt8 := [42, 180, 0, 39, 180, 0, 153, 172, 42, 180, 0, 39, 2, 182, 0, 156, 172, 42, 180, 0, 39, 182, 0, 160]
abbrev dktX1_counted_2 : List UInt8 := dkwX1_counted_2 ++ dktX1_counted_3
def dkwX1_counted_1 : List UInt8 := [170, 0, 0, 0, 0, 0, 104, 0, 0, 0, 0, 0, 0, 0, 6, 0, 0, 0, 43, 0, 0, 0, 51, 0, 0, 0, 60, 0, 0, 0, 68, 0, 0, 0, 77, 0, 0, 0, 85, 0, 0, 0, 93]
abbrev dktX1_counted_1 : List UInt8 := dkwX1_counted_1 ++ dktX1_counted_2
def dkwX1_counted_0 : List UInt8 := [27]
abbrev dktX1_counted_0 : List UInt8 := dkwX1_counted_0 ++ dktX1_counted_1
theorem dksX1_counted_0 : cX1_counted.data.toList.drop 0 = dktX1_counted_0 := by decide +kernel
theorem dksX1_counted_1 : cX1_counted.data.toList.drop 1 = dktX1_counted_1 := dk_seg dksX1_counted_0 1 rfl rfl
theorem dksX1_counted_2 : cX1_counted.data.toList.drop 44 = dktX1_counted_2 := dk_seg dksX1_counted_1 43 rfl rfl
theorem dksX1_counted_3 : cX1_counted.data.toList.drop 68 = dktX1_counted_3 := dk_seg dksX1_counted_2 24 rfl rfl
theorem dksX1_counted_4 : cX1_counted.data.toList.drop 90 = dktX1_counted_4 := dk_seg dksX1_counted_3 22 rfl rfl
theorem dX1_counted_0 : decode cX1_counted 0 = .ok (.iload_n 1, 1) := dk_27 (dk_at dksX1_counted_0 0 rfl rfl)
theorem dX1_counted_1 : decode cX1_counted 1 = .ok (.tableswitch 104 0 6 #[43, 51, 60, 68, 77, 85, 93], 43) := by decide +kernel
theorem dX1_counted_44 : decode cX1_counted 44 = .ok (.aload_n 0, 1) := dk_42 (dk_at dksX1_counted_2 0 rfl rfl)
theorem dX1_counted_45 : decode cX1_counted 45 = .ok (.getfield 39, 3) := dk_180 0 39 (dk_at dksX1_counted_2 1 rfl rfl)
theorem dX1_counted_48 : decode cX1_counted 48 = .ok (.getfield 153, 3) := dk_180 0 153 (dk_at dksX1_counted_2 4 rfl rfl)
theorem dX1_counted_51 : decode cX1_counted 51 = .ok (.ireturn, 1) := dk_172 (dk_at dksX1_counted_2 7 rfl rfl)
theorem dX1_counted_52 : decode cX1_counted 52 = .ok (.aload_n 0, 1) := dk_42 (dk_at dksX1_counted_2 8 rfl rfl)
theorem dX1_counted_53 : decode cX1_counted 53 = .ok (.getfield 39, 3) := dk_180 0 39 (dk_at dksX1_counted_2 9 rfl rfl)
theorem dX1_counted_56 : decode cX1_counted 56 = .ok (.iconst (-1), 1) := dk_2 (dk_at dksX1_counted_2 12 rfl rfl)
theorem dX1_counted_57 : decode cX1_counted 57 = .ok (.invokevirtual 156, 3) := dk_182 0 156 (dk_at dksX1_counted_2 13 rfl rfl)
theorem dX1_counted_60 : decode cX1_counted 60 = .ok (.ireturn, 1) := dk_172 (dk_at dksX1_counted_2 16 rfl rfl)
theorem dX1_counted_61 : decode cX1_counted 61 = .ok (.aload_n 0, 1) := dk_42 (dk_at dksX1_counted_2 17 rfl rfl)
theorem dX1_counted_62 : decode cX1_counted 62 = .ok (.getfield 39, 3) := dk_180 0 39 (dk_at dksX1_counted_2 18 rfl rfl)
theorem dX1_counted_65 : decode cX1_counted 65 = .ok (.invokevirtual 160, 3) := dk_182 0 160 (dk_at dksX1_counted_2 21 rfl rfl)
theorem dX1_counted_68 : decode cX1_counted 68 = .ok (.ireturn, 1) := dk_172 (dk_at dksX1_counted_3 0 rfl rfl)
theorem dX1_counted_69 : decode cX1_counted 69 = .ok (.aload_n 0, 1) := dk_42 (dk_at dksX1_counted_3 1 rfl rfl)
theorem dX1_counted_70 : decode cX1_counted 70 = .ok (.getfield 39, 3) := dk_180 0 39 (dk_at dksX1_counted_3 2 rfl rfl)
theorem dX1_counted_73 : decode cX1_counted 73 = .ok (.iconst 0, 1) := dk_3 (dk_at dksX1_counted_3 5 rfl rfl)
theorem dX1_counted_74 : decode cX1_counted 74 = .ok (.invokevirtual 156, 3) := dk_182 0 156 (dk_at dksX1_counted_3 6 rfl rfl)
theorem dX1_counted_77 : decode cX1_counted 77 = .ok (.ireturn, 1) := dk_172 (dk_at dksX1_counted_3 9 rfl rfl)
theorem dX1_counted_78 : decode cX1_counted 78 = .ok (.aload_n 0, 1) := dk_42 (dk_at dksX1_counted_3 10 rfl rfl)
theorem dX1_counted_79 : decode cX1_counted 79 = .ok (.getfield 39, 3) := dk_180 0 39 (dk_at dksX1_counted_3 11 rfl rfl)
theorem dX1_counted_82 : decode cX1_counted 82 = .ok (.invokevirtual 163, 3) := dk_182 0 163 (dk_at dksX1_counted_3 14 rfl rfl)
theorem dX1_counted_85 : decode cX1_counted 85 = .ok (.ireturn, 1) := dk_172 (dk_at dksX1_counted_3 17 rfl rfl)
theorem dX1_counted_86 : decode cX1_counted 86 = .ok (.aload_n 0, 1) := dk_42 (dk_at dksX1_counted_3 18 rfl rfl)
theorem dX1_counted_87 : decode cX1_counted 87 = .ok (.getfield 39, 3) := dk_180 0 39 (dk_at dksX1_counted_3 19 rfl rfl)
theorem dX1_counted_90 : decode cX1_counted 90 = .ok (.invokevirtual 166, 3) := dk_182 0 166 (dk_at dksX1_counted_4 0 rfl rfl)
theorem dX1_counted_93 : decode cX1_counted 93 = .ok (.ireturn, 1) := dk_172 (dk_at dksX1_counted_4 3 rfl rfl)
theorem dX1_counted_94 : decode cX1_counted 94 = .ok (.aload_n 0, 1) := dk_42 (dk_at dksX1_counted_4 4 rfl rfl)
theorem dX1_counted_95 : decode cX1_counted 95 = .ok (.getfield 39, 3) := dk_180 0 39 (dk_at dksX1_counted_4 5 rfl rfl)
theorem dX1_counted_98 : decode cX1_counted 98 = .ok (.getfield 104, 3) := dk_180 0 104 (dk_at dksX1_counted_4 8 rfl rfl)
theorem dX1_counted_101 : decode cX1_counted 101 = .ok (.invokevirtual 69, 3) := dk_182 0 69 (dk_at dksX1_counted_4 11 rfl rfl)
theorem dX1_counted_104 : decode cX1_counted 104 = .ok (.ireturn, 1) := dk_172 (dk_at dksX1_counted_4 14 rfl rfl)
theorem dX1_counted_105 : decode cX1_counted 105 = .ok (.aload_n 0, 1) := dk_42 (dk_at dksX1_counted_4 15 rfl rfl)
theorem dX1_counted_106 : decode cX1_counted 106 = .ok (.invokevirtual 168, 3) := dk_182 0 168 (dk_at dksX1_counted_4 16 rfl rfl)
theorem dX1_counted_109 : decode cX1_counted 109 = .ok (.ireturn, 1) := dk_172 (dk_at dksX1_counted_4 19 rfl rfl)
abbrev cX1_missed : ByteArray := prog_1_method_22_code
def yX1_missed : MethodName := ⟨RX1, "missed", "()I"⟩
def dkwX1_missed_1 : List UInt8 := [180, 0, 65, 28, 182, 0, 122, 192, 0, 75, 180, 0, 126, 96, 60, 132, 2, 1, 167, 255, 219, 27, 172]
abbrev dktX1_missed_1 : List UInt8 := dkwX1_missed_1 ++ []
def dkwX1_missed_0 : List UInt8 := [3, 60, 3, 61, 28, 42, 180, 0, 39, 180, 0, 65, 182, 0, 69, 162, 0, 29, 27, 42, 180, 0, 39]
abbrev dktX1_missed_0 : List UInt8 := dkwX1_missed_0 ++ dktX1_missed_1
theorem dksX1_missed_0 : cX1_missed.data.toList.drop 0 = dktX1_missed_0 := by decide +kernel
theorem dksX1_missed_1 : cX1_missed.data.toList.drop 23 = dktX1_missed_1 := dk_seg dksX1_missed_0 23 rfl rfl
theorem dX1_missed_0 : decode cX1_missed 0 = .ok (.iconst 0, 1) := dk_3 (dk_at dksX1_missed_0 0 rfl rfl)
theorem dX1_missed_1 : decode cX1_missed 1 = .ok (.istore_n 1, 1) := dk_60 (dk_at dksX1_missed_0 1 rfl rfl)
theorem dX1_missed_2 : decode cX1_missed 2 = .ok (.iconst 0, 1) := dk_3 (dk_at dksX1_missed_0 2 rfl rfl)
theorem dX1_missed_3 : decode cX1_missed 3 = .ok (.istore_n 2, 1) := dk_61 (dk_at dksX1_missed_0 3 rfl rfl)
theorem dX1_missed_4 : decode cX1_missed 4 = .ok (.iload_n 2, 1) := dk_28 (dk_at dksX1_missed_0 4 rfl rfl)
theorem dX1_missed_5 : decode cX1_missed 5 = .ok (.aload_n 0, 1) := dk_42 (dk_at dksX1_missed_0 5 rfl rfl)
theorem dX1_missed_6 : decode cX1_missed 6 = .ok (.getfield 39, 3) := dk_180 0 39 (dk_at dksX1_missed_0 6 rfl rfl)
theorem dX1_missed_9 : decode cX1_missed 9 = .ok (.getfield 65, 3) := dk_180 0 65 (dk_at dksX1_missed_0 9 rfl rfl)
theorem dX1_missed_12 : decode cX1_missed 12 = .ok (.invokevirtual 69, 3) := dk_182 0 69 (dk_at dksX1_missed_0 12 rfl rfl)
theorem dX1_missed_15 : decode cX1_missed 15 = .ok (.if_icmp .ge 29, 3) := dk_162 0 29 (dk_at dksX1_missed_0 15 rfl rfl)
theorem dX1_missed_18 : decode cX1_missed 18 = .ok (.iload_n 1, 1) := dk_27 (dk_at dksX1_missed_0 18 rfl rfl)
theorem dX1_missed_19 : decode cX1_missed 19 = .ok (.aload_n 0, 1) := dk_42 (dk_at dksX1_missed_0 19 rfl rfl)
theorem dX1_missed_20 : decode cX1_missed 20 = .ok (.getfield 39, 3) := dk_180 0 39 (dk_at dksX1_missed_0 20 rfl rfl)
theorem dX1_missed_23 : decode cX1_missed 23 = .ok (.getfield 65, 3) := dk_180 0 65 (dk_at dksX1_missed_1 0 rfl rfl)
theorem dX1_missed_26 : decode cX1_missed 26 = .ok (.iload_n 2, 1) := dk_28 (dk_at dksX1_missed_1 3 rfl rfl)
theorem dX1_missed_27 : decode cX1_missed 27 = .ok (.invokevirtual 122, 3) := dk_182 0 122 (dk_at dksX1_missed_1 4 rfl rfl)
theorem dX1_missed_30 : decode cX1_missed 30 = .ok (.checkcast 75, 3) := dk_192 0 75 (dk_at dksX1_missed_1 7 rfl rfl)
theorem dX1_missed_33 : decode cX1_missed 33 = .ok (.getfield 126, 3) := dk_180 0 126 (dk_at dksX1_missed_1 10 rfl rfl)
theorem dX1_missed_36 : decode cX1_missed 36 = .ok (.iadd, 1) := dk_96 (dk_at dksX1_missed_1 13 rfl rfl)
theorem dX1_missed_37 : decode cX1_missed 37 = .ok (.istore_n 1, 1) := dk_60 (dk_at dksX1_missed_1 14 rfl rfl)
theorem dX1_missed_38 : decode cX1_missed 38 = .ok (.iinc 2 1, 3) := dk_132 2 1 (dk_at dksX1_missed_1 15 rfl rfl)
theorem dX1_missed_41 : decode cX1_missed 41 = .ok (.goto (-37), 3) := dk_167 255 219 (dk_at dksX1_missed_1 18 rfl rfl)
theorem dX1_missed_44 : decode cX1_missed 44 = .ok (.iload_n 1, 1) := dk_27 (dk_at dksX1_missed_1 21 rfl rfl)
theorem dX1_missed_45 : decode cX1_missed 45 = .ok (.ireturn, 1) := dk_172 (dk_at dksX1_missed_1 22 rfl rfl)
abbrev cX1_crowdTold : ByteArray := prog_1_method_16_code
def yX1_crowdTold : MethodName := ⟨RX1, "crowdTold", "(LLaneCrowds$Crowd;I)I"⟩
def dkwX1_crowdTold_5 : List UInt8 := [172, 43, 180, 0, 126, 172, 42, 180, 0, 39, 43, 182, 0, 129, 172]
abbrev dktX1_crowdTold_5 : List UInt8 := dkwX1_crowdTold_5 ++ []
def dkwX1_crowdTold_4 : List UInt8 := [182, 0, 119, 153, 0, 7, 2, 167, 0, 17, 43, 180, 0, 91, 3, 182, 0, 122, 192, 0, 95, 182, 0, 123]
abbrev dktX1_crowdTold_4 : List UInt8 := dkwX1_crowdTold_4 ++ dktX1_crowdTold_5
def dkwX1_crowdTold_3 : List UInt8 := [180, 0, 100, 153, 0, 7, 4, 167, 0, 4, 3, 172, 43, 180, 0, 91, 182, 0, 69, 172, 43, 180, 0, 91]
abbrev dktX1_crowdTold_3 : List UInt8 := dkwX1_crowdTold_3 ++ dktX1_crowdTold_4
def dkwX1_crowdTold_2 : List UInt8 := [43, 180, 0, 112, 16, 12, 112, 172, 43, 180, 0, 112, 16, 12, 108, 172, 43, 180, 0, 116, 172, 43]
abbrev dktX1_crowdTold_2 : List UInt8 := dkwX1_crowdTold_2 ++ dktX1_crowdTold_3
def dkwX1_crowdTold_1 : List UInt8 := [170, 0, 0, 0, 0, 0, 119, 0, 0, 0, 0, 0, 0, 0, 6, 0, 0, 0, 43, 0, 0, 0, 51, 0, 0, 0, 59, 0, 0, 0, 64, 0, 0, 0, 77, 0, 0, 0, 85, 0, 0, 0, 114]
abbrev dktX1_crowdTold_1 : List UInt8 := dkwX1_crowdTold_1 ++ dktX1_crowdTold_2
def dkwX1_crowdTold_0 : List UInt8 := [28]
abbrev dktX1_crowdTold_0 : List UInt8 := dkwX1_crowdTold_0 ++ dktX1_crowdTold_1
theorem dksX1_crowdTold_0 : cX1_crowdTold.data.toList.drop 0 = dktX1_crowdTold_0 := by decide +kernel
theorem dksX1_crowdTold_1 : cX1_crowdTold.data.toList.drop 1 = dktX1_crowdTold_1 := dk_seg dksX1_crowdTold_0 1 rfl rfl
theorem dksX1_crowdTold_2 : cX1_crowdTold.data.toList.drop 44 = dktX1_crowdTold_2 := dk_seg dksX1_crowdTold_1 43 rfl rfl
theorem dksX1_crowdTold_3 : cX1_crowdTold.data.toList.drop 66 = dktX1_crowdTold_3 := dk_seg dksX1_crowdTold_2 22 rfl rfl
theorem dksX1_crowdTold_4 : cX1_crowdTold.data.toList.drop 90 = dktX1_crowdTold_4 := dk_seg dksX1_crowdTold_3 24 rfl rfl
theorem dksX1_crowdTold_5 : cX1_crowdTold.data.toList.drop 114 = dktX1_crowdTold_5 := dk_seg dksX1_crowdTold_4 24 rfl rfl
theorem dX1_crowdTold_0 : decode cX1_crowdTold 0 = .ok (.iload_n 2, 1) := dk_28 (dk_at dksX1_crowdTold_0 0 rfl rfl)
theorem dX1_crowdTold_1 : decode cX1_crowdTold 1 = .ok (.tableswitch 119 0 6 #[43, 51, 59, 64, 77, 85, 114], 43) := by decide +kernel
theorem dX1_crowdTold_44 : decode cX1_crowdTold 44 = .ok (.aload_n 1, 1) := dk_43 (dk_at dksX1_crowdTold_2 0 rfl rfl)
theorem dX1_crowdTold_45 : decode cX1_crowdTold 45 = .ok (.getfield 112, 3) := dk_180 0 112 (dk_at dksX1_crowdTold_2 1 rfl rfl)
theorem dX1_crowdTold_48 : decode cX1_crowdTold 48 = .ok (.bipush 12, 2) := dk_16 12 (dk_at dksX1_crowdTold_2 4 rfl rfl)
theorem dX1_crowdTold_50 : decode cX1_crowdTold 50 = .ok (.irem, 1) := dk_112 (dk_at dksX1_crowdTold_2 6 rfl rfl)
theorem dX1_crowdTold_51 : decode cX1_crowdTold 51 = .ok (.ireturn, 1) := dk_172 (dk_at dksX1_crowdTold_2 7 rfl rfl)
theorem dX1_crowdTold_52 : decode cX1_crowdTold 52 = .ok (.aload_n 1, 1) := dk_43 (dk_at dksX1_crowdTold_2 8 rfl rfl)
theorem dX1_crowdTold_53 : decode cX1_crowdTold 53 = .ok (.getfield 112, 3) := dk_180 0 112 (dk_at dksX1_crowdTold_2 9 rfl rfl)
theorem dX1_crowdTold_56 : decode cX1_crowdTold 56 = .ok (.bipush 12, 2) := dk_16 12 (dk_at dksX1_crowdTold_2 12 rfl rfl)
theorem dX1_crowdTold_58 : decode cX1_crowdTold 58 = .ok (.idiv, 1) := dk_108 (dk_at dksX1_crowdTold_2 14 rfl rfl)
theorem dX1_crowdTold_59 : decode cX1_crowdTold 59 = .ok (.ireturn, 1) := dk_172 (dk_at dksX1_crowdTold_2 15 rfl rfl)
theorem dX1_crowdTold_60 : decode cX1_crowdTold 60 = .ok (.aload_n 1, 1) := dk_43 (dk_at dksX1_crowdTold_2 16 rfl rfl)
theorem dX1_crowdTold_61 : decode cX1_crowdTold 61 = .ok (.getfield 116, 3) := dk_180 0 116 (dk_at dksX1_crowdTold_2 17 rfl rfl)
theorem dX1_crowdTold_64 : decode cX1_crowdTold 64 = .ok (.ireturn, 1) := dk_172 (dk_at dksX1_crowdTold_2 20 rfl rfl)
theorem dX1_crowdTold_65 : decode cX1_crowdTold 65 = .ok (.aload_n 1, 1) := dk_43 (dk_at dksX1_crowdTold_2 21 rfl rfl)
theorem dX1_crowdTold_66 : decode cX1_crowdTold 66 = .ok (.getfield 100, 3) := dk_180 0 100 (dk_at dksX1_crowdTold_3 0 rfl rfl)
theorem dX1_crowdTold_69 : decode cX1_crowdTold 69 = .ok (.ifCond .eq 7, 3) := dk_153 0 7 (dk_at dksX1_crowdTold_3 3 rfl rfl)
theorem dX1_crowdTold_72 : decode cX1_crowdTold 72 = .ok (.iconst 1, 1) := dk_4 (dk_at dksX1_crowdTold_3 6 rfl rfl)
theorem dX1_crowdTold_73 : decode cX1_crowdTold 73 = .ok (.goto 4, 3) := dk_167 0 4 (dk_at dksX1_crowdTold_3 7 rfl rfl)
theorem dX1_crowdTold_76 : decode cX1_crowdTold 76 = .ok (.iconst 0, 1) := dk_3 (dk_at dksX1_crowdTold_3 10 rfl rfl)
theorem dX1_crowdTold_77 : decode cX1_crowdTold 77 = .ok (.ireturn, 1) := dk_172 (dk_at dksX1_crowdTold_3 11 rfl rfl)
theorem dX1_crowdTold_78 : decode cX1_crowdTold 78 = .ok (.aload_n 1, 1) := dk_43 (dk_at dksX1_crowdTold_3 12 rfl rfl)
theorem dX1_crowdTold_79 : decode cX1_crowdTold 79 = .ok (.getfield 91, 3) := dk_180 0 91 (dk_at dksX1_crowdTold_3 13 rfl rfl)
theorem dX1_crowdTold_82 : decode cX1_crowdTold 82 = .ok (.invokevirtual 69, 3) := dk_182 0 69 (dk_at dksX1_crowdTold_3 16 rfl rfl)
theorem dX1_crowdTold_85 : decode cX1_crowdTold 85 = .ok (.ireturn, 1) := dk_172 (dk_at dksX1_crowdTold_3 19 rfl rfl)
theorem dX1_crowdTold_86 : decode cX1_crowdTold 86 = .ok (.aload_n 1, 1) := dk_43 (dk_at dksX1_crowdTold_3 20 rfl rfl)
theorem dX1_crowdTold_87 : decode cX1_crowdTold 87 = .ok (.getfield 91, 3) := dk_180 0 91 (dk_at dksX1_crowdTold_3 21 rfl rfl)
theorem dX1_crowdTold_90 : decode cX1_crowdTold 90 = .ok (.invokevirtual 119, 3) := dk_182 0 119 (dk_at dksX1_crowdTold_4 0 rfl rfl)
theorem dX1_crowdTold_93 : decode cX1_crowdTold 93 = .ok (.ifCond .eq 7, 3) := dk_153 0 7 (dk_at dksX1_crowdTold_4 3 rfl rfl)
theorem dX1_crowdTold_96 : decode cX1_crowdTold 96 = .ok (.iconst (-1), 1) := dk_2 (dk_at dksX1_crowdTold_4 6 rfl rfl)
theorem dX1_crowdTold_97 : decode cX1_crowdTold 97 = .ok (.goto 17, 3) := dk_167 0 17 (dk_at dksX1_crowdTold_4 7 rfl rfl)
theorem dX1_crowdTold_100 : decode cX1_crowdTold 100 = .ok (.aload_n 1, 1) := dk_43 (dk_at dksX1_crowdTold_4 10 rfl rfl)
theorem dX1_crowdTold_101 : decode cX1_crowdTold 101 = .ok (.getfield 91, 3) := dk_180 0 91 (dk_at dksX1_crowdTold_4 11 rfl rfl)
theorem dX1_crowdTold_104 : decode cX1_crowdTold 104 = .ok (.iconst 0, 1) := dk_3 (dk_at dksX1_crowdTold_4 14 rfl rfl)
theorem dX1_crowdTold_105 : decode cX1_crowdTold 105 = .ok (.invokevirtual 122, 3) := dk_182 0 122 (dk_at dksX1_crowdTold_4 15 rfl rfl)
theorem dX1_crowdTold_108 : decode cX1_crowdTold 108 = .ok (.checkcast 95, 3) := dk_192 0 95 (dk_at dksX1_crowdTold_4 18 rfl rfl)
theorem dX1_crowdTold_111 : decode cX1_crowdTold 111 = .ok (.invokevirtual 123, 3) := dk_182 0 123 (dk_at dksX1_crowdTold_4 21 rfl rfl)
theorem dX1_crowdTold_114 : decode cX1_crowdTold 114 = .ok (.ireturn, 1) := dk_172 (dk_at dksX1_crowdTold_5 0 rfl rfl)
theorem dX1_crowdTold_115 : decode cX1_crowdTold 115 = .ok (.aload_n 1, 1) := dk_43 (dk_at dksX1_crowdTold_5 1 rfl rfl)
theorem dX1_crowdTold_116 : decode cX1_crowdTold 116 = .ok (.getfield 126, 3) := dk_180 0 126 (dk_at dksX1_crowdTold_5 2 rfl rfl)
theorem dX1_crowdTold_119 : decode cX1_crowdTold 119 = .ok (.ireturn, 1) := dk_172 (dk_at dksX1_crowdTold_5 5 rfl rfl)
theorem dX1_crowdTold_120 : decode cX1_crowdTold 120 = .ok (.aload_n 0, 1) := dk_42 (dk_at dksX1_crowdTold_5 6 rfl rfl)
theorem dX1_crowdTold_121 : decode cX1_crowdTold 121 = .ok (.getfield 39, 3) := dk_180 0 39 (dk_at dksX1_crowdTold_5 7 rfl rfl)
theorem dX1_crowdTold_124 : decode cX1_crowdTold 124 = .ok (.aload_n 1, 1) := dk_43 (dk_at dksX1_crowdTold_5 10 rfl rfl)
theorem dX1_crowdTold_125 : decode cX1_crowdTold 125 = .ok (.invokevirtual 129, 3) := dk_182 0 129 (dk_at dksX1_crowdTold_5 11 rfl rfl)
theorem dX1_crowdTold_128 : decode cX1_crowdTold 128 = .ok (.ireturn, 1) := dk_172 (dk_at dksX1_crowdTold_5 14 rfl rfl)
abbrev cX1_patrolTold : ByteArray := prog_1_method_19_code
def yX1_patrolTold : MethodName := ⟨RX1, "patrolTold", "(LLaneCrowds$Patrol;I)I"⟩
def dkwX1_patrolTold_1 : List UInt8 := [16, 12, 108, 167, 0, 20, 28, 5, 160, 0, 10, 43, 182, 0, 142, 167, 0, 8, 42, 43, 182, 0, 145, 172]
abbrev dktX1_patrolTold_1 : List UInt8 := dkwX1_patrolTold_1 ++ []
def dkwX1_patrolTold_0 : List UInt8 := [28, 154, 0, 13, 43, 180, 0, 141, 16, 12, 112, 167, 0, 35, 28, 4, 160, 0, 13, 43, 180, 0, 141]
abbrev dktX1_patrolTold_0 : List UInt8 := dkwX1_patrolTold_0 ++ dktX1_patrolTold_1
theorem dksX1_patrolTold_0 : cX1_patrolTold.data.toList.drop 0 = dktX1_patrolTold_0 := by decide +kernel
theorem dksX1_patrolTold_1 : cX1_patrolTold.data.toList.drop 23 = dktX1_patrolTold_1 := dk_seg dksX1_patrolTold_0 23 rfl rfl
theorem dX1_patrolTold_0 : decode cX1_patrolTold 0 = .ok (.iload_n 2, 1) := dk_28 (dk_at dksX1_patrolTold_0 0 rfl rfl)
theorem dX1_patrolTold_1 : decode cX1_patrolTold 1 = .ok (.ifCond .ne 13, 3) := dk_154 0 13 (dk_at dksX1_patrolTold_0 1 rfl rfl)
theorem dX1_patrolTold_4 : decode cX1_patrolTold 4 = .ok (.aload_n 1, 1) := dk_43 (dk_at dksX1_patrolTold_0 4 rfl rfl)
theorem dX1_patrolTold_5 : decode cX1_patrolTold 5 = .ok (.getfield 141, 3) := dk_180 0 141 (dk_at dksX1_patrolTold_0 5 rfl rfl)
theorem dX1_patrolTold_8 : decode cX1_patrolTold 8 = .ok (.bipush 12, 2) := dk_16 12 (dk_at dksX1_patrolTold_0 8 rfl rfl)
theorem dX1_patrolTold_10 : decode cX1_patrolTold 10 = .ok (.irem, 1) := dk_112 (dk_at dksX1_patrolTold_0 10 rfl rfl)
theorem dX1_patrolTold_11 : decode cX1_patrolTold 11 = .ok (.goto 35, 3) := dk_167 0 35 (dk_at dksX1_patrolTold_0 11 rfl rfl)
theorem dX1_patrolTold_14 : decode cX1_patrolTold 14 = .ok (.iload_n 2, 1) := dk_28 (dk_at dksX1_patrolTold_0 14 rfl rfl)
theorem dX1_patrolTold_15 : decode cX1_patrolTold 15 = .ok (.iconst 1, 1) := dk_4 (dk_at dksX1_patrolTold_0 15 rfl rfl)
theorem dX1_patrolTold_16 : decode cX1_patrolTold 16 = .ok (.if_icmp .ne 13, 3) := dk_160 0 13 (dk_at dksX1_patrolTold_0 16 rfl rfl)
theorem dX1_patrolTold_19 : decode cX1_patrolTold 19 = .ok (.aload_n 1, 1) := dk_43 (dk_at dksX1_patrolTold_0 19 rfl rfl)
theorem dX1_patrolTold_20 : decode cX1_patrolTold 20 = .ok (.getfield 141, 3) := dk_180 0 141 (dk_at dksX1_patrolTold_0 20 rfl rfl)
theorem dX1_patrolTold_23 : decode cX1_patrolTold 23 = .ok (.bipush 12, 2) := dk_16 12 (dk_at dksX1_patrolTold_1 0 rfl rfl)
theorem dX1_patrolTold_25 : decode cX1_patrolTold 25 = .ok (.idiv, 1) := dk_108 (dk_at dksX1_patrolTold_1 2 rfl rfl)
theorem dX1_patrolTold_26 : decode cX1_patrolTold 26 = .ok (.goto 20, 3) := dk_167 0 20 (dk_at dksX1_patrolTold_1 3 rfl rfl)
theorem dX1_patrolTold_29 : decode cX1_patrolTold 29 = .ok (.iload_n 2, 1) := dk_28 (dk_at dksX1_patrolTold_1 6 rfl rfl)
theorem dX1_patrolTold_30 : decode cX1_patrolTold 30 = .ok (.iconst 2, 1) := dk_5 (dk_at dksX1_patrolTold_1 7 rfl rfl)
theorem dX1_patrolTold_31 : decode cX1_patrolTold 31 = .ok (.if_icmp .ne 10, 3) := dk_160 0 10 (dk_at dksX1_patrolTold_1 8 rfl rfl)
theorem dX1_patrolTold_34 : decode cX1_patrolTold 34 = .ok (.aload_n 1, 1) := dk_43 (dk_at dksX1_patrolTold_1 11 rfl rfl)
theorem dX1_patrolTold_35 : decode cX1_patrolTold 35 = .ok (.invokevirtual 142, 3) := dk_182 0 142 (dk_at dksX1_patrolTold_1 12 rfl rfl)
theorem dX1_patrolTold_38 : decode cX1_patrolTold 38 = .ok (.goto 8, 3) := dk_167 0 8 (dk_at dksX1_patrolTold_1 15 rfl rfl)
theorem dX1_patrolTold_41 : decode cX1_patrolTold 41 = .ok (.aload_n 0, 1) := dk_42 (dk_at dksX1_patrolTold_1 18 rfl rfl)
theorem dX1_patrolTold_42 : decode cX1_patrolTold 42 = .ok (.aload_n 1, 1) := dk_43 (dk_at dksX1_patrolTold_1 19 rfl rfl)
theorem dX1_patrolTold_43 : decode cX1_patrolTold 43 = .ok (.invokevirtual 145, 3) := dk_182 0 145 (dk_at dksX1_patrolTold_1 20 rfl rfl)
theorem dX1_patrolTold_46 : decode cX1_patrolTold 46 = .ok (.ireturn, 1) := dk_172 (dk_at dksX1_patrolTold_1 23 rfl rfl)
abbrev cX1_seen : ByteArray := prog_1_method_18_code
def yX1_seen : MethodName := ⟨RX1, "seen", "(LLaneCrowds$Patrol;)I"⟩
def dkwX1_seen_2 : List UInt8 := [3, 96, 61, 132, 3, 1, 167, 255, 206, 28, 172]
abbrev dktX1_seen_2 : List UInt8 := dkwX1_seen_2 ++ []
def dkwX1_seen_1 : List UInt8 := [42, 180, 0, 39, 180, 0, 65, 29, 182, 0, 122, 192, 0, 75, 182, 0, 137, 153, 0, 7, 4, 167, 0, 4]
abbrev dktX1_seen_1 : List UInt8 := dkwX1_seen_1 ++ dktX1_seen_2
def dkwX1_seen_0 : List UInt8 := [3, 61, 3, 62, 29, 42, 180, 0, 39, 180, 0, 65, 182, 0, 69, 162, 0, 42, 28, 42, 180, 0, 39, 43]
abbrev dktX1_seen_0 : List UInt8 := dkwX1_seen_0 ++ dktX1_seen_1
theorem dksX1_seen_0 : cX1_seen.data.toList.drop 0 = dktX1_seen_0 := by decide +kernel
theorem dksX1_seen_1 : cX1_seen.data.toList.drop 24 = dktX1_seen_1 := dk_seg dksX1_seen_0 24 rfl rfl
theorem dksX1_seen_2 : cX1_seen.data.toList.drop 48 = dktX1_seen_2 := dk_seg dksX1_seen_1 24 rfl rfl
theorem dX1_seen_0 : decode cX1_seen 0 = .ok (.iconst 0, 1) := dk_3 (dk_at dksX1_seen_0 0 rfl rfl)
theorem dX1_seen_1 : decode cX1_seen 1 = .ok (.istore_n 2, 1) := dk_61 (dk_at dksX1_seen_0 1 rfl rfl)
theorem dX1_seen_2 : decode cX1_seen 2 = .ok (.iconst 0, 1) := dk_3 (dk_at dksX1_seen_0 2 rfl rfl)
theorem dX1_seen_3 : decode cX1_seen 3 = .ok (.istore_n 3, 1) := dk_62 (dk_at dksX1_seen_0 3 rfl rfl)
theorem dX1_seen_4 : decode cX1_seen 4 = .ok (.iload_n 3, 1) := dk_29 (dk_at dksX1_seen_0 4 rfl rfl)
theorem dX1_seen_5 : decode cX1_seen 5 = .ok (.aload_n 0, 1) := dk_42 (dk_at dksX1_seen_0 5 rfl rfl)
theorem dX1_seen_6 : decode cX1_seen 6 = .ok (.getfield 39, 3) := dk_180 0 39 (dk_at dksX1_seen_0 6 rfl rfl)
theorem dX1_seen_9 : decode cX1_seen 9 = .ok (.getfield 65, 3) := dk_180 0 65 (dk_at dksX1_seen_0 9 rfl rfl)
theorem dX1_seen_12 : decode cX1_seen 12 = .ok (.invokevirtual 69, 3) := dk_182 0 69 (dk_at dksX1_seen_0 12 rfl rfl)
theorem dX1_seen_15 : decode cX1_seen 15 = .ok (.if_icmp .ge 42, 3) := dk_162 0 42 (dk_at dksX1_seen_0 15 rfl rfl)
theorem dX1_seen_18 : decode cX1_seen 18 = .ok (.iload_n 2, 1) := dk_28 (dk_at dksX1_seen_0 18 rfl rfl)
theorem dX1_seen_19 : decode cX1_seen 19 = .ok (.aload_n 0, 1) := dk_42 (dk_at dksX1_seen_0 19 rfl rfl)
theorem dX1_seen_20 : decode cX1_seen 20 = .ok (.getfield 39, 3) := dk_180 0 39 (dk_at dksX1_seen_0 20 rfl rfl)
theorem dX1_seen_23 : decode cX1_seen 23 = .ok (.aload_n 1, 1) := dk_43 (dk_at dksX1_seen_0 23 rfl rfl)
theorem dX1_seen_24 : decode cX1_seen 24 = .ok (.aload_n 0, 1) := dk_42 (dk_at dksX1_seen_1 0 rfl rfl)
theorem dX1_seen_25 : decode cX1_seen 25 = .ok (.getfield 39, 3) := dk_180 0 39 (dk_at dksX1_seen_1 1 rfl rfl)
theorem dX1_seen_28 : decode cX1_seen 28 = .ok (.getfield 65, 3) := dk_180 0 65 (dk_at dksX1_seen_1 4 rfl rfl)
theorem dX1_seen_31 : decode cX1_seen 31 = .ok (.iload_n 3, 1) := dk_29 (dk_at dksX1_seen_1 7 rfl rfl)
theorem dX1_seen_32 : decode cX1_seen 32 = .ok (.invokevirtual 122, 3) := dk_182 0 122 (dk_at dksX1_seen_1 8 rfl rfl)
theorem dX1_seen_35 : decode cX1_seen 35 = .ok (.checkcast 75, 3) := dk_192 0 75 (dk_at dksX1_seen_1 11 rfl rfl)
theorem dX1_seen_38 : decode cX1_seen 38 = .ok (.invokevirtual 137, 3) := dk_182 0 137 (dk_at dksX1_seen_1 14 rfl rfl)
theorem dX1_seen_41 : decode cX1_seen 41 = .ok (.ifCond .eq 7, 3) := dk_153 0 7 (dk_at dksX1_seen_1 17 rfl rfl)
theorem dX1_seen_44 : decode cX1_seen 44 = .ok (.iconst 1, 1) := dk_4 (dk_at dksX1_seen_1 20 rfl rfl)
theorem dX1_seen_45 : decode cX1_seen 45 = .ok (.goto 4, 3) := dk_167 0 4 (dk_at dksX1_seen_1 21 rfl rfl)
theorem dX1_seen_48 : decode cX1_seen 48 = .ok (.iconst 0, 1) := dk_3 (dk_at dksX1_seen_2 0 rfl rfl)
theorem dX1_seen_49 : decode cX1_seen 49 = .ok (.iadd, 1) := dk_96 (dk_at dksX1_seen_2 1 rfl rfl)
theorem dX1_seen_50 : decode cX1_seen 50 = .ok (.istore_n 2, 1) := dk_61 (dk_at dksX1_seen_2 2 rfl rfl)
theorem dX1_seen_51 : decode cX1_seen 51 = .ok (.iinc 3 1, 3) := dk_132 3 1 (dk_at dksX1_seen_2 3 rfl rfl)
theorem dX1_seen_54 : decode cX1_seen 54 = .ok (.goto (-50), 3) := dk_167 255 206 (dk_at dksX1_seen_2 6 rfl rfl)
theorem dX1_seen_57 : decode cX1_seen 57 = .ok (.iload_n 2, 1) := dk_28 (dk_at dksX1_seen_2 9 rfl rfl)
theorem dX1_seen_58 : decode cX1_seen 58 = .ok (.ireturn, 1) := dk_172 (dk_at dksX1_seen_2 10 rfl rfl)
abbrev cX1_house : ByteArray := prog_1_method_9_code
def yX1_house : MethodName := ⟨RX1, "house", "(II)Z"⟩
def dkwX1_house_3 : List UInt8 := [180, 0, 47, 29, 46, 2, 160, 0, 7, 4, 167, 0, 4, 3, 172]
abbrev dktX1_house_3 : List UInt8 := dkwX1_house_3 ++ []
def dkwX1_house_2 : List UInt8 := [180, 0, 39, 180, 0, 47, 29, 46, 2, 160, 0, 7, 3, 167, 0, 4, 2, 79, 42, 180, 0, 39]
abbrev dktX1_house_2 : List UInt8 := dkwX1_house_2 ++ dktX1_house_3
def dkwX1_house_1 : List UInt8 := [182, 0, 51, 154, 0, 7, 4, 167, 0, 4, 3, 184, 0, 55, 42, 180, 0, 39, 180, 0, 47, 29, 42]
abbrev dktX1_house_1 : List UInt8 := dkwX1_house_1 ++ dktX1_house_2
def dkwX1_house_0 : List UInt8 := [27, 28, 184, 0, 43, 62, 42, 180, 0, 39, 180, 0, 47, 29, 46, 157, 0, 18, 42, 180, 0, 39, 29]
abbrev dktX1_house_0 : List UInt8 := dkwX1_house_0 ++ dktX1_house_1
theorem dksX1_house_0 : cX1_house.data.toList.drop 0 = dktX1_house_0 := by decide +kernel
theorem dksX1_house_1 : cX1_house.data.toList.drop 23 = dktX1_house_1 := dk_seg dksX1_house_0 23 rfl rfl
theorem dksX1_house_2 : cX1_house.data.toList.drop 46 = dktX1_house_2 := dk_seg dksX1_house_1 23 rfl rfl
theorem dksX1_house_3 : cX1_house.data.toList.drop 68 = dktX1_house_3 := dk_seg dksX1_house_2 22 rfl rfl
theorem dX1_house_0 : decode cX1_house 0 = .ok (.iload_n 1, 1) := dk_27 (dk_at dksX1_house_0 0 rfl rfl)
theorem dX1_house_1 : decode cX1_house 1 = .ok (.iload_n 2, 1) := dk_28 (dk_at dksX1_house_0 1 rfl rfl)
theorem dX1_house_2 : decode cX1_house 2 = .ok (.invokestatic 43, 3) := dk_184 0 43 (dk_at dksX1_house_0 2 rfl rfl)
theorem dX1_house_5 : decode cX1_house 5 = .ok (.istore_n 3, 1) := dk_62 (dk_at dksX1_house_0 5 rfl rfl)
theorem dX1_house_6 : decode cX1_house 6 = .ok (.aload_n 0, 1) := dk_42 (dk_at dksX1_house_0 6 rfl rfl)
theorem dX1_house_7 : decode cX1_house 7 = .ok (.getfield 39, 3) := dk_180 0 39 (dk_at dksX1_house_0 7 rfl rfl)
theorem dX1_house_10 : decode cX1_house 10 = .ok (.getfield 47, 3) := dk_180 0 47 (dk_at dksX1_house_0 10 rfl rfl)
theorem dX1_house_13 : decode cX1_house 13 = .ok (.iload_n 3, 1) := dk_29 (dk_at dksX1_house_0 13 rfl rfl)
theorem dX1_house_14 : decode cX1_house 14 = .ok (.iaload, 1) := dk_46 (dk_at dksX1_house_0 14 rfl rfl)
theorem dX1_house_15 : decode cX1_house 15 = .ok (.ifCond .gt 18, 3) := dk_157 0 18 (dk_at dksX1_house_0 15 rfl rfl)
theorem dX1_house_18 : decode cX1_house 18 = .ok (.aload_n 0, 1) := dk_42 (dk_at dksX1_house_0 18 rfl rfl)
theorem dX1_house_19 : decode cX1_house 19 = .ok (.getfield 39, 3) := dk_180 0 39 (dk_at dksX1_house_0 19 rfl rfl)
theorem dX1_house_22 : decode cX1_house 22 = .ok (.iload_n 3, 1) := dk_29 (dk_at dksX1_house_0 22 rfl rfl)
theorem dX1_house_23 : decode cX1_house 23 = .ok (.invokevirtual 51, 3) := dk_182 0 51 (dk_at dksX1_house_1 0 rfl rfl)
theorem dX1_house_26 : decode cX1_house 26 = .ok (.ifCond .ne 7, 3) := dk_154 0 7 (dk_at dksX1_house_1 3 rfl rfl)
theorem dX1_house_29 : decode cX1_house 29 = .ok (.iconst 1, 1) := dk_4 (dk_at dksX1_house_1 6 rfl rfl)
theorem dX1_house_30 : decode cX1_house 30 = .ok (.goto 4, 3) := dk_167 0 4 (dk_at dksX1_house_1 7 rfl rfl)
theorem dX1_house_33 : decode cX1_house 33 = .ok (.iconst 0, 1) := dk_3 (dk_at dksX1_house_1 10 rfl rfl)
theorem dX1_house_34 : decode cX1_house 34 = .ok (.invokestatic 55, 3) := dk_184 0 55 (dk_at dksX1_house_1 11 rfl rfl)
theorem dX1_house_37 : decode cX1_house 37 = .ok (.aload_n 0, 1) := dk_42 (dk_at dksX1_house_1 14 rfl rfl)
theorem dX1_house_38 : decode cX1_house 38 = .ok (.getfield 39, 3) := dk_180 0 39 (dk_at dksX1_house_1 15 rfl rfl)
theorem dX1_house_41 : decode cX1_house 41 = .ok (.getfield 47, 3) := dk_180 0 47 (dk_at dksX1_house_1 18 rfl rfl)
theorem dX1_house_44 : decode cX1_house 44 = .ok (.iload_n 3, 1) := dk_29 (dk_at dksX1_house_1 21 rfl rfl)
theorem dX1_house_45 : decode cX1_house 45 = .ok (.aload_n 0, 1) := dk_42 (dk_at dksX1_house_1 22 rfl rfl)
theorem dX1_house_46 : decode cX1_house 46 = .ok (.getfield 39, 3) := dk_180 0 39 (dk_at dksX1_house_2 0 rfl rfl)
theorem dX1_house_49 : decode cX1_house 49 = .ok (.getfield 47, 3) := dk_180 0 47 (dk_at dksX1_house_2 3 rfl rfl)
theorem dX1_house_52 : decode cX1_house 52 = .ok (.iload_n 3, 1) := dk_29 (dk_at dksX1_house_2 6 rfl rfl)
theorem dX1_house_53 : decode cX1_house 53 = .ok (.iaload, 1) := dk_46 (dk_at dksX1_house_2 7 rfl rfl)
theorem dX1_house_54 : decode cX1_house 54 = .ok (.iconst (-1), 1) := dk_2 (dk_at dksX1_house_2 8 rfl rfl)
theorem dX1_house_55 : decode cX1_house 55 = .ok (.if_icmp .ne 7, 3) := dk_160 0 7 (dk_at dksX1_house_2 9 rfl rfl)
theorem dX1_house_58 : decode cX1_house 58 = .ok (.iconst 0, 1) := dk_3 (dk_at dksX1_house_2 12 rfl rfl)
theorem dX1_house_59 : decode cX1_house 59 = .ok (.goto 4, 3) := dk_167 0 4 (dk_at dksX1_house_2 13 rfl rfl)
theorem dX1_house_62 : decode cX1_house 62 = .ok (.iconst (-1), 1) := dk_2 (dk_at dksX1_house_2 16 rfl rfl)
theorem dX1_house_63 : decode cX1_house 63 = .ok (.iastore, 1) := dk_79 (dk_at dksX1_house_2 17 rfl rfl)
theorem dX1_house_64 : decode cX1_house 64 = .ok (.aload_n 0, 1) := dk_42 (dk_at dksX1_house_2 18 rfl rfl)
theorem dX1_house_65 : decode cX1_house 65 = .ok (.getfield 39, 3) := dk_180 0 39 (dk_at dksX1_house_2 19 rfl rfl)
theorem dX1_house_68 : decode cX1_house 68 = .ok (.getfield 47, 3) := dk_180 0 47 (dk_at dksX1_house_3 0 rfl rfl)
theorem dX1_house_71 : decode cX1_house 71 = .ok (.iload_n 3, 1) := dk_29 (dk_at dksX1_house_3 3 rfl rfl)
theorem dX1_house_72 : decode cX1_house 72 = .ok (.iaload, 1) := dk_46 (dk_at dksX1_house_3 4 rfl rfl)
theorem dX1_house_73 : decode cX1_house 73 = .ok (.iconst (-1), 1) := dk_2 (dk_at dksX1_house_3 5 rfl rfl)
theorem dX1_house_74 : decode cX1_house 74 = .ok (.if_icmp .ne 7, 3) := dk_160 0 7 (dk_at dksX1_house_3 6 rfl rfl)
theorem dX1_house_77 : decode cX1_house 77 = .ok (.iconst 1, 1) := dk_4 (dk_at dksX1_house_3 9 rfl rfl)
theorem dX1_house_78 : decode cX1_house 78 = .ok (.goto 4, 3) := dk_167 0 4 (dk_at dksX1_house_3 10 rfl rfl)
theorem dX1_house_81 : decode cX1_house 81 = .ok (.iconst 0, 1) := dk_3 (dk_at dksX1_house_3 13 rfl rfl)
theorem dX1_house_82 : decode cX1_house 82 = .ok (.ireturn, 1) := dk_172 (dk_at dksX1_house_3 14 rfl rfl)
abbrev cX1_cellAt : ByteArray := prog_1_method_6_code
def yX1_cellAt : MethodName := ⟨RX1, "cellAt", "(II)I"⟩
def dkwX1_cellAt_0 : List UInt8 := [26, 16, 12, 184, 0, 25, 27, 16, 9, 184, 0, 25, 16, 12, 27, 104, 26, 96, 172]
abbrev dktX1_cellAt_0 : List UInt8 := dkwX1_cellAt_0 ++ []
theorem dksX1_cellAt_0 : cX1_cellAt.data.toList.drop 0 = dktX1_cellAt_0 := by decide +kernel
theorem dX1_cellAt_0 : decode cX1_cellAt 0 = .ok (.iload_n 0, 1) := dk_26 (dk_at dksX1_cellAt_0 0 rfl rfl)
theorem dX1_cellAt_1 : decode cX1_cellAt 1 = .ok (.bipush 12, 2) := dk_16 12 (dk_at dksX1_cellAt_0 1 rfl rfl)
theorem dX1_cellAt_3 : decode cX1_cellAt 3 = .ok (.invokestatic 25, 3) := dk_184 0 25 (dk_at dksX1_cellAt_0 3 rfl rfl)
theorem dX1_cellAt_6 : decode cX1_cellAt 6 = .ok (.iload_n 1, 1) := dk_27 (dk_at dksX1_cellAt_0 6 rfl rfl)
theorem dX1_cellAt_7 : decode cX1_cellAt 7 = .ok (.bipush 9, 2) := dk_16 9 (dk_at dksX1_cellAt_0 7 rfl rfl)
theorem dX1_cellAt_9 : decode cX1_cellAt 9 = .ok (.invokestatic 25, 3) := dk_184 0 25 (dk_at dksX1_cellAt_0 9 rfl rfl)
theorem dX1_cellAt_12 : decode cX1_cellAt 12 = .ok (.bipush 12, 2) := dk_16 12 (dk_at dksX1_cellAt_0 12 rfl rfl)
theorem dX1_cellAt_14 : decode cX1_cellAt 14 = .ok (.iload_n 1, 1) := dk_27 (dk_at dksX1_cellAt_0 14 rfl rfl)
theorem dX1_cellAt_15 : decode cX1_cellAt 15 = .ok (.imul, 1) := dk_104 (dk_at dksX1_cellAt_0 15 rfl rfl)
theorem dX1_cellAt_16 : decode cX1_cellAt 16 = .ok (.iload_n 0, 1) := dk_26 (dk_at dksX1_cellAt_0 16 rfl rfl)
theorem dX1_cellAt_17 : decode cX1_cellAt 17 = .ok (.iadd, 1) := dk_96 (dk_at dksX1_cellAt_0 17 rfl rfl)
theorem dX1_cellAt_18 : decode cX1_cellAt 18 = .ok (.ireturn, 1) := dk_172 (dk_at dksX1_cellAt_0 18 rfl rfl)
abbrev cX1_requireIndex : ByteArray := prog_1_method_3_code
def yX1_requireIndex : MethodName := ⟨RX1, "requireIndex", "(II)V"⟩
def dkwX1_requireIndex_0 : List UInt8 := [26, 155, 0, 8, 26, 27, 161, 0, 11, 187, 0, 12, 89, 183, 0, 14, 191, 177]
abbrev dktX1_requireIndex_0 : List UInt8 := dkwX1_requireIndex_0 ++ []
theorem dksX1_requireIndex_0 : cX1_requireIndex.data.toList.drop 0 = dktX1_requireIndex_0 := by decide +kernel
theorem dX1_requireIndex_0 : decode cX1_requireIndex 0 = .ok (.iload_n 0, 1) := dk_26 (dk_at dksX1_requireIndex_0 0 rfl rfl)
theorem dX1_requireIndex_1 : decode cX1_requireIndex 1 = .ok (.ifCond .lt 8, 3) := dk_155 0 8 (dk_at dksX1_requireIndex_0 1 rfl rfl)
theorem dX1_requireIndex_4 : decode cX1_requireIndex 4 = .ok (.iload_n 0, 1) := dk_26 (dk_at dksX1_requireIndex_0 4 rfl rfl)
theorem dX1_requireIndex_5 : decode cX1_requireIndex 5 = .ok (.iload_n 1, 1) := dk_27 (dk_at dksX1_requireIndex_0 5 rfl rfl)
theorem dX1_requireIndex_6 : decode cX1_requireIndex 6 = .ok (.if_icmp .lt 11, 3) := dk_161 0 11 (dk_at dksX1_requireIndex_0 6 rfl rfl)
theorem dX1_requireIndex_9 : decode cX1_requireIndex 9 = .ok (.new 12, 3) := dk_187 0 12 (dk_at dksX1_requireIndex_0 9 rfl rfl)
theorem dX1_requireIndex_12 : decode cX1_requireIndex 12 = .ok (.dup, 1) := dk_89 (dk_at dksX1_requireIndex_0 12 rfl rfl)
theorem dX1_requireIndex_13 : decode cX1_requireIndex 13 = .ok (.invokespecial 14, 3) := dk_183 0 14 (dk_at dksX1_requireIndex_0 13 rfl rfl)
theorem dX1_requireIndex_16 : decode cX1_requireIndex 16 = .ok (.athrow, 1) := dk_191 (dk_at dksX1_requireIndex_0 16 rfl rfl)
theorem dX1_requireIndex_17 : decode cX1_requireIndex 17 = .ok (.return_, 1) := dk_177 (dk_at dksX1_requireIndex_0 17 rfl rfl)
abbrev cX1_requireState : ByteArray := prog_1_method_2_code
def yX1_requireState : MethodName := ⟨RX1, "requireState", "(Z)V"⟩
def dkwX1_requireState_0 : List UInt8 := [26, 154, 0, 11, 187, 0, 9, 89, 183, 0, 11, 191, 177]
abbrev dktX1_requireState_0 : List UInt8 := dkwX1_requireState_0 ++ []
theorem dksX1_requireState_0 : cX1_requireState.data.toList.drop 0 = dktX1_requireState_0 := by decide +kernel
theorem dX1_requireState_0 : decode cX1_requireState 0 = .ok (.iload_n 0, 1) := dk_26 (dk_at dksX1_requireState_0 0 rfl rfl)
theorem dX1_requireState_1 : decode cX1_requireState 1 = .ok (.ifCond .ne 11, 3) := dk_154 0 11 (dk_at dksX1_requireState_0 1 rfl rfl)
theorem dX1_requireState_4 : decode cX1_requireState 4 = .ok (.new 9, 3) := dk_187 0 9 (dk_at dksX1_requireState_0 4 rfl rfl)
theorem dX1_requireState_7 : decode cX1_requireState 7 = .ok (.dup, 1) := dk_89 (dk_at dksX1_requireState_0 7 rfl rfl)
theorem dX1_requireState_8 : decode cX1_requireState 8 = .ok (.invokespecial 11, 3) := dk_183 0 11 (dk_at dksX1_requireState_0 8 rfl rfl)
theorem dX1_requireState_11 : decode cX1_requireState 11 = .ok (.athrow, 1) := dk_191 (dk_at dksX1_requireState_0 11 rfl rfl)
theorem dX1_requireState_12 : decode cX1_requireState 12 = .ok (.return_, 1) := dk_177 (dk_at dksX1_requireState_0 12 rfl rfl)
abbrev cX1_block : ByteArray := prog_1_method_10_code
def yX1_block : MethodName := ⟨RX1, "block", "(III)I"⟩
def dkwX1_block_3 : List UInt8 := [172]
abbrev dktX1_block_3 : List UInt8 := dkwX1_block_3 ++ []
def dkwX1_block_2 : List UInt8 := [180, 0, 39, 180, 0, 47, 21, 4, 46, 54, 5, 42, 180, 0, 39, 180, 0, 47, 21, 4, 29, 79, 21, 5]
abbrev dktX1_block_2 : List UInt8 := dkwX1_block_2 ++ dktX1_block_3
def dkwX1_block_1 : List UInt8 := [153, 0, 19, 42, 180, 0, 39, 21, 4, 182, 0, 51, 154, 0, 7, 4, 167, 0, 4, 3, 184, 0, 55, 42]
abbrev dktX1_block_1 : List UInt8 := dkwX1_block_1 ++ dktX1_block_2
def dkwX1_block_0 : List UInt8 := [27, 28, 184, 0, 43, 54, 4, 3, 6, 29, 184, 0, 58, 42, 180, 0, 39, 21, 4, 182, 0, 62]
abbrev dktX1_block_0 : List UInt8 := dkwX1_block_0 ++ dktX1_block_1
theorem dksX1_block_0 : cX1_block.data.toList.drop 0 = dktX1_block_0 := by decide +kernel
theorem dksX1_block_1 : cX1_block.data.toList.drop 22 = dktX1_block_1 := dk_seg dksX1_block_0 22 rfl rfl
theorem dksX1_block_2 : cX1_block.data.toList.drop 46 = dktX1_block_2 := dk_seg dksX1_block_1 24 rfl rfl
theorem dksX1_block_3 : cX1_block.data.toList.drop 70 = dktX1_block_3 := dk_seg dksX1_block_2 24 rfl rfl
theorem dX1_block_0 : decode cX1_block 0 = .ok (.iload_n 1, 1) := dk_27 (dk_at dksX1_block_0 0 rfl rfl)
theorem dX1_block_1 : decode cX1_block 1 = .ok (.iload_n 2, 1) := dk_28 (dk_at dksX1_block_0 1 rfl rfl)
theorem dX1_block_2 : decode cX1_block 2 = .ok (.invokestatic 43, 3) := dk_184 0 43 (dk_at dksX1_block_0 2 rfl rfl)
theorem dX1_block_5 : decode cX1_block 5 = .ok (.istore 4, 2) := dk_54 4 (dk_at dksX1_block_0 5 rfl rfl)
theorem dX1_block_7 : decode cX1_block 7 = .ok (.iconst 0, 1) := dk_3 (dk_at dksX1_block_0 7 rfl rfl)
theorem dX1_block_8 : decode cX1_block 8 = .ok (.iconst 3, 1) := dk_6 (dk_at dksX1_block_0 8 rfl rfl)
theorem dX1_block_9 : decode cX1_block 9 = .ok (.iload_n 3, 1) := dk_29 (dk_at dksX1_block_0 9 rfl rfl)
theorem dX1_block_10 : decode cX1_block 10 = .ok (.invokestatic 58, 3) := dk_184 0 58 (dk_at dksX1_block_0 10 rfl rfl)
theorem dX1_block_13 : decode cX1_block 13 = .ok (.aload_n 0, 1) := dk_42 (dk_at dksX1_block_0 13 rfl rfl)
theorem dX1_block_14 : decode cX1_block 14 = .ok (.getfield 39, 3) := dk_180 0 39 (dk_at dksX1_block_0 14 rfl rfl)
theorem dX1_block_17 : decode cX1_block 17 = .ok (.iload 4, 2) := dk_21 4 (dk_at dksX1_block_0 17 rfl rfl)
theorem dX1_block_19 : decode cX1_block 19 = .ok (.invokevirtual 62, 3) := dk_182 0 62 (dk_at dksX1_block_0 19 rfl rfl)
theorem dX1_block_22 : decode cX1_block 22 = .ok (.ifCond .eq 19, 3) := dk_153 0 19 (dk_at dksX1_block_1 0 rfl rfl)
theorem dX1_block_25 : decode cX1_block 25 = .ok (.aload_n 0, 1) := dk_42 (dk_at dksX1_block_1 3 rfl rfl)
theorem dX1_block_26 : decode cX1_block 26 = .ok (.getfield 39, 3) := dk_180 0 39 (dk_at dksX1_block_1 4 rfl rfl)
theorem dX1_block_29 : decode cX1_block 29 = .ok (.iload 4, 2) := dk_21 4 (dk_at dksX1_block_1 7 rfl rfl)
theorem dX1_block_31 : decode cX1_block 31 = .ok (.invokevirtual 51, 3) := dk_182 0 51 (dk_at dksX1_block_1 9 rfl rfl)
theorem dX1_block_34 : decode cX1_block 34 = .ok (.ifCond .ne 7, 3) := dk_154 0 7 (dk_at dksX1_block_1 12 rfl rfl)
theorem dX1_block_37 : decode cX1_block 37 = .ok (.iconst 1, 1) := dk_4 (dk_at dksX1_block_1 15 rfl rfl)
theorem dX1_block_38 : decode cX1_block 38 = .ok (.goto 4, 3) := dk_167 0 4 (dk_at dksX1_block_1 16 rfl rfl)
theorem dX1_block_41 : decode cX1_block 41 = .ok (.iconst 0, 1) := dk_3 (dk_at dksX1_block_1 19 rfl rfl)
theorem dX1_block_42 : decode cX1_block 42 = .ok (.invokestatic 55, 3) := dk_184 0 55 (dk_at dksX1_block_1 20 rfl rfl)
theorem dX1_block_45 : decode cX1_block 45 = .ok (.aload_n 0, 1) := dk_42 (dk_at dksX1_block_1 23 rfl rfl)
theorem dX1_block_46 : decode cX1_block 46 = .ok (.getfield 39, 3) := dk_180 0 39 (dk_at dksX1_block_2 0 rfl rfl)
theorem dX1_block_49 : decode cX1_block 49 = .ok (.getfield 47, 3) := dk_180 0 47 (dk_at dksX1_block_2 3 rfl rfl)
theorem dX1_block_52 : decode cX1_block 52 = .ok (.iload 4, 2) := dk_21 4 (dk_at dksX1_block_2 6 rfl rfl)
theorem dX1_block_54 : decode cX1_block 54 = .ok (.iaload, 1) := dk_46 (dk_at dksX1_block_2 8 rfl rfl)
theorem dX1_block_55 : decode cX1_block 55 = .ok (.istore 5, 2) := dk_54 5 (dk_at dksX1_block_2 9 rfl rfl)
theorem dX1_block_57 : decode cX1_block 57 = .ok (.aload_n 0, 1) := dk_42 (dk_at dksX1_block_2 11 rfl rfl)
theorem dX1_block_58 : decode cX1_block 58 = .ok (.getfield 39, 3) := dk_180 0 39 (dk_at dksX1_block_2 12 rfl rfl)
theorem dX1_block_61 : decode cX1_block 61 = .ok (.getfield 47, 3) := dk_180 0 47 (dk_at dksX1_block_2 15 rfl rfl)
theorem dX1_block_64 : decode cX1_block 64 = .ok (.iload 4, 2) := dk_21 4 (dk_at dksX1_block_2 18 rfl rfl)
theorem dX1_block_66 : decode cX1_block 66 = .ok (.iload_n 3, 1) := dk_29 (dk_at dksX1_block_2 20 rfl rfl)
theorem dX1_block_67 : decode cX1_block 67 = .ok (.iastore, 1) := dk_79 (dk_at dksX1_block_2 21 rfl rfl)
theorem dX1_block_68 : decode cX1_block 68 = .ok (.iload 5, 2) := dk_21 5 (dk_at dksX1_block_2 22 rfl rfl)
theorem dX1_block_70 : decode cX1_block 70 = .ok (.ireturn, 1) := dk_172 (dk_at dksX1_block_3 0 rfl rfl)
abbrev cX1_requireFrom : ByteArray := prog_1_method_4_code
def yX1_requireFrom : MethodName := ⟨RX1, "requireFrom", "(III)V"⟩
def dkwX1_requireFrom_0 : List UInt8 := [28, 26, 161, 0, 12, 28, 27, 163, 0, 7, 4, 167, 0, 4, 3, 184, 0, 15, 177]
abbrev dktX1_requireFrom_0 : List UInt8 := dkwX1_requireFrom_0 ++ []
theorem dksX1_requireFrom_0 : cX1_requireFrom.data.toList.drop 0 = dktX1_requireFrom_0 := by decide +kernel
theorem dX1_requireFrom_0 : decode cX1_requireFrom 0 = .ok (.iload_n 2, 1) := dk_28 (dk_at dksX1_requireFrom_0 0 rfl rfl)
theorem dX1_requireFrom_1 : decode cX1_requireFrom 1 = .ok (.iload_n 0, 1) := dk_26 (dk_at dksX1_requireFrom_0 1 rfl rfl)
theorem dX1_requireFrom_2 : decode cX1_requireFrom 2 = .ok (.if_icmp .lt 12, 3) := dk_161 0 12 (dk_at dksX1_requireFrom_0 2 rfl rfl)
theorem dX1_requireFrom_5 : decode cX1_requireFrom 5 = .ok (.iload_n 2, 1) := dk_28 (dk_at dksX1_requireFrom_0 5 rfl rfl)
theorem dX1_requireFrom_6 : decode cX1_requireFrom 6 = .ok (.iload_n 1, 1) := dk_27 (dk_at dksX1_requireFrom_0 6 rfl rfl)
theorem dX1_requireFrom_7 : decode cX1_requireFrom 7 = .ok (.if_icmp .gt 7, 3) := dk_163 0 7 (dk_at dksX1_requireFrom_0 7 rfl rfl)
theorem dX1_requireFrom_10 : decode cX1_requireFrom 10 = .ok (.iconst 1, 1) := dk_4 (dk_at dksX1_requireFrom_0 10 rfl rfl)
theorem dX1_requireFrom_11 : decode cX1_requireFrom 11 = .ok (.goto 4, 3) := dk_167 0 4 (dk_at dksX1_requireFrom_0 11 rfl rfl)
theorem dX1_requireFrom_14 : decode cX1_requireFrom 14 = .ok (.iconst 0, 1) := dk_3 (dk_at dksX1_requireFrom_0 14 rfl rfl)
theorem dX1_requireFrom_15 : decode cX1_requireFrom 15 = .ok (.invokestatic 15, 3) := dk_184 0 15 (dk_at dksX1_requireFrom_0 15 rfl rfl)
theorem dX1_requireFrom_18 : decode cX1_requireFrom 18 = .ok (.return_, 1) := dk_177 (dk_at dksX1_requireFrom_0 18 rfl rfl)
abbrev cX1_require : ByteArray := prog_1_method_1_code
def yX1_require : MethodName := ⟨RX1, "require", "(Z)V"⟩
def dkwX1_require_0 : List UInt8 := [26, 154, 0, 11, 187, 0, 3, 89, 183, 0, 5, 191, 177]
abbrev dktX1_require_0 : List UInt8 := dkwX1_require_0 ++ []
theorem dksX1_require_0 : cX1_require.data.toList.drop 0 = dktX1_require_0 := by decide +kernel
theorem dX1_require_0 : decode cX1_require 0 = .ok (.iload_n 0, 1) := dk_26 (dk_at dksX1_require_0 0 rfl rfl)
theorem dX1_require_1 : decode cX1_require 1 = .ok (.ifCond .ne 11, 3) := dk_154 0 11 (dk_at dksX1_require_0 1 rfl rfl)
theorem dX1_require_4 : decode cX1_require 4 = .ok (.new 3, 3) := dk_187 0 3 (dk_at dksX1_require_0 4 rfl rfl)
theorem dX1_require_7 : decode cX1_require 7 = .ok (.dup, 1) := dk_89 (dk_at dksX1_require_0 7 rfl rfl)
theorem dX1_require_8 : decode cX1_require 8 = .ok (.invokespecial 5, 3) := dk_183 0 5 (dk_at dksX1_require_0 8 rfl rfl)
theorem dX1_require_11 : decode cX1_require 11 = .ok (.athrow, 1) := dk_191 (dk_at dksX1_require_0 11 rfl rfl)
theorem dX1_require_12 : decode cX1_require 12 = .ok (.return_, 1) := dk_177 (dk_at dksX1_require_0 12 rfl rfl)
abbrev cX1_cell : ByteArray := prog_1_method_11_code
def yX1_cell : MethodName := ⟨RX1, "cell", "(II)I"⟩
def dkwX1_cell_0 : List UInt8 := [42, 180, 0, 39, 180, 0, 47, 27, 28, 184, 0, 43, 46, 172]
abbrev dktX1_cell_0 : List UInt8 := dkwX1_cell_0 ++ []
theorem dksX1_cell_0 : cX1_cell.data.toList.drop 0 = dktX1_cell_0 := by decide +kernel
theorem dX1_cell_0 : decode cX1_cell 0 = .ok (.aload_n 0, 1) := dk_42 (dk_at dksX1_cell_0 0 rfl rfl)
theorem dX1_cell_1 : decode cX1_cell 1 = .ok (.getfield 39, 3) := dk_180 0 39 (dk_at dksX1_cell_0 1 rfl rfl)
theorem dX1_cell_4 : decode cX1_cell 4 = .ok (.getfield 47, 3) := dk_180 0 47 (dk_at dksX1_cell_0 4 rfl rfl)
theorem dX1_cell_7 : decode cX1_cell 7 = .ok (.iload_n 1, 1) := dk_27 (dk_at dksX1_cell_0 7 rfl rfl)
theorem dX1_cell_8 : decode cX1_cell 8 = .ok (.iload_n 2, 1) := dk_28 (dk_at dksX1_cell_0 8 rfl rfl)
theorem dX1_cell_9 : decode cX1_cell 9 = .ok (.invokestatic 43, 3) := dk_184 0 43 (dk_at dksX1_cell_0 9 rfl rfl)
theorem dX1_cell_12 : decode cX1_cell 12 = .ok (.iaload, 1) := dk_46 (dk_at dksX1_cell_0 12 rfl rfl)
theorem dX1_cell_13 : decode cX1_cell 13 = .ok (.ireturn, 1) := dk_172 (dk_at dksX1_cell_0 13 rfl rfl)
abbrev cX1_gather : ByteArray := prog_1_method_12_code
def yX1_gather : MethodName := ⟨RX1, "gather", "(III)I"⟩
def dkwX1_gather_3 : List UInt8 := [42, 180, 0, 39, 180, 0, 65, 182, 0, 69, 4, 100, 172]
abbrev dktX1_gather_3 : List UInt8 := dkwX1_gather_3 ++ []
def dkwX1_gather_2 : List UInt8 := [184, 0, 55, 42, 180, 0, 39, 180, 0, 65, 187, 0, 75, 89, 21, 4, 29, 183, 0, 77, 182, 0, 79, 87]
abbrev dktX1_gather_2 : List UInt8 := dkwX1_gather_2 ++ dktX1_gather_3
def dkwX1_gather_1 : List UInt8 := [16, 6, 162, 0, 19, 42, 180, 0, 39, 21, 4, 182, 0, 72, 153, 0, 7, 4, 167, 0, 4, 3]
abbrev dktX1_gather_1 : List UInt8 := dkwX1_gather_1 ++ dktX1_gather_2
def dkwX1_gather_0 : List UInt8 := [27, 28, 184, 0, 43, 54, 4, 4, 16, 9, 29, 184, 0, 58, 42, 180, 0, 39, 180, 0, 65, 182, 0, 69]
abbrev dktX1_gather_0 : List UInt8 := dkwX1_gather_0 ++ dktX1_gather_1
theorem dksX1_gather_0 : cX1_gather.data.toList.drop 0 = dktX1_gather_0 := by decide +kernel
theorem dksX1_gather_1 : cX1_gather.data.toList.drop 24 = dktX1_gather_1 := dk_seg dksX1_gather_0 24 rfl rfl
theorem dksX1_gather_2 : cX1_gather.data.toList.drop 46 = dktX1_gather_2 := dk_seg dksX1_gather_1 22 rfl rfl
theorem dksX1_gather_3 : cX1_gather.data.toList.drop 70 = dktX1_gather_3 := dk_seg dksX1_gather_2 24 rfl rfl
theorem dX1_gather_0 : decode cX1_gather 0 = .ok (.iload_n 1, 1) := dk_27 (dk_at dksX1_gather_0 0 rfl rfl)
theorem dX1_gather_1 : decode cX1_gather 1 = .ok (.iload_n 2, 1) := dk_28 (dk_at dksX1_gather_0 1 rfl rfl)
theorem dX1_gather_2 : decode cX1_gather 2 = .ok (.invokestatic 43, 3) := dk_184 0 43 (dk_at dksX1_gather_0 2 rfl rfl)
theorem dX1_gather_5 : decode cX1_gather 5 = .ok (.istore 4, 2) := dk_54 4 (dk_at dksX1_gather_0 5 rfl rfl)
theorem dX1_gather_7 : decode cX1_gather 7 = .ok (.iconst 1, 1) := dk_4 (dk_at dksX1_gather_0 7 rfl rfl)
theorem dX1_gather_8 : decode cX1_gather 8 = .ok (.bipush 9, 2) := dk_16 9 (dk_at dksX1_gather_0 8 rfl rfl)
theorem dX1_gather_10 : decode cX1_gather 10 = .ok (.iload_n 3, 1) := dk_29 (dk_at dksX1_gather_0 10 rfl rfl)
theorem dX1_gather_11 : decode cX1_gather 11 = .ok (.invokestatic 58, 3) := dk_184 0 58 (dk_at dksX1_gather_0 11 rfl rfl)
theorem dX1_gather_14 : decode cX1_gather 14 = .ok (.aload_n 0, 1) := dk_42 (dk_at dksX1_gather_0 14 rfl rfl)
theorem dX1_gather_15 : decode cX1_gather 15 = .ok (.getfield 39, 3) := dk_180 0 39 (dk_at dksX1_gather_0 15 rfl rfl)
theorem dX1_gather_18 : decode cX1_gather 18 = .ok (.getfield 65, 3) := dk_180 0 65 (dk_at dksX1_gather_0 18 rfl rfl)
theorem dX1_gather_21 : decode cX1_gather 21 = .ok (.invokevirtual 69, 3) := dk_182 0 69 (dk_at dksX1_gather_0 21 rfl rfl)
theorem dX1_gather_24 : decode cX1_gather 24 = .ok (.bipush 6, 2) := dk_16 6 (dk_at dksX1_gather_1 0 rfl rfl)
theorem dX1_gather_26 : decode cX1_gather 26 = .ok (.if_icmp .ge 19, 3) := dk_162 0 19 (dk_at dksX1_gather_1 2 rfl rfl)
theorem dX1_gather_29 : decode cX1_gather 29 = .ok (.aload_n 0, 1) := dk_42 (dk_at dksX1_gather_1 5 rfl rfl)
theorem dX1_gather_30 : decode cX1_gather 30 = .ok (.getfield 39, 3) := dk_180 0 39 (dk_at dksX1_gather_1 6 rfl rfl)
theorem dX1_gather_33 : decode cX1_gather 33 = .ok (.iload 4, 2) := dk_21 4 (dk_at dksX1_gather_1 9 rfl rfl)
theorem dX1_gather_35 : decode cX1_gather 35 = .ok (.invokevirtual 72, 3) := dk_182 0 72 (dk_at dksX1_gather_1 11 rfl rfl)
theorem dX1_gather_38 : decode cX1_gather 38 = .ok (.ifCond .eq 7, 3) := dk_153 0 7 (dk_at dksX1_gather_1 14 rfl rfl)
theorem dX1_gather_41 : decode cX1_gather 41 = .ok (.iconst 1, 1) := dk_4 (dk_at dksX1_gather_1 17 rfl rfl)
theorem dX1_gather_42 : decode cX1_gather 42 = .ok (.goto 4, 3) := dk_167 0 4 (dk_at dksX1_gather_1 18 rfl rfl)
theorem dX1_gather_45 : decode cX1_gather 45 = .ok (.iconst 0, 1) := dk_3 (dk_at dksX1_gather_1 21 rfl rfl)
theorem dX1_gather_46 : decode cX1_gather 46 = .ok (.invokestatic 55, 3) := dk_184 0 55 (dk_at dksX1_gather_2 0 rfl rfl)
theorem dX1_gather_49 : decode cX1_gather 49 = .ok (.aload_n 0, 1) := dk_42 (dk_at dksX1_gather_2 3 rfl rfl)
theorem dX1_gather_50 : decode cX1_gather 50 = .ok (.getfield 39, 3) := dk_180 0 39 (dk_at dksX1_gather_2 4 rfl rfl)
theorem dX1_gather_53 : decode cX1_gather 53 = .ok (.getfield 65, 3) := dk_180 0 65 (dk_at dksX1_gather_2 7 rfl rfl)
theorem dX1_gather_56 : decode cX1_gather 56 = .ok (.new 75, 3) := dk_187 0 75 (dk_at dksX1_gather_2 10 rfl rfl)
theorem dX1_gather_59 : decode cX1_gather 59 = .ok (.dup, 1) := dk_89 (dk_at dksX1_gather_2 13 rfl rfl)
theorem dX1_gather_60 : decode cX1_gather 60 = .ok (.iload 4, 2) := dk_21 4 (dk_at dksX1_gather_2 14 rfl rfl)
theorem dX1_gather_62 : decode cX1_gather 62 = .ok (.iload_n 3, 1) := dk_29 (dk_at dksX1_gather_2 16 rfl rfl)
theorem dX1_gather_63 : decode cX1_gather 63 = .ok (.invokespecial 77, 3) := dk_183 0 77 (dk_at dksX1_gather_2 17 rfl rfl)
theorem dX1_gather_66 : decode cX1_gather 66 = .ok (.invokevirtual 79, 3) := dk_182 0 79 (dk_at dksX1_gather_2 20 rfl rfl)
theorem dX1_gather_69 : decode cX1_gather 69 = .ok (.pop, 1) := dk_87 (dk_at dksX1_gather_2 23 rfl rfl)
theorem dX1_gather_70 : decode cX1_gather 70 = .ok (.aload_n 0, 1) := dk_42 (dk_at dksX1_gather_3 0 rfl rfl)
theorem dX1_gather_71 : decode cX1_gather 71 = .ok (.getfield 39, 3) := dk_180 0 39 (dk_at dksX1_gather_3 1 rfl rfl)
theorem dX1_gather_74 : decode cX1_gather 74 = .ok (.getfield 65, 3) := dk_180 0 65 (dk_at dksX1_gather_3 4 rfl rfl)
theorem dX1_gather_77 : decode cX1_gather 77 = .ok (.invokevirtual 69, 3) := dk_182 0 69 (dk_at dksX1_gather_3 7 rfl rfl)
theorem dX1_gather_80 : decode cX1_gather 80 = .ok (.iconst 1, 1) := dk_4 (dk_at dksX1_gather_3 10 rfl rfl)
theorem dX1_gather_81 : decode cX1_gather 81 = .ok (.isub, 1) := dk_100 (dk_at dksX1_gather_3 11 rfl rfl)
theorem dX1_gather_82 : decode cX1_gather 82 = .ok (.ireturn, 1) := dk_172 (dk_at dksX1_gather_3 12 rfl rfl)
abbrev cX1_order : ByteArray := prog_1_method_13_code
def yX1_order : MethodName := ⟨RX1, "order", "(II)I"⟩
def dkwX1_order_2 : List UInt8 := [184, 0, 55, 45, 180, 0, 91, 28, 184, 0, 94, 182, 0, 79, 87, 45, 180, 0, 91, 182, 0, 69, 172]
abbrev dktX1_order_2 : List UInt8 := dkwX1_order_2 ++ []
def dkwX1_order_1 : List UInt8 := [182, 0, 87, 153, 0, 19, 45, 180, 0, 91, 182, 0, 69, 16, 24, 162, 0, 7, 4, 167, 0, 4, 3]
abbrev dktX1_order_1 : List UInt8 := dkwX1_order_1 ++ dktX1_order_2
def dkwX1_order_0 : List UInt8 := [42, 180, 0, 39, 180, 0, 65, 27, 184, 0, 83, 192, 0, 75, 78, 3, 16, 11, 28, 184, 0, 58, 45]
abbrev dktX1_order_0 : List UInt8 := dkwX1_order_0 ++ dktX1_order_1
theorem dksX1_order_0 : cX1_order.data.toList.drop 0 = dktX1_order_0 := by decide +kernel
theorem dksX1_order_1 : cX1_order.data.toList.drop 23 = dktX1_order_1 := dk_seg dksX1_order_0 23 rfl rfl
theorem dksX1_order_2 : cX1_order.data.toList.drop 46 = dktX1_order_2 := dk_seg dksX1_order_1 23 rfl rfl
theorem dX1_order_0 : decode cX1_order 0 = .ok (.aload_n 0, 1) := dk_42 (dk_at dksX1_order_0 0 rfl rfl)
theorem dX1_order_1 : decode cX1_order 1 = .ok (.getfield 39, 3) := dk_180 0 39 (dk_at dksX1_order_0 1 rfl rfl)
theorem dX1_order_4 : decode cX1_order 4 = .ok (.getfield 65, 3) := dk_180 0 65 (dk_at dksX1_order_0 4 rfl rfl)
theorem dX1_order_7 : decode cX1_order 7 = .ok (.iload_n 1, 1) := dk_27 (dk_at dksX1_order_0 7 rfl rfl)
theorem dX1_order_8 : decode cX1_order 8 = .ok (.invokestatic 83, 3) := dk_184 0 83 (dk_at dksX1_order_0 8 rfl rfl)
theorem dX1_order_11 : decode cX1_order 11 = .ok (.checkcast 75, 3) := dk_192 0 75 (dk_at dksX1_order_0 11 rfl rfl)
theorem dX1_order_14 : decode cX1_order 14 = .ok (.astore_n 3, 1) := dk_78 (dk_at dksX1_order_0 14 rfl rfl)
theorem dX1_order_15 : decode cX1_order 15 = .ok (.iconst 0, 1) := dk_3 (dk_at dksX1_order_0 15 rfl rfl)
theorem dX1_order_16 : decode cX1_order 16 = .ok (.bipush 11, 2) := dk_16 11 (dk_at dksX1_order_0 16 rfl rfl)
theorem dX1_order_18 : decode cX1_order 18 = .ok (.iload_n 2, 1) := dk_28 (dk_at dksX1_order_0 18 rfl rfl)
theorem dX1_order_19 : decode cX1_order 19 = .ok (.invokestatic 58, 3) := dk_184 0 58 (dk_at dksX1_order_0 19 rfl rfl)
theorem dX1_order_22 : decode cX1_order 22 = .ok (.aload_n 3, 1) := dk_45 (dk_at dksX1_order_0 22 rfl rfl)
theorem dX1_order_23 : decode cX1_order 23 = .ok (.invokevirtual 87, 3) := dk_182 0 87 (dk_at dksX1_order_1 0 rfl rfl)
theorem dX1_order_26 : decode cX1_order 26 = .ok (.ifCond .eq 19, 3) := dk_153 0 19 (dk_at dksX1_order_1 3 rfl rfl)
theorem dX1_order_29 : decode cX1_order 29 = .ok (.aload_n 3, 1) := dk_45 (dk_at dksX1_order_1 6 rfl rfl)
theorem dX1_order_30 : decode cX1_order 30 = .ok (.getfield 91, 3) := dk_180 0 91 (dk_at dksX1_order_1 7 rfl rfl)
theorem dX1_order_33 : decode cX1_order 33 = .ok (.invokevirtual 69, 3) := dk_182 0 69 (dk_at dksX1_order_1 10 rfl rfl)
theorem dX1_order_36 : decode cX1_order 36 = .ok (.bipush 24, 2) := dk_16 24 (dk_at dksX1_order_1 13 rfl rfl)
theorem dX1_order_38 : decode cX1_order 38 = .ok (.if_icmp .ge 7, 3) := dk_162 0 7 (dk_at dksX1_order_1 15 rfl rfl)
theorem dX1_order_41 : decode cX1_order 41 = .ok (.iconst 1, 1) := dk_4 (dk_at dksX1_order_1 18 rfl rfl)
theorem dX1_order_42 : decode cX1_order 42 = .ok (.goto 4, 3) := dk_167 0 4 (dk_at dksX1_order_1 19 rfl rfl)
theorem dX1_order_45 : decode cX1_order 45 = .ok (.iconst 0, 1) := dk_3 (dk_at dksX1_order_1 22 rfl rfl)
theorem dX1_order_46 : decode cX1_order 46 = .ok (.invokestatic 55, 3) := dk_184 0 55 (dk_at dksX1_order_2 0 rfl rfl)
theorem dX1_order_49 : decode cX1_order 49 = .ok (.aload_n 3, 1) := dk_45 (dk_at dksX1_order_2 3 rfl rfl)
theorem dX1_order_50 : decode cX1_order 50 = .ok (.getfield 91, 3) := dk_180 0 91 (dk_at dksX1_order_2 4 rfl rfl)
theorem dX1_order_53 : decode cX1_order 53 = .ok (.iload_n 2, 1) := dk_28 (dk_at dksX1_order_2 7 rfl rfl)
theorem dX1_order_54 : decode cX1_order 54 = .ok (.invokestatic 94, 3) := dk_184 0 94 (dk_at dksX1_order_2 8 rfl rfl)
theorem dX1_order_57 : decode cX1_order 57 = .ok (.invokevirtual 79, 3) := dk_182 0 79 (dk_at dksX1_order_2 11 rfl rfl)
theorem dX1_order_60 : decode cX1_order 60 = .ok (.pop, 1) := dk_87 (dk_at dksX1_order_2 14 rfl rfl)
theorem dX1_order_61 : decode cX1_order 61 = .ok (.aload_n 3, 1) := dk_45 (dk_at dksX1_order_2 15 rfl rfl)
theorem dX1_order_62 : decode cX1_order 62 = .ok (.getfield 91, 3) := dk_180 0 91 (dk_at dksX1_order_2 16 rfl rfl)
theorem dX1_order_65 : decode cX1_order 65 = .ok (.invokevirtual 69, 3) := dk_182 0 69 (dk_at dksX1_order_2 19 rfl rfl)
theorem dX1_order_68 : decode cX1_order 68 = .ok (.ireturn, 1) := dk_172 (dk_at dksX1_order_2 22 rfl rfl)
abbrev cX1_known : ByteArray := prog_1_method_5_code
def yX1_known : MethodName := ⟨RX1, "known", "(Ljava/util/List;I)Ljava/lang/Object;"⟩
def dkwX1_known_0 : List UInt8 := [27, 42, 185, 0, 19, 1, 0, 184, 0, 25, 42, 27, 185, 0, 29, 2, 0, 176]
abbrev dktX1_known_0 : List UInt8 := dkwX1_known_0 ++ []
theorem dksX1_known_0 : cX1_known.data.toList.drop 0 = dktX1_known_0 := by decide +kernel
theorem dX1_known_0 : decode cX1_known 0 = .ok (.iload_n 1, 1) := dk_27 (dk_at dksX1_known_0 0 rfl rfl)
theorem dX1_known_1 : decode cX1_known 1 = .ok (.aload_n 0, 1) := dk_42 (dk_at dksX1_known_0 1 rfl rfl)
theorem dX1_known_2 : decode cX1_known 2 = .ok (.invokeinterface 19 1, 5) := by decide +kernel
theorem dX1_known_7 : decode cX1_known 7 = .ok (.invokestatic 25, 3) := dk_184 0 25 (dk_at dksX1_known_0 7 rfl rfl)
theorem dX1_known_10 : decode cX1_known 10 = .ok (.aload_n 0, 1) := dk_42 (dk_at dksX1_known_0 10 rfl rfl)
theorem dX1_known_11 : decode cX1_known 11 = .ok (.iload_n 1, 1) := dk_27 (dk_at dksX1_known_0 11 rfl rfl)
theorem dX1_known_12 : decode cX1_known 12 = .ok (.invokeinterface 29 2, 5) := by decide +kernel
theorem dX1_known_17 : decode cX1_known 17 = .ok (.areturn, 1) := dk_176 (dk_at dksX1_known_0 17 rfl rfl)
abbrev cX1_torch : ByteArray := prog_1_method_14_code
def yX1_torch : MethodName := ⟨RX1, "torch", "(I)Z"⟩
def dkwX1_torch_1 : List UInt8 := [180, 0, 100, 154, 0, 7, 4, 167, 0, 4, 3, 181, 0, 100, 44, 180, 0, 100, 172]
abbrev dktX1_torch_1 : List UInt8 := dkwX1_torch_1 ++ []
def dkwX1_torch_0 : List UInt8 := [42, 180, 0, 39, 180, 0, 65, 27, 184, 0, 83, 192, 0, 75, 77, 44, 182, 0, 87, 184, 0, 55, 44, 44]
abbrev dktX1_torch_0 : List UInt8 := dkwX1_torch_0 ++ dktX1_torch_1
theorem dksX1_torch_0 : cX1_torch.data.toList.drop 0 = dktX1_torch_0 := by decide +kernel
theorem dksX1_torch_1 : cX1_torch.data.toList.drop 24 = dktX1_torch_1 := dk_seg dksX1_torch_0 24 rfl rfl
theorem dX1_torch_0 : decode cX1_torch 0 = .ok (.aload_n 0, 1) := dk_42 (dk_at dksX1_torch_0 0 rfl rfl)
theorem dX1_torch_1 : decode cX1_torch 1 = .ok (.getfield 39, 3) := dk_180 0 39 (dk_at dksX1_torch_0 1 rfl rfl)
theorem dX1_torch_4 : decode cX1_torch 4 = .ok (.getfield 65, 3) := dk_180 0 65 (dk_at dksX1_torch_0 4 rfl rfl)
theorem dX1_torch_7 : decode cX1_torch 7 = .ok (.iload_n 1, 1) := dk_27 (dk_at dksX1_torch_0 7 rfl rfl)
theorem dX1_torch_8 : decode cX1_torch 8 = .ok (.invokestatic 83, 3) := dk_184 0 83 (dk_at dksX1_torch_0 8 rfl rfl)
theorem dX1_torch_11 : decode cX1_torch 11 = .ok (.checkcast 75, 3) := dk_192 0 75 (dk_at dksX1_torch_0 11 rfl rfl)
theorem dX1_torch_14 : decode cX1_torch 14 = .ok (.astore_n 2, 1) := dk_77 (dk_at dksX1_torch_0 14 rfl rfl)
theorem dX1_torch_15 : decode cX1_torch 15 = .ok (.aload_n 2, 1) := dk_44 (dk_at dksX1_torch_0 15 rfl rfl)
theorem dX1_torch_16 : decode cX1_torch 16 = .ok (.invokevirtual 87, 3) := dk_182 0 87 (dk_at dksX1_torch_0 16 rfl rfl)
theorem dX1_torch_19 : decode cX1_torch 19 = .ok (.invokestatic 55, 3) := dk_184 0 55 (dk_at dksX1_torch_0 19 rfl rfl)
theorem dX1_torch_22 : decode cX1_torch 22 = .ok (.aload_n 2, 1) := dk_44 (dk_at dksX1_torch_0 22 rfl rfl)
theorem dX1_torch_23 : decode cX1_torch 23 = .ok (.aload_n 2, 1) := dk_44 (dk_at dksX1_torch_0 23 rfl rfl)
theorem dX1_torch_24 : decode cX1_torch 24 = .ok (.getfield 100, 3) := dk_180 0 100 (dk_at dksX1_torch_1 0 rfl rfl)
theorem dX1_torch_27 : decode cX1_torch 27 = .ok (.ifCond .ne 7, 3) := dk_154 0 7 (dk_at dksX1_torch_1 3 rfl rfl)
theorem dX1_torch_30 : decode cX1_torch 30 = .ok (.iconst 1, 1) := dk_4 (dk_at dksX1_torch_1 6 rfl rfl)
theorem dX1_torch_31 : decode cX1_torch 31 = .ok (.goto 4, 3) := dk_167 0 4 (dk_at dksX1_torch_1 7 rfl rfl)
theorem dX1_torch_34 : decode cX1_torch 34 = .ok (.iconst 0, 1) := dk_3 (dk_at dksX1_torch_1 10 rfl rfl)
theorem dX1_torch_35 : decode cX1_torch 35 = .ok (.putfield 100, 3) := dk_181 0 100 (dk_at dksX1_torch_1 11 rfl rfl)
theorem dX1_torch_38 : decode cX1_torch 38 = .ok (.aload_n 2, 1) := dk_44 (dk_at dksX1_torch_1 14 rfl rfl)
theorem dX1_torch_39 : decode cX1_torch 39 = .ok (.getfield 100, 3) := dk_180 0 100 (dk_at dksX1_torch_1 15 rfl rfl)
theorem dX1_torch_42 : decode cX1_torch 42 = .ok (.ireturn, 1) := dk_172 (dk_at dksX1_torch_1 18 rfl rfl)
abbrev cX1_patrol : ByteArray := prog_1_method_15_code
def yX1_patrol : MethodName := ⟨RX1, "patrol", "(IIII)I"⟩
def dkwX1_patrol_5 : List UInt8 := [180, 0, 39, 180, 0, 104, 182, 0, 69, 4, 100, 172]
abbrev dktX1_patrol_5 : List UInt8 := dkwX1_patrol_5 ++ []
def dkwX1_patrol_4 : List UInt8 := [42, 180, 0, 39, 180, 0, 104, 187, 0, 107, 89, 21, 5, 25, 6, 183, 0, 109, 182, 0, 79, 87, 42]
abbrev dktX1_patrol_4 : List UInt8 := dkwX1_patrol_4 ++ dktX1_patrol_5
def dkwX1_patrol_3 : List UInt8 := [29, 162, 0, 23, 25, 6, 21, 7, 21, 4, 5, 21, 7, 104, 122, 6, 126, 79, 132, 7, 1, 167, 255, 233]
abbrev dktX1_patrol_3 : List UInt8 := dkwX1_patrol_3 ++ dktX1_patrol_4
def dkwX1_patrol_2 : List UInt8 := [182, 0, 72, 153, 0, 7, 4, 167, 0, 4, 3, 184, 0, 55, 29, 188, 10, 58, 6, 3, 54, 7, 21, 7]
abbrev dktX1_patrol_2 : List UInt8 := dkwX1_patrol_2 ++ dktX1_patrol_3
def dkwX1_patrol_1 : List UInt8 := [184, 0, 58, 42, 180, 0, 39, 180, 0, 104, 182, 0, 69, 6, 162, 0, 19, 42, 180, 0, 39, 21, 5]
abbrev dktX1_patrol_1 : List UInt8 := dkwX1_patrol_1 ++ dktX1_patrol_2
def dkwX1_patrol_0 : List UInt8 := [27, 28, 184, 0, 43, 54, 5, 4, 16, 12, 29, 184, 0, 58, 3, 4, 5, 29, 104, 120, 4, 100, 21, 4]
abbrev dktX1_patrol_0 : List UInt8 := dkwX1_patrol_0 ++ dktX1_patrol_1
theorem dksX1_patrol_0 : cX1_patrol.data.toList.drop 0 = dktX1_patrol_0 := by decide +kernel
theorem dksX1_patrol_1 : cX1_patrol.data.toList.drop 24 = dktX1_patrol_1 := dk_seg dksX1_patrol_0 24 rfl rfl
theorem dksX1_patrol_2 : cX1_patrol.data.toList.drop 47 = dktX1_patrol_2 := dk_seg dksX1_patrol_1 23 rfl rfl
theorem dksX1_patrol_3 : cX1_patrol.data.toList.drop 71 = dktX1_patrol_3 := dk_seg dksX1_patrol_2 24 rfl rfl
theorem dksX1_patrol_4 : cX1_patrol.data.toList.drop 95 = dktX1_patrol_4 := dk_seg dksX1_patrol_3 24 rfl rfl
theorem dksX1_patrol_5 : cX1_patrol.data.toList.drop 118 = dktX1_patrol_5 := dk_seg dksX1_patrol_4 23 rfl rfl
theorem dX1_patrol_0 : decode cX1_patrol 0 = .ok (.iload_n 1, 1) := dk_27 (dk_at dksX1_patrol_0 0 rfl rfl)
theorem dX1_patrol_1 : decode cX1_patrol 1 = .ok (.iload_n 2, 1) := dk_28 (dk_at dksX1_patrol_0 1 rfl rfl)
theorem dX1_patrol_2 : decode cX1_patrol 2 = .ok (.invokestatic 43, 3) := dk_184 0 43 (dk_at dksX1_patrol_0 2 rfl rfl)
theorem dX1_patrol_5 : decode cX1_patrol 5 = .ok (.istore 5, 2) := dk_54 5 (dk_at dksX1_patrol_0 5 rfl rfl)
theorem dX1_patrol_7 : decode cX1_patrol 7 = .ok (.iconst 1, 1) := dk_4 (dk_at dksX1_patrol_0 7 rfl rfl)
theorem dX1_patrol_8 : decode cX1_patrol 8 = .ok (.bipush 12, 2) := dk_16 12 (dk_at dksX1_patrol_0 8 rfl rfl)
theorem dX1_patrol_10 : decode cX1_patrol 10 = .ok (.iload_n 3, 1) := dk_29 (dk_at dksX1_patrol_0 10 rfl rfl)
theorem dX1_patrol_11 : decode cX1_patrol 11 = .ok (.invokestatic 58, 3) := dk_184 0 58 (dk_at dksX1_patrol_0 11 rfl rfl)
theorem dX1_patrol_14 : decode cX1_patrol 14 = .ok (.iconst 0, 1) := dk_3 (dk_at dksX1_patrol_0 14 rfl rfl)
theorem dX1_patrol_15 : decode cX1_patrol 15 = .ok (.iconst 1, 1) := dk_4 (dk_at dksX1_patrol_0 15 rfl rfl)
theorem dX1_patrol_16 : decode cX1_patrol 16 = .ok (.iconst 2, 1) := dk_5 (dk_at dksX1_patrol_0 16 rfl rfl)
theorem dX1_patrol_17 : decode cX1_patrol 17 = .ok (.iload_n 3, 1) := dk_29 (dk_at dksX1_patrol_0 17 rfl rfl)
theorem dX1_patrol_18 : decode cX1_patrol 18 = .ok (.imul, 1) := dk_104 (dk_at dksX1_patrol_0 18 rfl rfl)
theorem dX1_patrol_19 : decode cX1_patrol 19 = .ok (.ishl, 1) := dk_120 (dk_at dksX1_patrol_0 19 rfl rfl)
theorem dX1_patrol_20 : decode cX1_patrol 20 = .ok (.iconst 1, 1) := dk_4 (dk_at dksX1_patrol_0 20 rfl rfl)
theorem dX1_patrol_21 : decode cX1_patrol 21 = .ok (.isub, 1) := dk_100 (dk_at dksX1_patrol_0 21 rfl rfl)
theorem dX1_patrol_22 : decode cX1_patrol 22 = .ok (.iload 4, 2) := dk_21 4 (dk_at dksX1_patrol_0 22 rfl rfl)
theorem dX1_patrol_24 : decode cX1_patrol 24 = .ok (.invokestatic 58, 3) := dk_184 0 58 (dk_at dksX1_patrol_1 0 rfl rfl)
theorem dX1_patrol_27 : decode cX1_patrol 27 = .ok (.aload_n 0, 1) := dk_42 (dk_at dksX1_patrol_1 3 rfl rfl)
theorem dX1_patrol_28 : decode cX1_patrol 28 = .ok (.getfield 39, 3) := dk_180 0 39 (dk_at dksX1_patrol_1 4 rfl rfl)
theorem dX1_patrol_31 : decode cX1_patrol 31 = .ok (.getfield 104, 3) := dk_180 0 104 (dk_at dksX1_patrol_1 7 rfl rfl)
theorem dX1_patrol_34 : decode cX1_patrol 34 = .ok (.invokevirtual 69, 3) := dk_182 0 69 (dk_at dksX1_patrol_1 10 rfl rfl)
theorem dX1_patrol_37 : decode cX1_patrol 37 = .ok (.iconst 3, 1) := dk_6 (dk_at dksX1_patrol_1 13 rfl rfl)
theorem dX1_patrol_38 : decode cX1_patrol 38 = .ok (.if_icmp .ge 19, 3) := dk_162 0 19 (dk_at dksX1_patrol_1 14 rfl rfl)
theorem dX1_patrol_41 : decode cX1_patrol 41 = .ok (.aload_n 0, 1) := dk_42 (dk_at dksX1_patrol_1 17 rfl rfl)
theorem dX1_patrol_42 : decode cX1_patrol 42 = .ok (.getfield 39, 3) := dk_180 0 39 (dk_at dksX1_patrol_1 18 rfl rfl)
theorem dX1_patrol_45 : decode cX1_patrol 45 = .ok (.iload 5, 2) := dk_21 5 (dk_at dksX1_patrol_1 21 rfl rfl)
theorem dX1_patrol_47 : decode cX1_patrol 47 = .ok (.invokevirtual 72, 3) := dk_182 0 72 (dk_at dksX1_patrol_2 0 rfl rfl)
theorem dX1_patrol_50 : decode cX1_patrol 50 = .ok (.ifCond .eq 7, 3) := dk_153 0 7 (dk_at dksX1_patrol_2 3 rfl rfl)
theorem dX1_patrol_53 : decode cX1_patrol 53 = .ok (.iconst 1, 1) := dk_4 (dk_at dksX1_patrol_2 6 rfl rfl)
theorem dX1_patrol_54 : decode cX1_patrol 54 = .ok (.goto 4, 3) := dk_167 0 4 (dk_at dksX1_patrol_2 7 rfl rfl)
theorem dX1_patrol_57 : decode cX1_patrol 57 = .ok (.iconst 0, 1) := dk_3 (dk_at dksX1_patrol_2 10 rfl rfl)
theorem dX1_patrol_58 : decode cX1_patrol 58 = .ok (.invokestatic 55, 3) := dk_184 0 55 (dk_at dksX1_patrol_2 11 rfl rfl)
theorem dX1_patrol_61 : decode cX1_patrol 61 = .ok (.iload_n 3, 1) := dk_29 (dk_at dksX1_patrol_2 14 rfl rfl)
theorem dX1_patrol_62 : decode cX1_patrol 62 = .ok (.newarray .int, 2) := dk_188_10 (dk_at dksX1_patrol_2 15 rfl rfl)
theorem dX1_patrol_64 : decode cX1_patrol 64 = .ok (.astore 6, 2) := dk_58 6 (dk_at dksX1_patrol_2 17 rfl rfl)
theorem dX1_patrol_66 : decode cX1_patrol 66 = .ok (.iconst 0, 1) := dk_3 (dk_at dksX1_patrol_2 19 rfl rfl)
theorem dX1_patrol_67 : decode cX1_patrol 67 = .ok (.istore 7, 2) := dk_54 7 (dk_at dksX1_patrol_2 20 rfl rfl)
theorem dX1_patrol_69 : decode cX1_patrol 69 = .ok (.iload 7, 2) := dk_21 7 (dk_at dksX1_patrol_2 22 rfl rfl)
theorem dX1_patrol_71 : decode cX1_patrol 71 = .ok (.iload_n 3, 1) := dk_29 (dk_at dksX1_patrol_3 0 rfl rfl)
theorem dX1_patrol_72 : decode cX1_patrol 72 = .ok (.if_icmp .ge 23, 3) := dk_162 0 23 (dk_at dksX1_patrol_3 1 rfl rfl)
theorem dX1_patrol_75 : decode cX1_patrol 75 = .ok (.aload 6, 2) := dk_25 6 (dk_at dksX1_patrol_3 4 rfl rfl)
theorem dX1_patrol_77 : decode cX1_patrol 77 = .ok (.iload 7, 2) := dk_21 7 (dk_at dksX1_patrol_3 6 rfl rfl)
theorem dX1_patrol_79 : decode cX1_patrol 79 = .ok (.iload 4, 2) := dk_21 4 (dk_at dksX1_patrol_3 8 rfl rfl)
theorem dX1_patrol_81 : decode cX1_patrol 81 = .ok (.iconst 2, 1) := dk_5 (dk_at dksX1_patrol_3 10 rfl rfl)
theorem dX1_patrol_82 : decode cX1_patrol 82 = .ok (.iload 7, 2) := dk_21 7 (dk_at dksX1_patrol_3 11 rfl rfl)
theorem dX1_patrol_84 : decode cX1_patrol 84 = .ok (.imul, 1) := dk_104 (dk_at dksX1_patrol_3 13 rfl rfl)
theorem dX1_patrol_85 : decode cX1_patrol 85 = .ok (.ishr, 1) := dk_122 (dk_at dksX1_patrol_3 14 rfl rfl)
theorem dX1_patrol_86 : decode cX1_patrol 86 = .ok (.iconst 3, 1) := dk_6 (dk_at dksX1_patrol_3 15 rfl rfl)
theorem dX1_patrol_87 : decode cX1_patrol 87 = .ok (.iand, 1) := dk_126 (dk_at dksX1_patrol_3 16 rfl rfl)
theorem dX1_patrol_88 : decode cX1_patrol 88 = .ok (.iastore, 1) := dk_79 (dk_at dksX1_patrol_3 17 rfl rfl)
theorem dX1_patrol_89 : decode cX1_patrol 89 = .ok (.iinc 7 1, 3) := dk_132 7 1 (dk_at dksX1_patrol_3 18 rfl rfl)
theorem dX1_patrol_92 : decode cX1_patrol 92 = .ok (.goto (-23), 3) := dk_167 255 233 (dk_at dksX1_patrol_3 21 rfl rfl)
theorem dX1_patrol_95 : decode cX1_patrol 95 = .ok (.aload_n 0, 1) := dk_42 (dk_at dksX1_patrol_4 0 rfl rfl)
theorem dX1_patrol_96 : decode cX1_patrol 96 = .ok (.getfield 39, 3) := dk_180 0 39 (dk_at dksX1_patrol_4 1 rfl rfl)
theorem dX1_patrol_99 : decode cX1_patrol 99 = .ok (.getfield 104, 3) := dk_180 0 104 (dk_at dksX1_patrol_4 4 rfl rfl)
theorem dX1_patrol_102 : decode cX1_patrol 102 = .ok (.new 107, 3) := dk_187 0 107 (dk_at dksX1_patrol_4 7 rfl rfl)
theorem dX1_patrol_105 : decode cX1_patrol 105 = .ok (.dup, 1) := dk_89 (dk_at dksX1_patrol_4 10 rfl rfl)
theorem dX1_patrol_106 : decode cX1_patrol 106 = .ok (.iload 5, 2) := dk_21 5 (dk_at dksX1_patrol_4 11 rfl rfl)
theorem dX1_patrol_108 : decode cX1_patrol 108 = .ok (.aload 6, 2) := dk_25 6 (dk_at dksX1_patrol_4 13 rfl rfl)
theorem dX1_patrol_110 : decode cX1_patrol 110 = .ok (.invokespecial 109, 3) := dk_183 0 109 (dk_at dksX1_patrol_4 15 rfl rfl)
theorem dX1_patrol_113 : decode cX1_patrol 113 = .ok (.invokevirtual 79, 3) := dk_182 0 79 (dk_at dksX1_patrol_4 18 rfl rfl)
theorem dX1_patrol_116 : decode cX1_patrol 116 = .ok (.pop, 1) := dk_87 (dk_at dksX1_patrol_4 21 rfl rfl)
theorem dX1_patrol_117 : decode cX1_patrol 117 = .ok (.aload_n 0, 1) := dk_42 (dk_at dksX1_patrol_4 22 rfl rfl)
theorem dX1_patrol_118 : decode cX1_patrol 118 = .ok (.getfield 39, 3) := dk_180 0 39 (dk_at dksX1_patrol_5 0 rfl rfl)
theorem dX1_patrol_121 : decode cX1_patrol 121 = .ok (.getfield 104, 3) := dk_180 0 104 (dk_at dksX1_patrol_5 3 rfl rfl)
theorem dX1_patrol_124 : decode cX1_patrol 124 = .ok (.invokevirtual 69, 3) := dk_182 0 69 (dk_at dksX1_patrol_5 6 rfl rfl)
theorem dX1_patrol_127 : decode cX1_patrol 127 = .ok (.iconst 1, 1) := dk_4 (dk_at dksX1_patrol_5 9 rfl rfl)
theorem dX1_patrol_128 : decode cX1_patrol 128 = .ok (.isub, 1) := dk_100 (dk_at dksX1_patrol_5 10 rfl rfl)
theorem dX1_patrol_129 : decode cX1_patrol 129 = .ok (.ireturn, 1) := dk_172 (dk_at dksX1_patrol_5 11 rfl rfl)
abbrev cX1_crowd : ByteArray := prog_1_method_17_code
def yX1_crowd : MethodName := ⟨RX1, "crowd", "(II)I"⟩
def dkwX1_crowd_1 : List UInt8 := [182, 0, 133, 172]
abbrev dktX1_crowd_1 : List UInt8 := dkwX1_crowd_1 ++ []
def dkwX1_crowd_0 : List UInt8 := [42, 180, 0, 39, 180, 0, 65, 27, 184, 0, 83, 192, 0, 75, 78, 28, 16, 8, 184, 0, 25, 42, 45, 28]
abbrev dktX1_crowd_0 : List UInt8 := dkwX1_crowd_0 ++ dktX1_crowd_1
theorem dksX1_crowd_0 : cX1_crowd.data.toList.drop 0 = dktX1_crowd_0 := by decide +kernel
theorem dksX1_crowd_1 : cX1_crowd.data.toList.drop 24 = dktX1_crowd_1 := dk_seg dksX1_crowd_0 24 rfl rfl
theorem dX1_crowd_0 : decode cX1_crowd 0 = .ok (.aload_n 0, 1) := dk_42 (dk_at dksX1_crowd_0 0 rfl rfl)
theorem dX1_crowd_1 : decode cX1_crowd 1 = .ok (.getfield 39, 3) := dk_180 0 39 (dk_at dksX1_crowd_0 1 rfl rfl)
theorem dX1_crowd_4 : decode cX1_crowd 4 = .ok (.getfield 65, 3) := dk_180 0 65 (dk_at dksX1_crowd_0 4 rfl rfl)
theorem dX1_crowd_7 : decode cX1_crowd 7 = .ok (.iload_n 1, 1) := dk_27 (dk_at dksX1_crowd_0 7 rfl rfl)
theorem dX1_crowd_8 : decode cX1_crowd 8 = .ok (.invokestatic 83, 3) := dk_184 0 83 (dk_at dksX1_crowd_0 8 rfl rfl)
theorem dX1_crowd_11 : decode cX1_crowd 11 = .ok (.checkcast 75, 3) := dk_192 0 75 (dk_at dksX1_crowd_0 11 rfl rfl)
theorem dX1_crowd_14 : decode cX1_crowd 14 = .ok (.astore_n 3, 1) := dk_78 (dk_at dksX1_crowd_0 14 rfl rfl)
theorem dX1_crowd_15 : decode cX1_crowd 15 = .ok (.iload_n 2, 1) := dk_28 (dk_at dksX1_crowd_0 15 rfl rfl)
theorem dX1_crowd_16 : decode cX1_crowd 16 = .ok (.bipush 8, 2) := dk_16 8 (dk_at dksX1_crowd_0 16 rfl rfl)
theorem dX1_crowd_18 : decode cX1_crowd 18 = .ok (.invokestatic 25, 3) := dk_184 0 25 (dk_at dksX1_crowd_0 18 rfl rfl)
theorem dX1_crowd_21 : decode cX1_crowd 21 = .ok (.aload_n 0, 1) := dk_42 (dk_at dksX1_crowd_0 21 rfl rfl)
theorem dX1_crowd_22 : decode cX1_crowd 22 = .ok (.aload_n 3, 1) := dk_45 (dk_at dksX1_crowd_0 22 rfl rfl)
theorem dX1_crowd_23 : decode cX1_crowd 23 = .ok (.iload_n 2, 1) := dk_28 (dk_at dksX1_crowd_0 23 rfl rfl)
theorem dX1_crowd_24 : decode cX1_crowd 24 = .ok (.invokevirtual 133, 3) := dk_182 0 133 (dk_at dksX1_crowd_1 0 rfl rfl)
theorem dX1_crowd_27 : decode cX1_crowd 27 = .ok (.ireturn, 1) := dk_172 (dk_at dksX1_crowd_1 3 rfl rfl)
abbrev cX1_guard : ByteArray := prog_1_method_20_code
def yX1_guard : MethodName := ⟨RX1, "guard", "(II)I"⟩
def dkwX1_guard_1 : List UInt8 := [182, 0, 149, 172]
abbrev dktX1_guard_1 : List UInt8 := dkwX1_guard_1 ++ []
def dkwX1_guard_0 : List UInt8 := [42, 180, 0, 39, 180, 0, 104, 27, 184, 0, 83, 192, 0, 107, 78, 28, 7, 184, 0, 25, 42, 45, 28]
abbrev dktX1_guard_0 : List UInt8 := dkwX1_guard_0 ++ dktX1_guard_1
theorem dksX1_guard_0 : cX1_guard.data.toList.drop 0 = dktX1_guard_0 := by decide +kernel
theorem dksX1_guard_1 : cX1_guard.data.toList.drop 23 = dktX1_guard_1 := dk_seg dksX1_guard_0 23 rfl rfl
theorem dX1_guard_0 : decode cX1_guard 0 = .ok (.aload_n 0, 1) := dk_42 (dk_at dksX1_guard_0 0 rfl rfl)
theorem dX1_guard_1 : decode cX1_guard 1 = .ok (.getfield 39, 3) := dk_180 0 39 (dk_at dksX1_guard_0 1 rfl rfl)
theorem dX1_guard_4 : decode cX1_guard 4 = .ok (.getfield 104, 3) := dk_180 0 104 (dk_at dksX1_guard_0 4 rfl rfl)
theorem dX1_guard_7 : decode cX1_guard 7 = .ok (.iload_n 1, 1) := dk_27 (dk_at dksX1_guard_0 7 rfl rfl)
theorem dX1_guard_8 : decode cX1_guard 8 = .ok (.invokestatic 83, 3) := dk_184 0 83 (dk_at dksX1_guard_0 8 rfl rfl)
theorem dX1_guard_11 : decode cX1_guard 11 = .ok (.checkcast 107, 3) := dk_192 0 107 (dk_at dksX1_guard_0 11 rfl rfl)
theorem dX1_guard_14 : decode cX1_guard 14 = .ok (.astore_n 3, 1) := dk_78 (dk_at dksX1_guard_0 14 rfl rfl)
theorem dX1_guard_15 : decode cX1_guard 15 = .ok (.iload_n 2, 1) := dk_28 (dk_at dksX1_guard_0 15 rfl rfl)
theorem dX1_guard_16 : decode cX1_guard 16 = .ok (.iconst 4, 1) := dk_7 (dk_at dksX1_guard_0 16 rfl rfl)
theorem dX1_guard_17 : decode cX1_guard 17 = .ok (.invokestatic 25, 3) := dk_184 0 25 (dk_at dksX1_guard_0 17 rfl rfl)
theorem dX1_guard_20 : decode cX1_guard 20 = .ok (.aload_n 0, 1) := dk_42 (dk_at dksX1_guard_0 20 rfl rfl)
theorem dX1_guard_21 : decode cX1_guard 21 = .ok (.aload_n 3, 1) := dk_45 (dk_at dksX1_guard_0 21 rfl rfl)
theorem dX1_guard_22 : decode cX1_guard 22 = .ok (.iload_n 2, 1) := dk_28 (dk_at dksX1_guard_0 22 rfl rfl)
theorem dX1_guard_23 : decode cX1_guard 23 = .ok (.invokevirtual 149, 3) := dk_182 0 149 (dk_at dksX1_guard_1 0 rfl rfl)
theorem dX1_guard_26 : decode cX1_guard 26 = .ok (.ireturn, 1) := dk_172 (dk_at dksX1_guard_1 3 rfl rfl)
abbrev cX1_sees : ByteArray := prog_1_method_21_code
def yX1_sees : MethodName := ⟨RX1, "sees", "(II)Z"⟩
def dkwX1_sees_1 : List UInt8 := [180, 0, 65, 28, 184, 0, 83, 192, 0, 75, 182, 0, 137, 172]
abbrev dktX1_sees_1 : List UInt8 := dkwX1_sees_1 ++ []
def dkwX1_sees_0 : List UInt8 := [42, 180, 0, 39, 180, 0, 104, 27, 184, 0, 83, 192, 0, 107, 78, 42, 180, 0, 39, 45, 42, 180, 0, 39]
abbrev dktX1_sees_0 : List UInt8 := dkwX1_sees_0 ++ dktX1_sees_1
theorem dksX1_sees_0 : cX1_sees.data.toList.drop 0 = dktX1_sees_0 := by decide +kernel
theorem dksX1_sees_1 : cX1_sees.data.toList.drop 24 = dktX1_sees_1 := dk_seg dksX1_sees_0 24 rfl rfl
theorem dX1_sees_0 : decode cX1_sees 0 = .ok (.aload_n 0, 1) := dk_42 (dk_at dksX1_sees_0 0 rfl rfl)
theorem dX1_sees_1 : decode cX1_sees 1 = .ok (.getfield 39, 3) := dk_180 0 39 (dk_at dksX1_sees_0 1 rfl rfl)
theorem dX1_sees_4 : decode cX1_sees 4 = .ok (.getfield 104, 3) := dk_180 0 104 (dk_at dksX1_sees_0 4 rfl rfl)
theorem dX1_sees_7 : decode cX1_sees 7 = .ok (.iload_n 1, 1) := dk_27 (dk_at dksX1_sees_0 7 rfl rfl)
theorem dX1_sees_8 : decode cX1_sees 8 = .ok (.invokestatic 83, 3) := dk_184 0 83 (dk_at dksX1_sees_0 8 rfl rfl)
theorem dX1_sees_11 : decode cX1_sees 11 = .ok (.checkcast 107, 3) := dk_192 0 107 (dk_at dksX1_sees_0 11 rfl rfl)
theorem dX1_sees_14 : decode cX1_sees 14 = .ok (.astore_n 3, 1) := dk_78 (dk_at dksX1_sees_0 14 rfl rfl)
theorem dX1_sees_15 : decode cX1_sees 15 = .ok (.aload_n 0, 1) := dk_42 (dk_at dksX1_sees_0 15 rfl rfl)
theorem dX1_sees_16 : decode cX1_sees 16 = .ok (.getfield 39, 3) := dk_180 0 39 (dk_at dksX1_sees_0 16 rfl rfl)
theorem dX1_sees_19 : decode cX1_sees 19 = .ok (.aload_n 3, 1) := dk_45 (dk_at dksX1_sees_0 19 rfl rfl)
theorem dX1_sees_20 : decode cX1_sees 20 = .ok (.aload_n 0, 1) := dk_42 (dk_at dksX1_sees_0 20 rfl rfl)
theorem dX1_sees_21 : decode cX1_sees 21 = .ok (.getfield 39, 3) := dk_180 0 39 (dk_at dksX1_sees_0 21 rfl rfl)
theorem dX1_sees_24 : decode cX1_sees 24 = .ok (.getfield 65, 3) := dk_180 0 65 (dk_at dksX1_sees_1 0 rfl rfl)
theorem dX1_sees_27 : decode cX1_sees 27 = .ok (.iload_n 2, 1) := dk_28 (dk_at dksX1_sees_1 3 rfl rfl)
theorem dX1_sees_28 : decode cX1_sees 28 = .ok (.invokestatic 83, 3) := dk_184 0 83 (dk_at dksX1_sees_1 4 rfl rfl)
theorem dX1_sees_31 : decode cX1_sees 31 = .ok (.checkcast 75, 3) := dk_192 0 75 (dk_at dksX1_sees_1 7 rfl rfl)
theorem dX1_sees_34 : decode cX1_sees 34 = .ok (.invokevirtual 137, 3) := dk_182 0 137 (dk_at dksX1_sees_1 10 rfl rfl)
theorem dX1_sees_37 : decode cX1_sees 37 = .ok (.ireturn, 1) := dk_172 (dk_at dksX1_sees_1 13 rfl rfl)
abbrev cX1_count : ByteArray := prog_1_method_24_code
def yX1_count : MethodName := ⟨RX1, "count", "(I)I"⟩
def dkwX1_count_0 : List UInt8 := [27, 16, 8, 184, 0, 25, 42, 27, 182, 0, 170, 172]
abbrev dktX1_count_0 : List UInt8 := dkwX1_count_0 ++ []
theorem dksX1_count_0 : cX1_count.data.toList.drop 0 = dktX1_count_0 := by decide +kernel
theorem dX1_count_0 : decode cX1_count 0 = .ok (.iload_n 1, 1) := dk_27 (dk_at dksX1_count_0 0 rfl rfl)
theorem dX1_count_1 : decode cX1_count 1 = .ok (.bipush 8, 2) := dk_16 8 (dk_at dksX1_count_0 1 rfl rfl)
theorem dX1_count_3 : decode cX1_count 3 = .ok (.invokestatic 25, 3) := dk_184 0 25 (dk_at dksX1_count_0 3 rfl rfl)
theorem dX1_count_6 : decode cX1_count 6 = .ok (.aload_n 0, 1) := dk_42 (dk_at dksX1_count_0 6 rfl rfl)
theorem dX1_count_7 : decode cX1_count 7 = .ok (.iload_n 1, 1) := dk_27 (dk_at dksX1_count_0 7 rfl rfl)
theorem dX1_count_8 : decode cX1_count 8 = .ok (.invokevirtual 170, 3) := dk_182 0 170 (dk_at dksX1_count_0 8 rfl rfl)
theorem dX1_count_11 : decode cX1_count 11 = .ok (.ireturn, 1) := dk_172 (dk_at dksX1_count_0 11 rfl rfl)
abbrev cX1_way : ByteArray := prog_1_method_25_code
def yX1_way : MethodName := ⟨RX1, "way", "(IIII)I"⟩
def dkwX1_way_0 : List UInt8 := [42, 180, 0, 39, 27, 28, 184, 0, 43, 29, 21, 4, 184, 0, 43, 182, 0, 173, 172]
abbrev dktX1_way_0 : List UInt8 := dkwX1_way_0 ++ []
theorem dksX1_way_0 : cX1_way.data.toList.drop 0 = dktX1_way_0 := by decide +kernel
theorem dX1_way_0 : decode cX1_way 0 = .ok (.aload_n 0, 1) := dk_42 (dk_at dksX1_way_0 0 rfl rfl)
theorem dX1_way_1 : decode cX1_way 1 = .ok (.getfield 39, 3) := dk_180 0 39 (dk_at dksX1_way_0 1 rfl rfl)
theorem dX1_way_4 : decode cX1_way 4 = .ok (.iload_n 1, 1) := dk_27 (dk_at dksX1_way_0 4 rfl rfl)
theorem dX1_way_5 : decode cX1_way 5 = .ok (.iload_n 2, 1) := dk_28 (dk_at dksX1_way_0 5 rfl rfl)
theorem dX1_way_6 : decode cX1_way 6 = .ok (.invokestatic 43, 3) := dk_184 0 43 (dk_at dksX1_way_0 6 rfl rfl)
theorem dX1_way_9 : decode cX1_way 9 = .ok (.iload_n 3, 1) := dk_29 (dk_at dksX1_way_0 9 rfl rfl)
theorem dX1_way_10 : decode cX1_way 10 = .ok (.iload 4, 2) := dk_21 4 (dk_at dksX1_way_0 10 rfl rfl)
theorem dX1_way_12 : decode cX1_way 12 = .ok (.invokestatic 43, 3) := dk_184 0 43 (dk_at dksX1_way_0 12 rfl rfl)
theorem dX1_way_15 : decode cX1_way 15 = .ok (.invokevirtual 173, 3) := dk_182 0 173 (dk_at dksX1_way_0 15 rfl rfl)
theorem dX1_way_18 : decode cX1_way 18 = .ok (.ireturn, 1) := dk_172 (dk_at dksX1_way_0 18 rfl rfl)
abbrev cX1_beside : ByteArray := prog_1_method_7_code
def yX1_beside : MethodName := ⟨RX1, "beside", "(II)I"⟩
def dkwX1_beside_3 : List UInt8 := [167, 0, 9, 16, 12, 29, 104, 28, 96, 172]
abbrev dktX1_beside_3 : List UInt8 := dkwX1_beside_3 ++ []
def dkwX1_beside_2 : List UInt8 := [62, 28, 155, 0, 19, 28, 16, 12, 162, 0, 13, 29, 155, 0, 9, 29, 16, 9, 161, 0, 7, 2]
abbrev dktX1_beside_2 : List UInt8 := dkwX1_beside_2 ++ dktX1_beside_3
def dkwX1_beside_1 : List UInt8 := [61, 26, 16, 12, 108, 27, 5, 160, 0, 7, 4, 167, 0, 12, 27, 154, 0, 7, 2, 167, 0, 4, 3, 96]
abbrev dktX1_beside_1 : List UInt8 := dkwX1_beside_1 ++ dktX1_beside_2
def dkwX1_beside_0 : List UInt8 := [26, 16, 12, 112, 27, 4, 160, 0, 7, 4, 167, 0, 13, 27, 6, 160, 0, 7, 2, 167, 0, 4, 3, 96]
abbrev dktX1_beside_0 : List UInt8 := dkwX1_beside_0 ++ dktX1_beside_1
theorem dksX1_beside_0 : cX1_beside.data.toList.drop 0 = dktX1_beside_0 := by decide +kernel
theorem dksX1_beside_1 : cX1_beside.data.toList.drop 24 = dktX1_beside_1 := dk_seg dksX1_beside_0 24 rfl rfl
theorem dksX1_beside_2 : cX1_beside.data.toList.drop 48 = dktX1_beside_2 := dk_seg dksX1_beside_1 24 rfl rfl
theorem dksX1_beside_3 : cX1_beside.data.toList.drop 70 = dktX1_beside_3 := dk_seg dksX1_beside_2 22 rfl rfl
theorem dX1_beside_0 : decode cX1_beside 0 = .ok (.iload_n 0, 1) := dk_26 (dk_at dksX1_beside_0 0 rfl rfl)
theorem dX1_beside_1 : decode cX1_beside 1 = .ok (.bipush 12, 2) := dk_16 12 (dk_at dksX1_beside_0 1 rfl rfl)
theorem dX1_beside_3 : decode cX1_beside 3 = .ok (.irem, 1) := dk_112 (dk_at dksX1_beside_0 3 rfl rfl)
theorem dX1_beside_4 : decode cX1_beside 4 = .ok (.iload_n 1, 1) := dk_27 (dk_at dksX1_beside_0 4 rfl rfl)
theorem dX1_beside_5 : decode cX1_beside 5 = .ok (.iconst 1, 1) := dk_4 (dk_at dksX1_beside_0 5 rfl rfl)
theorem dX1_beside_6 : decode cX1_beside 6 = .ok (.if_icmp .ne 7, 3) := dk_160 0 7 (dk_at dksX1_beside_0 6 rfl rfl)
theorem dX1_beside_9 : decode cX1_beside 9 = .ok (.iconst 1, 1) := dk_4 (dk_at dksX1_beside_0 9 rfl rfl)
theorem dX1_beside_10 : decode cX1_beside 10 = .ok (.goto 13, 3) := dk_167 0 13 (dk_at dksX1_beside_0 10 rfl rfl)
theorem dX1_beside_13 : decode cX1_beside 13 = .ok (.iload_n 1, 1) := dk_27 (dk_at dksX1_beside_0 13 rfl rfl)
theorem dX1_beside_14 : decode cX1_beside 14 = .ok (.iconst 3, 1) := dk_6 (dk_at dksX1_beside_0 14 rfl rfl)
theorem dX1_beside_15 : decode cX1_beside 15 = .ok (.if_icmp .ne 7, 3) := dk_160 0 7 (dk_at dksX1_beside_0 15 rfl rfl)
theorem dX1_beside_18 : decode cX1_beside 18 = .ok (.iconst (-1), 1) := dk_2 (dk_at dksX1_beside_0 18 rfl rfl)
theorem dX1_beside_19 : decode cX1_beside 19 = .ok (.goto 4, 3) := dk_167 0 4 (dk_at dksX1_beside_0 19 rfl rfl)
theorem dX1_beside_22 : decode cX1_beside 22 = .ok (.iconst 0, 1) := dk_3 (dk_at dksX1_beside_0 22 rfl rfl)
theorem dX1_beside_23 : decode cX1_beside 23 = .ok (.iadd, 1) := dk_96 (dk_at dksX1_beside_0 23 rfl rfl)
theorem dX1_beside_24 : decode cX1_beside 24 = .ok (.istore_n 2, 1) := dk_61 (dk_at dksX1_beside_1 0 rfl rfl)
theorem dX1_beside_25 : decode cX1_beside 25 = .ok (.iload_n 0, 1) := dk_26 (dk_at dksX1_beside_1 1 rfl rfl)
theorem dX1_beside_26 : decode cX1_beside 26 = .ok (.bipush 12, 2) := dk_16 12 (dk_at dksX1_beside_1 2 rfl rfl)
theorem dX1_beside_28 : decode cX1_beside 28 = .ok (.idiv, 1) := dk_108 (dk_at dksX1_beside_1 4 rfl rfl)
theorem dX1_beside_29 : decode cX1_beside 29 = .ok (.iload_n 1, 1) := dk_27 (dk_at dksX1_beside_1 5 rfl rfl)
theorem dX1_beside_30 : decode cX1_beside 30 = .ok (.iconst 2, 1) := dk_5 (dk_at dksX1_beside_1 6 rfl rfl)
theorem dX1_beside_31 : decode cX1_beside 31 = .ok (.if_icmp .ne 7, 3) := dk_160 0 7 (dk_at dksX1_beside_1 7 rfl rfl)
theorem dX1_beside_34 : decode cX1_beside 34 = .ok (.iconst 1, 1) := dk_4 (dk_at dksX1_beside_1 10 rfl rfl)
theorem dX1_beside_35 : decode cX1_beside 35 = .ok (.goto 12, 3) := dk_167 0 12 (dk_at dksX1_beside_1 11 rfl rfl)
theorem dX1_beside_38 : decode cX1_beside 38 = .ok (.iload_n 1, 1) := dk_27 (dk_at dksX1_beside_1 14 rfl rfl)
theorem dX1_beside_39 : decode cX1_beside 39 = .ok (.ifCond .ne 7, 3) := dk_154 0 7 (dk_at dksX1_beside_1 15 rfl rfl)
theorem dX1_beside_42 : decode cX1_beside 42 = .ok (.iconst (-1), 1) := dk_2 (dk_at dksX1_beside_1 18 rfl rfl)
theorem dX1_beside_43 : decode cX1_beside 43 = .ok (.goto 4, 3) := dk_167 0 4 (dk_at dksX1_beside_1 19 rfl rfl)
theorem dX1_beside_46 : decode cX1_beside 46 = .ok (.iconst 0, 1) := dk_3 (dk_at dksX1_beside_1 22 rfl rfl)
theorem dX1_beside_47 : decode cX1_beside 47 = .ok (.iadd, 1) := dk_96 (dk_at dksX1_beside_1 23 rfl rfl)
theorem dX1_beside_48 : decode cX1_beside 48 = .ok (.istore_n 3, 1) := dk_62 (dk_at dksX1_beside_2 0 rfl rfl)
theorem dX1_beside_49 : decode cX1_beside 49 = .ok (.iload_n 2, 1) := dk_28 (dk_at dksX1_beside_2 1 rfl rfl)
theorem dX1_beside_50 : decode cX1_beside 50 = .ok (.ifCond .lt 19, 3) := dk_155 0 19 (dk_at dksX1_beside_2 2 rfl rfl)
theorem dX1_beside_53 : decode cX1_beside 53 = .ok (.iload_n 2, 1) := dk_28 (dk_at dksX1_beside_2 5 rfl rfl)
theorem dX1_beside_54 : decode cX1_beside 54 = .ok (.bipush 12, 2) := dk_16 12 (dk_at dksX1_beside_2 6 rfl rfl)
theorem dX1_beside_56 : decode cX1_beside 56 = .ok (.if_icmp .ge 13, 3) := dk_162 0 13 (dk_at dksX1_beside_2 8 rfl rfl)
theorem dX1_beside_59 : decode cX1_beside 59 = .ok (.iload_n 3, 1) := dk_29 (dk_at dksX1_beside_2 11 rfl rfl)
theorem dX1_beside_60 : decode cX1_beside 60 = .ok (.ifCond .lt 9, 3) := dk_155 0 9 (dk_at dksX1_beside_2 12 rfl rfl)
theorem dX1_beside_63 : decode cX1_beside 63 = .ok (.iload_n 3, 1) := dk_29 (dk_at dksX1_beside_2 15 rfl rfl)
theorem dX1_beside_64 : decode cX1_beside 64 = .ok (.bipush 9, 2) := dk_16 9 (dk_at dksX1_beside_2 16 rfl rfl)
theorem dX1_beside_66 : decode cX1_beside 66 = .ok (.if_icmp .lt 7, 3) := dk_161 0 7 (dk_at dksX1_beside_2 18 rfl rfl)
theorem dX1_beside_69 : decode cX1_beside 69 = .ok (.iconst (-1), 1) := dk_2 (dk_at dksX1_beside_2 21 rfl rfl)
theorem dX1_beside_70 : decode cX1_beside 70 = .ok (.goto 9, 3) := dk_167 0 9 (dk_at dksX1_beside_3 0 rfl rfl)
theorem dX1_beside_73 : decode cX1_beside 73 = .ok (.bipush 12, 2) := dk_16 12 (dk_at dksX1_beside_3 3 rfl rfl)
theorem dX1_beside_75 : decode cX1_beside 75 = .ok (.iload_n 3, 1) := dk_29 (dk_at dksX1_beside_3 5 rfl rfl)
theorem dX1_beside_76 : decode cX1_beside 76 = .ok (.imul, 1) := dk_104 (dk_at dksX1_beside_3 6 rfl rfl)
theorem dX1_beside_77 : decode cX1_beside 77 = .ok (.iload_n 2, 1) := dk_28 (dk_at dksX1_beside_3 7 rfl rfl)
theorem dX1_beside_78 : decode cX1_beside 78 = .ok (.iadd, 1) := dk_96 (dk_at dksX1_beside_3 8 rfl rfl)
theorem dX1_beside_79 : decode cX1_beside 79 = .ok (.ireturn, 1) := dk_172 (dk_at dksX1_beside_3 9 rfl rfl)
abbrev cX1_pass : ByteArray := prog_1_method_28_code
def yX1_pass : MethodName := ⟨RX1, "pass", "(I)I"⟩
def dkwX1_pass_1 : List UInt8 := [182, 0, 166, 100, 172]
abbrev dktX1_pass_1 : List UInt8 := dkwX1_pass_1 ++ []
def dkwX1_pass_0 : List UInt8 := [4, 16, 60, 27, 184, 0, 58, 42, 180, 0, 39, 182, 0, 166, 61, 28, 42, 180, 0, 39, 27, 184, 0, 182]
abbrev dktX1_pass_0 : List UInt8 := dkwX1_pass_0 ++ dktX1_pass_1
theorem dksX1_pass_0 : cX1_pass.data.toList.drop 0 = dktX1_pass_0 := by decide +kernel
theorem dksX1_pass_1 : cX1_pass.data.toList.drop 24 = dktX1_pass_1 := dk_seg dksX1_pass_0 24 rfl rfl
theorem dX1_pass_0 : decode cX1_pass 0 = .ok (.iconst 1, 1) := dk_4 (dk_at dksX1_pass_0 0 rfl rfl)
theorem dX1_pass_1 : decode cX1_pass 1 = .ok (.bipush 60, 2) := dk_16 60 (dk_at dksX1_pass_0 1 rfl rfl)
theorem dX1_pass_3 : decode cX1_pass 3 = .ok (.iload_n 1, 1) := dk_27 (dk_at dksX1_pass_0 3 rfl rfl)
theorem dX1_pass_4 : decode cX1_pass 4 = .ok (.invokestatic 58, 3) := dk_184 0 58 (dk_at dksX1_pass_0 4 rfl rfl)
theorem dX1_pass_7 : decode cX1_pass 7 = .ok (.aload_n 0, 1) := dk_42 (dk_at dksX1_pass_0 7 rfl rfl)
theorem dX1_pass_8 : decode cX1_pass 8 = .ok (.getfield 39, 3) := dk_180 0 39 (dk_at dksX1_pass_0 8 rfl rfl)
theorem dX1_pass_11 : decode cX1_pass 11 = .ok (.invokevirtual 166, 3) := dk_182 0 166 (dk_at dksX1_pass_0 11 rfl rfl)
theorem dX1_pass_14 : decode cX1_pass 14 = .ok (.istore_n 2, 1) := dk_61 (dk_at dksX1_pass_0 14 rfl rfl)
theorem dX1_pass_15 : decode cX1_pass 15 = .ok (.iload_n 2, 1) := dk_28 (dk_at dksX1_pass_0 15 rfl rfl)
theorem dX1_pass_16 : decode cX1_pass 16 = .ok (.aload_n 0, 1) := dk_42 (dk_at dksX1_pass_0 16 rfl rfl)
theorem dX1_pass_17 : decode cX1_pass 17 = .ok (.getfield 39, 3) := dk_180 0 39 (dk_at dksX1_pass_0 17 rfl rfl)
theorem dX1_pass_20 : decode cX1_pass 20 = .ok (.iload_n 1, 1) := dk_27 (dk_at dksX1_pass_0 20 rfl rfl)
theorem dX1_pass_21 : decode cX1_pass 21 = .ok (.invokestatic 182, 3) := dk_184 0 182 (dk_at dksX1_pass_0 21 rfl rfl)
theorem dX1_pass_24 : decode cX1_pass 24 = .ok (.invokevirtual 166, 3) := dk_182 0 166 (dk_at dksX1_pass_1 0 rfl rfl)
theorem dX1_pass_27 : decode cX1_pass 27 = .ok (.isub, 1) := dk_100 (dk_at dksX1_pass_1 3 rfl rfl)
theorem dX1_pass_28 : decode cX1_pass 28 = .ok (.ireturn, 1) := dk_172 (dk_at dksX1_pass_1 4 rfl rfl)
abbrev cX1_pass_2 : ByteArray := prog_1_method_27_code
def yX1_pass_2 : MethodName := ⟨RX1, "pass", "(LLaneCrowds$Quarter;I)LLaneCrowds$Quarter;"⟩
def dkwX1_pass_2_0 : List UInt8 := [3, 61, 28, 27, 162, 0, 13, 42, 182, 0, 179, 132, 2, 1, 167, 255, 244, 42, 176]
abbrev dktX1_pass_2_0 : List UInt8 := dkwX1_pass_2_0 ++ []
theorem dksX1_pass_2_0 : cX1_pass_2.data.toList.drop 0 = dktX1_pass_2_0 := by decide +kernel
theorem dX1_pass_2_0 : decode cX1_pass_2 0 = .ok (.iconst 0, 1) := dk_3 (dk_at dksX1_pass_2_0 0 rfl rfl)
theorem dX1_pass_2_1 : decode cX1_pass_2 1 = .ok (.istore_n 2, 1) := dk_61 (dk_at dksX1_pass_2_0 1 rfl rfl)
theorem dX1_pass_2_2 : decode cX1_pass_2 2 = .ok (.iload_n 2, 1) := dk_28 (dk_at dksX1_pass_2_0 2 rfl rfl)
theorem dX1_pass_2_3 : decode cX1_pass_2 3 = .ok (.iload_n 1, 1) := dk_27 (dk_at dksX1_pass_2_0 3 rfl rfl)
theorem dX1_pass_2_4 : decode cX1_pass_2 4 = .ok (.if_icmp .ge 13, 3) := dk_162 0 13 (dk_at dksX1_pass_2_0 4 rfl rfl)
theorem dX1_pass_2_7 : decode cX1_pass_2 7 = .ok (.aload_n 0, 1) := dk_42 (dk_at dksX1_pass_2_0 7 rfl rfl)
theorem dX1_pass_2_8 : decode cX1_pass_2 8 = .ok (.invokevirtual 179, 3) := dk_182 0 179 (dk_at dksX1_pass_2_0 8 rfl rfl)
theorem dX1_pass_2_11 : decode cX1_pass_2 11 = .ok (.iinc 2 1, 3) := dk_132 2 1 (dk_at dksX1_pass_2_0 11 rfl rfl)
theorem dX1_pass_2_14 : decode cX1_pass_2 14 = .ok (.goto (-12), 3) := dk_167 255 244 (dk_at dksX1_pass_2_0 14 rfl rfl)
theorem dX1_pass_2_17 : decode cX1_pass_2 17 = .ok (.aload_n 0, 1) := dk_42 (dk_at dksX1_pass_2_0 17 rfl rfl)
theorem dX1_pass_2_18 : decode cX1_pass_2 18 = .ok (.areturn, 1) := dk_176 (dk_at dksX1_pass_2_0 18 rfl rfl)
abbrev cX1_foresee : ByteArray := prog_1_method_29_code
def yX1_foresee : MethodName := ⟨RX1, "foresee", "(II)I"⟩
def dkwX1_foresee_2 : List UInt8 := [182, 0, 176, 172]
abbrev dktX1_foresee_2 : List UInt8 := dkwX1_foresee_2 ++ []
def dkwX1_foresee_1 : List UInt8 := [28, 154, 0, 10, 45, 182, 0, 166, 167, 0, 19, 28, 4, 160, 0, 10, 45, 182, 0, 160, 167, 0, 7, 45]
abbrev dktX1_foresee_1 : List UInt8 := dkwX1_foresee_1 ++ dktX1_foresee_2
def dkwX1_foresee_0 : List UInt8 := [4, 16, 60, 27, 184, 0, 58, 28, 6, 184, 0, 25, 42, 180, 0, 39, 182, 0, 185, 27, 184, 0, 182, 78]
abbrev dktX1_foresee_0 : List UInt8 := dkwX1_foresee_0 ++ dktX1_foresee_1
theorem dksX1_foresee_0 : cX1_foresee.data.toList.drop 0 = dktX1_foresee_0 := by decide +kernel
theorem dksX1_foresee_1 : cX1_foresee.data.toList.drop 24 = dktX1_foresee_1 := dk_seg dksX1_foresee_0 24 rfl rfl
theorem dksX1_foresee_2 : cX1_foresee.data.toList.drop 48 = dktX1_foresee_2 := dk_seg dksX1_foresee_1 24 rfl rfl
theorem dX1_foresee_0 : decode cX1_foresee 0 = .ok (.iconst 1, 1) := dk_4 (dk_at dksX1_foresee_0 0 rfl rfl)
theorem dX1_foresee_1 : decode cX1_foresee 1 = .ok (.bipush 60, 2) := dk_16 60 (dk_at dksX1_foresee_0 1 rfl rfl)
theorem dX1_foresee_3 : decode cX1_foresee 3 = .ok (.iload_n 1, 1) := dk_27 (dk_at dksX1_foresee_0 3 rfl rfl)
theorem dX1_foresee_4 : decode cX1_foresee 4 = .ok (.invokestatic 58, 3) := dk_184 0 58 (dk_at dksX1_foresee_0 4 rfl rfl)
theorem dX1_foresee_7 : decode cX1_foresee 7 = .ok (.iload_n 2, 1) := dk_28 (dk_at dksX1_foresee_0 7 rfl rfl)
theorem dX1_foresee_8 : decode cX1_foresee 8 = .ok (.iconst 3, 1) := dk_6 (dk_at dksX1_foresee_0 8 rfl rfl)
theorem dX1_foresee_9 : decode cX1_foresee 9 = .ok (.invokestatic 25, 3) := dk_184 0 25 (dk_at dksX1_foresee_0 9 rfl rfl)
theorem dX1_foresee_12 : decode cX1_foresee 12 = .ok (.aload_n 0, 1) := dk_42 (dk_at dksX1_foresee_0 12 rfl rfl)
theorem dX1_foresee_13 : decode cX1_foresee 13 = .ok (.getfield 39, 3) := dk_180 0 39 (dk_at dksX1_foresee_0 13 rfl rfl)
theorem dX1_foresee_16 : decode cX1_foresee 16 = .ok (.invokevirtual 185, 3) := dk_182 0 185 (dk_at dksX1_foresee_0 16 rfl rfl)
theorem dX1_foresee_19 : decode cX1_foresee 19 = .ok (.iload_n 1, 1) := dk_27 (dk_at dksX1_foresee_0 19 rfl rfl)
theorem dX1_foresee_20 : decode cX1_foresee 20 = .ok (.invokestatic 182, 3) := dk_184 0 182 (dk_at dksX1_foresee_0 20 rfl rfl)
theorem dX1_foresee_23 : decode cX1_foresee 23 = .ok (.astore_n 3, 1) := dk_78 (dk_at dksX1_foresee_0 23 rfl rfl)
theorem dX1_foresee_24 : decode cX1_foresee 24 = .ok (.iload_n 2, 1) := dk_28 (dk_at dksX1_foresee_1 0 rfl rfl)
theorem dX1_foresee_25 : decode cX1_foresee 25 = .ok (.ifCond .ne 10, 3) := dk_154 0 10 (dk_at dksX1_foresee_1 1 rfl rfl)
theorem dX1_foresee_28 : decode cX1_foresee 28 = .ok (.aload_n 3, 1) := dk_45 (dk_at dksX1_foresee_1 4 rfl rfl)
theorem dX1_foresee_29 : decode cX1_foresee 29 = .ok (.invokevirtual 166, 3) := dk_182 0 166 (dk_at dksX1_foresee_1 5 rfl rfl)
theorem dX1_foresee_32 : decode cX1_foresee 32 = .ok (.goto 19, 3) := dk_167 0 19 (dk_at dksX1_foresee_1 8 rfl rfl)
theorem dX1_foresee_35 : decode cX1_foresee 35 = .ok (.iload_n 2, 1) := dk_28 (dk_at dksX1_foresee_1 11 rfl rfl)
theorem dX1_foresee_36 : decode cX1_foresee 36 = .ok (.iconst 1, 1) := dk_4 (dk_at dksX1_foresee_1 12 rfl rfl)
theorem dX1_foresee_37 : decode cX1_foresee 37 = .ok (.if_icmp .ne 10, 3) := dk_160 0 10 (dk_at dksX1_foresee_1 13 rfl rfl)
theorem dX1_foresee_40 : decode cX1_foresee 40 = .ok (.aload_n 3, 1) := dk_45 (dk_at dksX1_foresee_1 16 rfl rfl)
theorem dX1_foresee_41 : decode cX1_foresee 41 = .ok (.invokevirtual 160, 3) := dk_182 0 160 (dk_at dksX1_foresee_1 17 rfl rfl)
theorem dX1_foresee_44 : decode cX1_foresee 44 = .ok (.goto 7, 3) := dk_167 0 7 (dk_at dksX1_foresee_1 20 rfl rfl)
theorem dX1_foresee_47 : decode cX1_foresee 47 = .ok (.aload_n 3, 1) := dk_45 (dk_at dksX1_foresee_1 23 rfl rfl)
theorem dX1_foresee_48 : decode cX1_foresee 48 = .ok (.invokevirtual 176, 3) := dk_182 0 176 (dk_at dksX1_foresee_2 0 rfl rfl)
theorem dX1_foresee_51 : decode cX1_foresee 51 = .ok (.ireturn, 1) := dk_172 (dk_at dksX1_foresee_2 3 rfl rfl)
abbrev cX1_advise : ByteArray := prog_1_method_31_code
def yX1_advise : MethodName := ⟨RX1, "advise", "(I)I"⟩
def dkwX1_advise_3 : List UInt8 := [132, 5, 1, 167, 255, 220, 29, 172]
abbrev dktX1_advise_3 : List UInt8 := dkwX1_advise_3 ++ []
def dkwX1_advise_2 : List UInt8 := [182, 0, 192, 54, 6, 21, 6, 21, 4, 161, 0, 6, 167, 0, 10, 21, 5, 62, 21, 6, 54, 4]
abbrev dktX1_advise_2 : List UInt8 := dkwX1_advise_2 ++ dktX1_advise_3
def dkwX1_advise_1 : List UInt8 := [3, 62, 42, 27, 3, 182, 0, 192, 54, 4, 4, 54, 5, 21, 5, 16, 12, 162, 0, 35, 42, 27, 21, 5]
abbrev dktX1_advise_1 : List UInt8 := dkwX1_advise_1 ++ dktX1_advise_2
def dkwX1_advise_0 : List UInt8 := [42, 180, 0, 39, 180, 0, 65, 27, 184, 0, 83, 192, 0, 75, 77, 44, 182, 0, 87, 154, 0, 5, 2, 172]
abbrev dktX1_advise_0 : List UInt8 := dkwX1_advise_0 ++ dktX1_advise_1
theorem dksX1_advise_0 : cX1_advise.data.toList.drop 0 = dktX1_advise_0 := by decide +kernel
theorem dksX1_advise_1 : cX1_advise.data.toList.drop 24 = dktX1_advise_1 := dk_seg dksX1_advise_0 24 rfl rfl
theorem dksX1_advise_2 : cX1_advise.data.toList.drop 48 = dktX1_advise_2 := dk_seg dksX1_advise_1 24 rfl rfl
theorem dksX1_advise_3 : cX1_advise.data.toList.drop 70 = dktX1_advise_3 := dk_seg dksX1_advise_2 22 rfl rfl
theorem dX1_advise_0 : decode cX1_advise 0 = .ok (.aload_n 0, 1) := dk_42 (dk_at dksX1_advise_0 0 rfl rfl)
theorem dX1_advise_1 : decode cX1_advise 1 = .ok (.getfield 39, 3) := dk_180 0 39 (dk_at dksX1_advise_0 1 rfl rfl)
theorem dX1_advise_4 : decode cX1_advise 4 = .ok (.getfield 65, 3) := dk_180 0 65 (dk_at dksX1_advise_0 4 rfl rfl)
theorem dX1_advise_7 : decode cX1_advise 7 = .ok (.iload_n 1, 1) := dk_27 (dk_at dksX1_advise_0 7 rfl rfl)
theorem dX1_advise_8 : decode cX1_advise 8 = .ok (.invokestatic 83, 3) := dk_184 0 83 (dk_at dksX1_advise_0 8 rfl rfl)
theorem dX1_advise_11 : decode cX1_advise 11 = .ok (.checkcast 75, 3) := dk_192 0 75 (dk_at dksX1_advise_0 11 rfl rfl)
theorem dX1_advise_14 : decode cX1_advise 14 = .ok (.astore_n 2, 1) := dk_77 (dk_at dksX1_advise_0 14 rfl rfl)
theorem dX1_advise_15 : decode cX1_advise 15 = .ok (.aload_n 2, 1) := dk_44 (dk_at dksX1_advise_0 15 rfl rfl)
theorem dX1_advise_16 : decode cX1_advise 16 = .ok (.invokevirtual 87, 3) := dk_182 0 87 (dk_at dksX1_advise_0 16 rfl rfl)
theorem dX1_advise_19 : decode cX1_advise 19 = .ok (.ifCond .ne 5, 3) := dk_154 0 5 (dk_at dksX1_advise_0 19 rfl rfl)
theorem dX1_advise_22 : decode cX1_advise 22 = .ok (.iconst (-1), 1) := dk_2 (dk_at dksX1_advise_0 22 rfl rfl)
theorem dX1_advise_23 : decode cX1_advise 23 = .ok (.ireturn, 1) := dk_172 (dk_at dksX1_advise_0 23 rfl rfl)
theorem dX1_advise_24 : decode cX1_advise 24 = .ok (.iconst 0, 1) := dk_3 (dk_at dksX1_advise_1 0 rfl rfl)
theorem dX1_advise_25 : decode cX1_advise 25 = .ok (.istore_n 3, 1) := dk_62 (dk_at dksX1_advise_1 1 rfl rfl)
theorem dX1_advise_26 : decode cX1_advise 26 = .ok (.aload_n 0, 1) := dk_42 (dk_at dksX1_advise_1 2 rfl rfl)
theorem dX1_advise_27 : decode cX1_advise 27 = .ok (.iload_n 1, 1) := dk_27 (dk_at dksX1_advise_1 3 rfl rfl)
theorem dX1_advise_28 : decode cX1_advise 28 = .ok (.iconst 0, 1) := dk_3 (dk_at dksX1_advise_1 4 rfl rfl)
theorem dX1_advise_29 : decode cX1_advise 29 = .ok (.invokevirtual 192, 3) := dk_182 0 192 (dk_at dksX1_advise_1 5 rfl rfl)
theorem dX1_advise_32 : decode cX1_advise 32 = .ok (.istore 4, 2) := dk_54 4 (dk_at dksX1_advise_1 8 rfl rfl)
theorem dX1_advise_34 : decode cX1_advise 34 = .ok (.iconst 1, 1) := dk_4 (dk_at dksX1_advise_1 10 rfl rfl)
theorem dX1_advise_35 : decode cX1_advise 35 = .ok (.istore 5, 2) := dk_54 5 (dk_at dksX1_advise_1 11 rfl rfl)
theorem dX1_advise_37 : decode cX1_advise 37 = .ok (.iload 5, 2) := dk_21 5 (dk_at dksX1_advise_1 13 rfl rfl)
theorem dX1_advise_39 : decode cX1_advise 39 = .ok (.bipush 12, 2) := dk_16 12 (dk_at dksX1_advise_1 15 rfl rfl)
theorem dX1_advise_41 : decode cX1_advise 41 = .ok (.if_icmp .ge 35, 3) := dk_162 0 35 (dk_at dksX1_advise_1 17 rfl rfl)
theorem dX1_advise_44 : decode cX1_advise 44 = .ok (.aload_n 0, 1) := dk_42 (dk_at dksX1_advise_1 20 rfl rfl)
theorem dX1_advise_45 : decode cX1_advise 45 = .ok (.iload_n 1, 1) := dk_27 (dk_at dksX1_advise_1 21 rfl rfl)
theorem dX1_advise_46 : decode cX1_advise 46 = .ok (.iload 5, 2) := dk_21 5 (dk_at dksX1_advise_1 22 rfl rfl)
theorem dX1_advise_48 : decode cX1_advise 48 = .ok (.invokevirtual 192, 3) := dk_182 0 192 (dk_at dksX1_advise_2 0 rfl rfl)
theorem dX1_advise_51 : decode cX1_advise 51 = .ok (.istore 6, 2) := dk_54 6 (dk_at dksX1_advise_2 3 rfl rfl)
theorem dX1_advise_53 : decode cX1_advise 53 = .ok (.iload 6, 2) := dk_21 6 (dk_at dksX1_advise_2 5 rfl rfl)
theorem dX1_advise_55 : decode cX1_advise 55 = .ok (.iload 4, 2) := dk_21 4 (dk_at dksX1_advise_2 7 rfl rfl)
theorem dX1_advise_57 : decode cX1_advise 57 = .ok (.if_icmp .lt 6, 3) := dk_161 0 6 (dk_at dksX1_advise_2 9 rfl rfl)
theorem dX1_advise_60 : decode cX1_advise 60 = .ok (.goto 10, 3) := dk_167 0 10 (dk_at dksX1_advise_2 12 rfl rfl)
theorem dX1_advise_63 : decode cX1_advise 63 = .ok (.iload 5, 2) := dk_21 5 (dk_at dksX1_advise_2 15 rfl rfl)
theorem dX1_advise_65 : decode cX1_advise 65 = .ok (.istore_n 3, 1) := dk_62 (dk_at dksX1_advise_2 17 rfl rfl)
theorem dX1_advise_66 : decode cX1_advise 66 = .ok (.iload 6, 2) := dk_21 6 (dk_at dksX1_advise_2 18 rfl rfl)
theorem dX1_advise_68 : decode cX1_advise 68 = .ok (.istore 4, 2) := dk_54 4 (dk_at dksX1_advise_2 20 rfl rfl)
theorem dX1_advise_70 : decode cX1_advise 70 = .ok (.iinc 5 1, 3) := dk_132 5 1 (dk_at dksX1_advise_3 0 rfl rfl)
theorem dX1_advise_73 : decode cX1_advise 73 = .ok (.goto (-36), 3) := dk_167 255 220 (dk_at dksX1_advise_3 3 rfl rfl)
theorem dX1_advise_76 : decode cX1_advise 76 = .ok (.iload_n 3, 1) := dk_29 (dk_at dksX1_advise_3 6 rfl rfl)
theorem dX1_advise_77 : decode cX1_advise 77 = .ok (.ireturn, 1) := dk_172 (dk_at dksX1_advise_3 7 rfl rfl)
abbrev cX1_shutsWith : ByteArray := prog_1_method_30_code
def yX1_shutsWith : MethodName := ⟨RX1, "shutsWith", "(II)I"⟩
def dkwX1_shutsWith_2 : List UInt8 := [87, 45, 4, 184, 0, 182, 182, 0, 176, 172]
abbrev dktX1_shutsWith_2 : List UInt8 := dkwX1_shutsWith_2 ++ []
def dkwX1_shutsWith_1 : List UInt8 := [182, 0, 189, 45, 180, 0, 65, 27, 182, 0, 122, 192, 0, 75, 180, 0, 91, 28, 184, 0, 94, 182, 0, 79]
abbrev dktX1_shutsWith_1 : List UInt8 := dkwX1_shutsWith_1 ++ dktX1_shutsWith_2
def dkwX1_shutsWith_0 : List UInt8 := [42, 180, 0, 39, 182, 0, 185, 78, 45, 180, 0, 65, 27, 182, 0, 122, 192, 0, 75, 180, 0, 91]
abbrev dktX1_shutsWith_0 : List UInt8 := dkwX1_shutsWith_0 ++ dktX1_shutsWith_1
theorem dksX1_shutsWith_0 : cX1_shutsWith.data.toList.drop 0 = dktX1_shutsWith_0 := by decide +kernel
theorem dksX1_shutsWith_1 : cX1_shutsWith.data.toList.drop 22 = dktX1_shutsWith_1 := dk_seg dksX1_shutsWith_0 22 rfl rfl
theorem dksX1_shutsWith_2 : cX1_shutsWith.data.toList.drop 46 = dktX1_shutsWith_2 := dk_seg dksX1_shutsWith_1 24 rfl rfl
theorem dX1_shutsWith_0 : decode cX1_shutsWith 0 = .ok (.aload_n 0, 1) := dk_42 (dk_at dksX1_shutsWith_0 0 rfl rfl)
theorem dX1_shutsWith_1 : decode cX1_shutsWith 1 = .ok (.getfield 39, 3) := dk_180 0 39 (dk_at dksX1_shutsWith_0 1 rfl rfl)
theorem dX1_shutsWith_4 : decode cX1_shutsWith 4 = .ok (.invokevirtual 185, 3) := dk_182 0 185 (dk_at dksX1_shutsWith_0 4 rfl rfl)
theorem dX1_shutsWith_7 : decode cX1_shutsWith 7 = .ok (.astore_n 3, 1) := dk_78 (dk_at dksX1_shutsWith_0 7 rfl rfl)
theorem dX1_shutsWith_8 : decode cX1_shutsWith 8 = .ok (.aload_n 3, 1) := dk_45 (dk_at dksX1_shutsWith_0 8 rfl rfl)
theorem dX1_shutsWith_9 : decode cX1_shutsWith 9 = .ok (.getfield 65, 3) := dk_180 0 65 (dk_at dksX1_shutsWith_0 9 rfl rfl)
theorem dX1_shutsWith_12 : decode cX1_shutsWith 12 = .ok (.iload_n 1, 1) := dk_27 (dk_at dksX1_shutsWith_0 12 rfl rfl)
theorem dX1_shutsWith_13 : decode cX1_shutsWith 13 = .ok (.invokevirtual 122, 3) := dk_182 0 122 (dk_at dksX1_shutsWith_0 13 rfl rfl)
theorem dX1_shutsWith_16 : decode cX1_shutsWith 16 = .ok (.checkcast 75, 3) := dk_192 0 75 (dk_at dksX1_shutsWith_0 16 rfl rfl)
theorem dX1_shutsWith_19 : decode cX1_shutsWith 19 = .ok (.getfield 91, 3) := dk_180 0 91 (dk_at dksX1_shutsWith_0 19 rfl rfl)
theorem dX1_shutsWith_22 : decode cX1_shutsWith 22 = .ok (.invokevirtual 189, 3) := dk_182 0 189 (dk_at dksX1_shutsWith_1 0 rfl rfl)
theorem dX1_shutsWith_25 : decode cX1_shutsWith 25 = .ok (.aload_n 3, 1) := dk_45 (dk_at dksX1_shutsWith_1 3 rfl rfl)
theorem dX1_shutsWith_26 : decode cX1_shutsWith 26 = .ok (.getfield 65, 3) := dk_180 0 65 (dk_at dksX1_shutsWith_1 4 rfl rfl)
theorem dX1_shutsWith_29 : decode cX1_shutsWith 29 = .ok (.iload_n 1, 1) := dk_27 (dk_at dksX1_shutsWith_1 7 rfl rfl)
theorem dX1_shutsWith_30 : decode cX1_shutsWith 30 = .ok (.invokevirtual 122, 3) := dk_182 0 122 (dk_at dksX1_shutsWith_1 8 rfl rfl)
theorem dX1_shutsWith_33 : decode cX1_shutsWith 33 = .ok (.checkcast 75, 3) := dk_192 0 75 (dk_at dksX1_shutsWith_1 11 rfl rfl)
theorem dX1_shutsWith_36 : decode cX1_shutsWith 36 = .ok (.getfield 91, 3) := dk_180 0 91 (dk_at dksX1_shutsWith_1 14 rfl rfl)
theorem dX1_shutsWith_39 : decode cX1_shutsWith 39 = .ok (.iload_n 2, 1) := dk_28 (dk_at dksX1_shutsWith_1 17 rfl rfl)
theorem dX1_shutsWith_40 : decode cX1_shutsWith 40 = .ok (.invokestatic 94, 3) := dk_184 0 94 (dk_at dksX1_shutsWith_1 18 rfl rfl)
theorem dX1_shutsWith_43 : decode cX1_shutsWith 43 = .ok (.invokevirtual 79, 3) := dk_182 0 79 (dk_at dksX1_shutsWith_1 21 rfl rfl)
theorem dX1_shutsWith_46 : decode cX1_shutsWith 46 = .ok (.pop, 1) := dk_87 (dk_at dksX1_shutsWith_2 0 rfl rfl)
theorem dX1_shutsWith_47 : decode cX1_shutsWith 47 = .ok (.aload_n 3, 1) := dk_45 (dk_at dksX1_shutsWith_2 1 rfl rfl)
theorem dX1_shutsWith_48 : decode cX1_shutsWith 48 = .ok (.iconst 1, 1) := dk_4 (dk_at dksX1_shutsWith_2 2 rfl rfl)
theorem dX1_shutsWith_49 : decode cX1_shutsWith 49 = .ok (.invokestatic 182, 3) := dk_184 0 182 (dk_at dksX1_shutsWith_2 3 rfl rfl)
theorem dX1_shutsWith_52 : decode cX1_shutsWith 52 = .ok (.invokevirtual 176, 3) := dk_182 0 176 (dk_at dksX1_shutsWith_2 6 rfl rfl)
theorem dX1_shutsWith_55 : decode cX1_shutsWith 55 = .ok (.ireturn, 1) := dk_172 (dk_at dksX1_shutsWith_2 9 rfl rfl)
theorem q37 : (Jvm.Cond.initialized "LaneCrowds") ∈ lw_all := lw_g (lw_at lw_m1 1 rfl) rfl
theorem q64 : (Jvm.Cond.instantiable "LaneCrowds" (1 : Nat)) ∈ lw_all := lw_g (lw_at lw_m1 28 rfl) rfl
theorem q66 : (Jvm.Cond.instanceMethod ({ cls := "LaneCrowds", name := "<init>", desc := "()V" } : Jvm.MethodName)) ∈ lw_all := lw_g (lw_at lw_m1 30 rfl) rfl
theorem q67 : (Jvm.Cond.code ({ cls := "LaneCrowds", name := "<init>", desc := "()V" } : Jvm.MethodName) prog_1_method_8_code (1 : Nat) (Option.none : Option Jvm.ClassFile.FieldType)) ∈ lw_all := lw_g (lw_at lw_m1 31 rfl) rfl
theorem q68 : (Jvm.Cond.methodLink "LaneCrowds" (33 : Nat) ({ cls := "java/lang/Object", name := "<init>", desc := "()V" } : Jvm.MethodName)) ∈ lw_all := lw_g (lw_at lw_m1 32 rfl) rfl
theorem q71 : (Jvm.Cond.classLink "LaneCrowds" (36 : Nat) "LaneCrowds$Quarter") ∈ lw_all := lw_g (lw_at lw_m1 35 rfl) rfl
theorem q73 : (Jvm.Cond.methodLinkNest "LaneCrowds" (38 : Nat) ({ cls := "LaneCrowds$Quarter", name := "<init>", desc := "()V" } : Jvm.MethodName) "LaneCrowds") ∈ lw_tbl := lw_at lw_m1 37 rfl
theorem q105 : (Jvm.Cond.fieldLinkNest "LaneCrowds" (153 : Nat) "LaneCrowds$Quarter" "step" "I" "LaneCrowds") ∈ lw_tbl := lw_at lw_m1 69 rfl
theorem q107 : (Jvm.Cond.fieldLinkNest "LaneCrowds" (47 : Nat) "LaneCrowds$Quarter" "cells" "[I" "LaneCrowds") ∈ lw_tbl := lw_at lw_m1 71 rfl
theorem q109 : (Jvm.Cond.fieldLinkNest "LaneCrowds" (65 : Nat) "LaneCrowds$Quarter" "crowds" "Ljava/util/ArrayList;" "LaneCrowds") ∈ lw_tbl := lw_at lw_m1 73 rfl
theorem q111 : (Jvm.Cond.fieldLinkNest "LaneCrowds" (104 : Nat) "LaneCrowds$Quarter" "patrols" "Ljava/util/ArrayList;" "LaneCrowds") ∈ lw_tbl := lw_at lw_m1 75 rfl
theorem q121 : (Jvm.Cond.fieldLink "LaneCrowds" (39 : Nat) "LaneCrowds" "quarter" "LLaneCrowds$Quarter;") ∈ lw_all := lw_g (lw_at lw_m1 85 rfl) rfl
theorem q122 : (Jvm.Cond.laysFinal "LaneCrowds" "LaneCrowds" "quarter" "LLaneCrowds$Quarter;") ∈ lw_all := lw_g (lw_at lw_m1 86 rfl) rfl
theorem q123 : (Jvm.Cond.soleField "LaneCrowds" "quarter") ∈ lw_all := lw_g (lw_at lw_m1 87 rfl) rfl
theorem q124 : (Jvm.Cond.superclass "LaneCrowds" "java/lang/Object") ∈ lw_all := lw_g (lw_at lw_m1 88 rfl) rfl
theorem q126 : (Jvm.Cond.instanceMethod ({ cls := "LaneCrowds", name := "shuts", desc := "()I" } : Jvm.MethodName)) ∈ lw_all := lw_g (lw_at lw_m1 90 rfl) rfl
theorem q127 : (Jvm.Cond.selects "LaneCrowds" ({ cls := "LaneCrowds", name := "shuts", desc := "()I" } : Jvm.MethodName) ({ cls := "LaneCrowds", name := "shuts", desc := "()I" } : Jvm.MethodName)) ∈ lw_all := lw_g (lw_at lw_m1 91 rfl) rfl
theorem q128 : (Jvm.Cond.code ({ cls := "LaneCrowds", name := "shuts", desc := "()I" } : Jvm.MethodName) prog_1_method_26_code (1 : Nat) (Option.some Jvm.ClassFile.FieldType.int)) ∈ lw_all := lw_g (lw_at lw_m1 92 rfl) rfl
theorem q129 : (Jvm.Cond.methodLink "LaneCrowds" (176 : Nat) ({ cls := "LaneCrowds$Quarter", name := "shuts", desc := "()I" } : Jvm.MethodName)) ∈ lw_all := lw_g (lw_at lw_m1 93 rfl) rfl
theorem q149 : (Jvm.Cond.instanceMethod ({ cls := "LaneCrowds", name := "mean", desc := "()D" } : Jvm.MethodName)) ∈ lw_all := lw_g (lw_at lw_m1 113 rfl) rfl
theorem q150 : (Jvm.Cond.selects "LaneCrowds" ({ cls := "LaneCrowds", name := "mean", desc := "()D" } : Jvm.MethodName) ({ cls := "LaneCrowds", name := "mean", desc := "()D" } : Jvm.MethodName)) ∈ lw_all := lw_g (lw_at lw_m1 114 rfl) rfl
theorem q151 : (Jvm.Cond.code ({ cls := "LaneCrowds", name := "mean", desc := "()D" } : Jvm.MethodName) prog_1_method_32_code (1 : Nat) (Option.some Jvm.ClassFile.FieldType.double)) ∈ lw_all := lw_g (lw_at lw_m1 115 rfl) rfl
theorem q152 : (Jvm.Cond.methodLink "LaneCrowds" (163 : Nat) ({ cls := "LaneCrowds$Quarter", name := "crowdsThere", desc := "()I" } : Jvm.MethodName)) ∈ lw_all := lw_g (lw_at lw_m1 116 rfl) rfl
theorem q179 : (Jvm.Cond.methodLink "LaneCrowds" (166 : Nat) ({ cls := "LaneCrowds$Quarter", name := "people", desc := "()I" } : Jvm.MethodName)) ∈ lw_all := lw_g (lw_at lw_m1 143 rfl) rfl
theorem q184 : (Jvm.Cond.instanceMethod ({ cls := "LaneCrowds", name := "digest", desc := "()J" } : Jvm.MethodName)) ∈ lw_all := lw_g (lw_at lw_m1 148 rfl) rfl
theorem q185 : (Jvm.Cond.selects "LaneCrowds" ({ cls := "LaneCrowds", name := "digest", desc := "()J" } : Jvm.MethodName) ({ cls := "LaneCrowds", name := "digest", desc := "()J" } : Jvm.MethodName)) ∈ lw_all := lw_g (lw_at lw_m1 149 rfl) rfl
theorem q186 : (Jvm.Cond.code ({ cls := "LaneCrowds", name := "digest", desc := "()J" } : Jvm.MethodName) prog_1_method_33_code (7 : Nat) (Option.some Jvm.ClassFile.FieldType.long)) ∈ lw_all := lw_g (lw_at lw_m1 150 rfl) rfl
theorem q187 : (Jvm.Cond.constantLong "LaneCrowds" (195 : Nat) (997 : Int64)) ∈ lw_all := lw_g (lw_at lw_m1 151 rfl) rfl
theorem q188 : (Jvm.Cond.constantLong "LaneCrowds" (197 : Nat) (31 : Int64)) ∈ lw_all := lw_g (lw_at lw_m1 152 rfl) rfl
theorem q189 : (Jvm.Cond.methodLink "LaneCrowds" (170 : Nat) ({ cls := "LaneCrowds", name := "counted", desc := "(I)I" } : Jvm.MethodName)) ∈ lw_all := lw_g (lw_at lw_m1 153 rfl) rfl
theorem q190 : (Jvm.Cond.privateMethod ({ cls := "LaneCrowds", name := "counted", desc := "(I)I" } : Jvm.MethodName)) ∈ lw_tbl := lw_at lw_m1 154 rfl
theorem q191 : (Jvm.Cond.instanceMethod ({ cls := "LaneCrowds", name := "counted", desc := "(I)I" } : Jvm.MethodName)) ∈ lw_all := lw_g (lw_at lw_m1 155 rfl) rfl
theorem q192 : (Jvm.Cond.code ({ cls := "LaneCrowds", name := "counted", desc := "(I)I" } : Jvm.MethodName) prog_1_method_23_code (2 : Nat) (Option.some Jvm.ClassFile.FieldType.int)) ∈ lw_all := lw_g (lw_at lw_m1 156 rfl) rfl
theorem q193 : (Jvm.Cond.methodLink "LaneCrowds" (156 : Nat) ({ cls := "LaneCrowds$Quarter", name := "cellsLike", desc := "(I)I" } : Jvm.MethodName)) ∈ lw_all := lw_g (lw_at lw_m1 157 rfl) rfl
theorem q197 : (Jvm.Cond.methodLink "LaneCrowds" (160 : Nat) ({ cls := "LaneCrowds$Quarter", name := "barricades", desc := "()I" } : Jvm.MethodName)) ∈ lw_all := lw_g (lw_at lw_m1 161 rfl) rfl
theorem q204 : (Jvm.Cond.methodLink "LaneCrowds" (69 : Nat) ({ cls := "java/util/ArrayList", name := "size", desc := "()I" } : Jvm.MethodName)) ∈ lw_all := lw_g (lw_at lw_m1 168 rfl) rfl
theorem q205 : (Jvm.Cond.methodLink "LaneCrowds" (168 : Nat) ({ cls := "LaneCrowds", name := "missed", desc := "()I" } : Jvm.MethodName)) ∈ lw_all := lw_g (lw_at lw_m1 169 rfl) rfl
theorem q206 : (Jvm.Cond.privateMethod ({ cls := "LaneCrowds", name := "missed", desc := "()I" } : Jvm.MethodName)) ∈ lw_tbl := lw_at lw_m1 170 rfl
theorem q207 : (Jvm.Cond.instanceMethod ({ cls := "LaneCrowds", name := "missed", desc := "()I" } : Jvm.MethodName)) ∈ lw_all := lw_g (lw_at lw_m1 171 rfl) rfl
theorem q208 : (Jvm.Cond.code ({ cls := "LaneCrowds", name := "missed", desc := "()I" } : Jvm.MethodName) prog_1_method_22_code (3 : Nat) (Option.some Jvm.ClassFile.FieldType.int)) ∈ lw_all := lw_g (lw_at lw_m1 172 rfl) rfl
theorem q209 : (Jvm.Cond.methodLink "LaneCrowds" (122 : Nat) ({ cls := "java/util/ArrayList", name := "get", desc := "(I)Ljava/lang/Object;" } : Jvm.MethodName)) ∈ lw_all := lw_g (lw_at lw_m1 173 rfl) rfl
theorem q210 : (Jvm.Cond.classLink "LaneCrowds" (75 : Nat) "LaneCrowds$Crowd") ∈ lw_all := lw_g (lw_at lw_m1 174 rfl) rfl
theorem q211 : (Jvm.Cond.methodLink "LaneCrowds" (133 : Nat) ({ cls := "LaneCrowds", name := "crowdTold", desc := "(LLaneCrowds$Crowd;I)I" } : Jvm.MethodName)) ∈ lw_all := lw_g (lw_at lw_m1 175 rfl) rfl
theorem q212 : (Jvm.Cond.privateMethod ({ cls := "LaneCrowds", name := "crowdTold", desc := "(LLaneCrowds$Crowd;I)I" } : Jvm.MethodName)) ∈ lw_tbl := lw_at lw_m1 176 rfl
theorem q213 : (Jvm.Cond.instanceMethod ({ cls := "LaneCrowds", name := "crowdTold", desc := "(LLaneCrowds$Crowd;I)I" } : Jvm.MethodName)) ∈ lw_all := lw_g (lw_at lw_m1 177 rfl) rfl
theorem q214 : (Jvm.Cond.code ({ cls := "LaneCrowds", name := "crowdTold", desc := "(LLaneCrowds$Crowd;I)I" } : Jvm.MethodName) prog_1_method_16_code (3 : Nat) (Option.some Jvm.ClassFile.FieldType.int)) ∈ lw_all := lw_g (lw_at lw_m1 178 rfl) rfl
theorem q215 : (Jvm.Cond.methodLink "LaneCrowds" (119 : Nat) ({ cls := "java/util/ArrayList", name := "isEmpty", desc := "()Z" } : Jvm.MethodName)) ∈ lw_all := lw_g (lw_at lw_m1 179 rfl) rfl
theorem q219 : (Jvm.Cond.classLink "LaneCrowds" (95 : Nat) "java/lang/Integer") ∈ lw_all := lw_g (lw_at lw_m1 183 rfl) rfl
theorem q220 : (Jvm.Cond.methodLink "LaneCrowds" (123 : Nat) ({ cls := "java/lang/Integer", name := "intValue", desc := "()I" } : Jvm.MethodName)) ∈ lw_all := lw_g (lw_at lw_m1 184 rfl) rfl
theorem q224 : (Jvm.Cond.methodLink "LaneCrowds" (129 : Nat) ({ cls := "LaneCrowds$Quarter", name := "seenBy", desc := "(LLaneCrowds$Crowd;)I" } : Jvm.MethodName)) ∈ lw_all := lw_g (lw_at lw_m1 188 rfl) rfl
theorem q243 : (Jvm.Cond.classLink "LaneCrowds" (107 : Nat) "LaneCrowds$Patrol") ∈ lw_all := lw_g (lw_at lw_m1 207 rfl) rfl
theorem q244 : (Jvm.Cond.methodLink "LaneCrowds" (149 : Nat) ({ cls := "LaneCrowds", name := "patrolTold", desc := "(LLaneCrowds$Patrol;I)I" } : Jvm.MethodName)) ∈ lw_all := lw_g (lw_at lw_m1 208 rfl) rfl
theorem q245 : (Jvm.Cond.privateMethod ({ cls := "LaneCrowds", name := "patrolTold", desc := "(LLaneCrowds$Patrol;I)I" } : Jvm.MethodName)) ∈ lw_tbl := lw_at lw_m1 209 rfl
theorem q246 : (Jvm.Cond.instanceMethod ({ cls := "LaneCrowds", name := "patrolTold", desc := "(LLaneCrowds$Patrol;I)I" } : Jvm.MethodName)) ∈ lw_all := lw_g (lw_at lw_m1 210 rfl) rfl
theorem q247 : (Jvm.Cond.code ({ cls := "LaneCrowds", name := "patrolTold", desc := "(LLaneCrowds$Patrol;I)I" } : Jvm.MethodName) prog_1_method_19_code (3 : Nat) (Option.some Jvm.ClassFile.FieldType.int)) ∈ lw_all := lw_g (lw_at lw_m1 211 rfl) rfl
theorem q248 : (Jvm.Cond.methodLink "LaneCrowds" (142 : Nat) ({ cls := "LaneCrowds$Patrol", name := "direction", desc := "()I" } : Jvm.MethodName)) ∈ lw_all := lw_g (lw_at lw_m1 212 rfl) rfl
theorem q252 : (Jvm.Cond.methodLink "LaneCrowds" (145 : Nat) ({ cls := "LaneCrowds", name := "seen", desc := "(LLaneCrowds$Patrol;)I" } : Jvm.MethodName)) ∈ lw_all := lw_g (lw_at lw_m1 216 rfl) rfl
theorem q253 : (Jvm.Cond.privateMethod ({ cls := "LaneCrowds", name := "seen", desc := "(LLaneCrowds$Patrol;)I" } : Jvm.MethodName)) ∈ lw_tbl := lw_at lw_m1 217 rfl
theorem q254 : (Jvm.Cond.instanceMethod ({ cls := "LaneCrowds", name := "seen", desc := "(LLaneCrowds$Patrol;)I" } : Jvm.MethodName)) ∈ lw_all := lw_g (lw_at lw_m1 218 rfl) rfl
theorem q255 : (Jvm.Cond.code ({ cls := "LaneCrowds", name := "seen", desc := "(LLaneCrowds$Patrol;)I" } : Jvm.MethodName) prog_1_method_18_code (4 : Nat) (Option.some Jvm.ClassFile.FieldType.int)) ∈ lw_all := lw_g (lw_at lw_m1 219 rfl) rfl
theorem q256 : (Jvm.Cond.methodLink "LaneCrowds" (137 : Nat) ({ cls := "LaneCrowds$Quarter", name := "sees", desc := "(LLaneCrowds$Patrol;LLaneCrowds$Crowd;)Z" } : Jvm.MethodName)) ∈ lw_all := lw_g (lw_at lw_m1 220 rfl) rfl
theorem q339 : (Jvm.Cond.instanceMethod ({ cls := "LaneCrowds", name := "house", desc := "(II)Z" } : Jvm.MethodName)) ∈ lw_all := lw_g (lw_at lw_m2 63 rfl) rfl
theorem q340 : (Jvm.Cond.selects "LaneCrowds" ({ cls := "LaneCrowds", name := "house", desc := "(II)Z" } : Jvm.MethodName) ({ cls := "LaneCrowds", name := "house", desc := "(II)Z" } : Jvm.MethodName)) ∈ lw_all := lw_g (lw_at lw_m2 64 rfl) rfl
theorem q341 : (Jvm.Cond.code ({ cls := "LaneCrowds", name := "house", desc := "(II)Z" } : Jvm.MethodName) prog_1_method_9_code (4 : Nat) (Option.some Jvm.ClassFile.FieldType.boolean)) ∈ lw_all := lw_g (lw_at lw_m2 65 rfl) rfl
theorem q342 : (Jvm.Cond.methodLink "LaneCrowds" (43 : Nat) ({ cls := "LaneCrowds", name := "cellAt", desc := "(II)I" } : Jvm.MethodName)) ∈ lw_all := lw_g (lw_at lw_m2 66 rfl) rfl
theorem q343 : (Jvm.Cond.static ({ cls := "LaneCrowds", name := "cellAt", desc := "(II)I" } : Jvm.MethodName)) ∈ lw_all := lw_g (lw_at lw_m2 67 rfl) rfl
theorem q344 : (Jvm.Cond.code ({ cls := "LaneCrowds", name := "cellAt", desc := "(II)I" } : Jvm.MethodName) prog_1_method_6_code (2 : Nat) (Option.some Jvm.ClassFile.FieldType.int)) ∈ lw_all := lw_g (lw_at lw_m2 68 rfl) rfl
theorem q345 : (Jvm.Cond.methodLink "LaneCrowds" (25 : Nat) ({ cls := "LaneCrowds", name := "requireIndex", desc := "(II)V" } : Jvm.MethodName)) ∈ lw_all := lw_g (lw_at lw_m2 69 rfl) rfl
theorem q346 : (Jvm.Cond.static ({ cls := "LaneCrowds", name := "requireIndex", desc := "(II)V" } : Jvm.MethodName)) ∈ lw_all := lw_g (lw_at lw_m2 70 rfl) rfl
theorem q347 : (Jvm.Cond.code ({ cls := "LaneCrowds", name := "requireIndex", desc := "(II)V" } : Jvm.MethodName) prog_1_method_3_code (2 : Nat) (Option.none : Option Jvm.ClassFile.FieldType)) ∈ lw_all := lw_g (lw_at lw_m2 71 rfl) rfl
theorem q348 : (Jvm.Cond.classLink "LaneCrowds" (12 : Nat) "java/lang/IndexOutOfBoundsException") ∈ lw_all := lw_g (lw_at lw_m2 72 rfl) rfl
theorem q357 : (Jvm.Cond.methodLink "LaneCrowds" (14 : Nat) ({ cls := "java/lang/IndexOutOfBoundsException", name := "<init>", desc := "()V" } : Jvm.MethodName)) ∈ lw_all := lw_g (lw_at lw_m2 81 rfl) rfl
theorem q369 : (Jvm.Cond.methodLink "LaneCrowds" (51 : Nat) ({ cls := "LaneCrowds$Quarter", name := "isTaken", desc := "(I)Z" } : Jvm.MethodName)) ∈ lw_all := lw_g (lw_at lw_m2 93 rfl) rfl
theorem q373 : (Jvm.Cond.methodLink "LaneCrowds" (55 : Nat) ({ cls := "LaneCrowds", name := "requireState", desc := "(Z)V" } : Jvm.MethodName)) ∈ lw_all := lw_g (lw_at lw_m2 97 rfl) rfl
theorem q374 : (Jvm.Cond.static ({ cls := "LaneCrowds", name := "requireState", desc := "(Z)V" } : Jvm.MethodName)) ∈ lw_all := lw_g (lw_at lw_m2 98 rfl) rfl
theorem q375 : (Jvm.Cond.code ({ cls := "LaneCrowds", name := "requireState", desc := "(Z)V" } : Jvm.MethodName) prog_1_method_2_code (1 : Nat) (Option.none : Option Jvm.ClassFile.FieldType)) ∈ lw_all := lw_g (lw_at lw_m2 99 rfl) rfl
theorem q376 : (Jvm.Cond.classLink "LaneCrowds" (9 : Nat) "java/lang/IllegalStateException") ∈ lw_all := lw_g (lw_at lw_m2 100 rfl) rfl
theorem q385 : (Jvm.Cond.methodLink "LaneCrowds" (11 : Nat) ({ cls := "java/lang/IllegalStateException", name := "<init>", desc := "()V" } : Jvm.MethodName)) ∈ lw_all := lw_g (lw_at lw_m2 109 rfl) rfl
theorem q396 : (Jvm.Cond.instanceMethod ({ cls := "LaneCrowds", name := "block", desc := "(III)I" } : Jvm.MethodName)) ∈ lw_all := lw_g (lw_at lw_m2 120 rfl) rfl
theorem q397 : (Jvm.Cond.selects "LaneCrowds" ({ cls := "LaneCrowds", name := "block", desc := "(III)I" } : Jvm.MethodName) ({ cls := "LaneCrowds", name := "block", desc := "(III)I" } : Jvm.MethodName)) ∈ lw_all := lw_g (lw_at lw_m2 121 rfl) rfl
theorem q398 : (Jvm.Cond.code ({ cls := "LaneCrowds", name := "block", desc := "(III)I" } : Jvm.MethodName) prog_1_method_10_code (6 : Nat) (Option.some Jvm.ClassFile.FieldType.int)) ∈ lw_all := lw_g (lw_at lw_m2 122 rfl) rfl
theorem q399 : (Jvm.Cond.methodLink "LaneCrowds" (58 : Nat) ({ cls := "LaneCrowds", name := "requireFrom", desc := "(III)V" } : Jvm.MethodName)) ∈ lw_all := lw_g (lw_at lw_m2 123 rfl) rfl
theorem q400 : (Jvm.Cond.static ({ cls := "LaneCrowds", name := "requireFrom", desc := "(III)V" } : Jvm.MethodName)) ∈ lw_all := lw_g (lw_at lw_m2 124 rfl) rfl
theorem q401 : (Jvm.Cond.code ({ cls := "LaneCrowds", name := "requireFrom", desc := "(III)V" } : Jvm.MethodName) prog_1_method_4_code (3 : Nat) (Option.none : Option Jvm.ClassFile.FieldType)) ∈ lw_all := lw_g (lw_at lw_m2 125 rfl) rfl
theorem q402 : (Jvm.Cond.methodLink "LaneCrowds" (15 : Nat) ({ cls := "LaneCrowds", name := "require", desc := "(Z)V" } : Jvm.MethodName)) ∈ lw_all := lw_g (lw_at lw_m2 126 rfl) rfl
theorem q403 : (Jvm.Cond.static ({ cls := "LaneCrowds", name := "require", desc := "(Z)V" } : Jvm.MethodName)) ∈ lw_all := lw_g (lw_at lw_m2 127 rfl) rfl
theorem q404 : (Jvm.Cond.code ({ cls := "LaneCrowds", name := "require", desc := "(Z)V" } : Jvm.MethodName) prog_1_method_1_code (1 : Nat) (Option.none : Option Jvm.ClassFile.FieldType)) ∈ lw_all := lw_g (lw_at lw_m2 128 rfl) rfl
theorem q405 : (Jvm.Cond.classLink "LaneCrowds" (3 : Nat) "java/lang/IllegalArgumentException") ∈ lw_all := lw_g (lw_at lw_m2 129 rfl) rfl
theorem q414 : (Jvm.Cond.methodLink "LaneCrowds" (5 : Nat) ({ cls := "java/lang/IllegalArgumentException", name := "<init>", desc := "()V" } : Jvm.MethodName)) ∈ lw_all := lw_g (lw_at lw_m2 138 rfl) rfl
theorem q420 : (Jvm.Cond.methodLink "LaneCrowds" (62 : Nat) ({ cls := "LaneCrowds$Quarter", name := "isLane", desc := "(I)Z" } : Jvm.MethodName)) ∈ lw_all := lw_g (lw_at lw_m2 144 rfl) rfl
theorem q428 : (Jvm.Cond.instanceMethod ({ cls := "LaneCrowds", name := "cell", desc := "(II)I" } : Jvm.MethodName)) ∈ lw_all := lw_g (lw_at lw_m2 152 rfl) rfl
theorem q429 : (Jvm.Cond.selects "LaneCrowds" ({ cls := "LaneCrowds", name := "cell", desc := "(II)I" } : Jvm.MethodName) ({ cls := "LaneCrowds", name := "cell", desc := "(II)I" } : Jvm.MethodName)) ∈ lw_all := lw_g (lw_at lw_m2 153 rfl) rfl
theorem q430 : (Jvm.Cond.code ({ cls := "LaneCrowds", name := "cell", desc := "(II)I" } : Jvm.MethodName) prog_1_method_11_code (3 : Nat) (Option.some Jvm.ClassFile.FieldType.int)) ∈ lw_all := lw_g (lw_at lw_m2 154 rfl) rfl
theorem q435 : (Jvm.Cond.instanceMethod ({ cls := "LaneCrowds", name := "gather", desc := "(III)I" } : Jvm.MethodName)) ∈ lw_all := lw_g (lw_at lw_m2 159 rfl) rfl
theorem q436 : (Jvm.Cond.selects "LaneCrowds" ({ cls := "LaneCrowds", name := "gather", desc := "(III)I" } : Jvm.MethodName) ({ cls := "LaneCrowds", name := "gather", desc := "(III)I" } : Jvm.MethodName)) ∈ lw_all := lw_g (lw_at lw_m2 160 rfl) rfl
theorem q437 : (Jvm.Cond.code ({ cls := "LaneCrowds", name := "gather", desc := "(III)I" } : Jvm.MethodName) prog_1_method_12_code (5 : Nat) (Option.some Jvm.ClassFile.FieldType.int)) ∈ lw_all := lw_g (lw_at lw_m2 161 rfl) rfl
theorem q438 : (Jvm.Cond.methodLink "LaneCrowds" (72 : Nat) ({ cls := "LaneCrowds$Quarter", name := "isFree", desc := "(I)Z" } : Jvm.MethodName)) ∈ lw_all := lw_g (lw_at lw_m2 162 rfl) rfl
theorem q440 : (Jvm.Cond.methodLink "LaneCrowds" (77 : Nat) ({ cls := "LaneCrowds$Crowd", name := "<init>", desc := "(II)V" } : Jvm.MethodName)) ∈ lw_all := lw_g (lw_at lw_m2 164 rfl) rfl
theorem q448 : (Jvm.Cond.fieldLinkNest "LaneCrowds" (112 : Nat) "LaneCrowds$Crowd" "cell" "I" "LaneCrowds") ∈ lw_tbl := lw_at lw_m2 172 rfl
theorem q451 : (Jvm.Cond.fieldLinkNest "LaneCrowds" (116 : Nat) "LaneCrowds$Crowd" "people" "I" "LaneCrowds") ∈ lw_tbl := lw_at lw_m2 175 rfl
theorem q453 : (Jvm.Cond.fieldLinkNest "LaneCrowds" (100 : Nat) "LaneCrowds$Crowd" "burns" "Z" "LaneCrowds") ∈ lw_tbl := lw_at lw_m2 177 rfl
theorem q456 : (Jvm.Cond.fieldLinkNest "LaneCrowds" (126 : Nat) "LaneCrowds$Crowd" "missed" "I" "LaneCrowds") ∈ lw_tbl := lw_at lw_m2 180 rfl
theorem q459 : (Jvm.Cond.fieldLinkNest "LaneCrowds" (91 : Nat) "LaneCrowds$Crowd" "orders" "Ljava/util/ArrayList;" "LaneCrowds") ∈ lw_tbl := lw_at lw_m2 183 rfl
theorem q471 : (Jvm.Cond.methodLink "LaneCrowds" (79 : Nat) ({ cls := "java/util/ArrayList", name := "add", desc := "(Ljava/lang/Object;)Z" } : Jvm.MethodName)) ∈ lw_all := lw_g (lw_at lw_m2 195 rfl) rfl
theorem q501 : (Jvm.Cond.selects "LaneCrowds" ({ cls := "java/lang/Object", name := "getClass", desc := "()Ljava/lang/Class;" } : Jvm.MethodName) ({ cls := "java/lang/Object", name := "getClass", desc := "()Ljava/lang/Class;" } : Jvm.MethodName)) ∈ lw_all := lw_g (lw_at lw_m2 225 rfl) rfl
theorem q530 : (Jvm.Cond.instanceMethod ({ cls := "LaneCrowds", name := "order", desc := "(II)I" } : Jvm.MethodName)) ∈ lw_all := lw_g (lw_at lw_m3 14 rfl) rfl
theorem q531 : (Jvm.Cond.selects "LaneCrowds" ({ cls := "LaneCrowds", name := "order", desc := "(II)I" } : Jvm.MethodName) ({ cls := "LaneCrowds", name := "order", desc := "(II)I" } : Jvm.MethodName)) ∈ lw_all := lw_g (lw_at lw_m3 15 rfl) rfl
theorem q532 : (Jvm.Cond.code ({ cls := "LaneCrowds", name := "order", desc := "(II)I" } : Jvm.MethodName) prog_1_method_13_code (4 : Nat) (Option.some Jvm.ClassFile.FieldType.int)) ∈ lw_all := lw_g (lw_at lw_m3 16 rfl) rfl
theorem q533 : (Jvm.Cond.methodLink "LaneCrowds" (83 : Nat) ({ cls := "LaneCrowds", name := "known", desc := "(Ljava/util/List;I)Ljava/lang/Object;" } : Jvm.MethodName)) ∈ lw_all := lw_g (lw_at lw_m3 17 rfl) rfl
theorem q534 : (Jvm.Cond.static ({ cls := "LaneCrowds", name := "known", desc := "(Ljava/util/List;I)Ljava/lang/Object;" } : Jvm.MethodName)) ∈ lw_all := lw_g (lw_at lw_m3 18 rfl) rfl
theorem q535 : (Jvm.Cond.code ({ cls := "LaneCrowds", name := "known", desc := "(Ljava/util/List;I)Ljava/lang/Object;" } : Jvm.MethodName) prog_1_method_5_code (2 : Nat) (Option.some (Jvm.ClassFile.FieldType.object "java/lang/Object"))) ∈ lw_all := lw_g (lw_at lw_m3 19 rfl) rfl
theorem q536 : (Jvm.Cond.interfaceEntry "LaneCrowds" (19 : Nat)) ∈ lw_tbl := lw_at lw_m3 20 rfl
theorem q537 : (Jvm.Cond.methodLink "LaneCrowds" (19 : Nat) ({ cls := "java/util/List", name := "size", desc := "()I" } : Jvm.MethodName)) ∈ lw_all := lw_g (lw_at lw_m3 21 rfl) rfl
theorem q544 : (Jvm.Cond.interfaceEntry "LaneCrowds" (29 : Nat)) ∈ lw_tbl := lw_at lw_m3 28 rfl
theorem q545 : (Jvm.Cond.methodLink "LaneCrowds" (29 : Nat) ({ cls := "java/util/List", name := "get", desc := "(I)Ljava/lang/Object;" } : Jvm.MethodName)) ∈ lw_all := lw_g (lw_at lw_m3 29 rfl) rfl
theorem q551 : (Jvm.Cond.methodLink "LaneCrowds" (87 : Nat) ({ cls := "LaneCrowds$Crowd", name := "isThere", desc := "()Z" } : Jvm.MethodName)) ∈ lw_all := lw_g (lw_at lw_m3 35 rfl) rfl
theorem q552 : (Jvm.Cond.methodLink "LaneCrowds" (94 : Nat) ({ cls := "java/lang/Integer", name := "valueOf", desc := "(I)Ljava/lang/Integer;" } : Jvm.MethodName)) ∈ lw_all := lw_g (lw_at lw_m3 36 rfl) rfl
theorem q576 : (Jvm.Cond.instanceMethod ({ cls := "LaneCrowds", name := "torch", desc := "(I)Z" } : Jvm.MethodName)) ∈ lw_all := lw_g (lw_at lw_m3 60 rfl) rfl
theorem q577 : (Jvm.Cond.selects "LaneCrowds" ({ cls := "LaneCrowds", name := "torch", desc := "(I)Z" } : Jvm.MethodName) ({ cls := "LaneCrowds", name := "torch", desc := "(I)Z" } : Jvm.MethodName)) ∈ lw_all := lw_g (lw_at lw_m3 61 rfl) rfl
theorem q578 : (Jvm.Cond.code ({ cls := "LaneCrowds", name := "torch", desc := "(I)Z" } : Jvm.MethodName) prog_1_method_14_code (3 : Nat) (Option.some Jvm.ClassFile.FieldType.boolean)) ∈ lw_all := lw_g (lw_at lw_m3 62 rfl) rfl
theorem q583 : (Jvm.Cond.instanceMethod ({ cls := "LaneCrowds", name := "patrol", desc := "(IIII)I" } : Jvm.MethodName)) ∈ lw_all := lw_g (lw_at lw_m3 67 rfl) rfl
theorem q584 : (Jvm.Cond.selects "LaneCrowds" ({ cls := "LaneCrowds", name := "patrol", desc := "(IIII)I" } : Jvm.MethodName) ({ cls := "LaneCrowds", name := "patrol", desc := "(IIII)I" } : Jvm.MethodName)) ∈ lw_all := lw_g (lw_at lw_m3 68 rfl) rfl
theorem q585 : (Jvm.Cond.code ({ cls := "LaneCrowds", name := "patrol", desc := "(IIII)I" } : Jvm.MethodName) prog_1_method_15_code (8 : Nat) (Option.some Jvm.ClassFile.FieldType.int)) ∈ lw_all := lw_g (lw_at lw_m3 69 rfl) rfl
theorem q587 : (Jvm.Cond.methodLink "LaneCrowds" (109 : Nat) ({ cls := "LaneCrowds$Patrol", name := "<init>", desc := "(I[I)V" } : Jvm.MethodName)) ∈ lw_all := lw_g (lw_at lw_m3 71 rfl) rfl
theorem q593 : (Jvm.Cond.fieldLinkNest "LaneCrowds" (141 : Nat) "LaneCrowds$Patrol" "cell" "I" "LaneCrowds") ∈ lw_tbl := lw_at lw_m3 77 rfl
theorem q607 : (Jvm.Cond.instanceMethod ({ cls := "LaneCrowds", name := "crowd", desc := "(II)I" } : Jvm.MethodName)) ∈ lw_all := lw_g (lw_at lw_m3 91 rfl) rfl
theorem q608 : (Jvm.Cond.selects "LaneCrowds" ({ cls := "LaneCrowds", name := "crowd", desc := "(II)I" } : Jvm.MethodName) ({ cls := "LaneCrowds", name := "crowd", desc := "(II)I" } : Jvm.MethodName)) ∈ lw_all := lw_g (lw_at lw_m3 92 rfl) rfl
theorem q609 : (Jvm.Cond.code ({ cls := "LaneCrowds", name := "crowd", desc := "(II)I" } : Jvm.MethodName) prog_1_method_17_code (4 : Nat) (Option.some Jvm.ClassFile.FieldType.int)) ∈ lw_all := lw_g (lw_at lw_m3 93 rfl) rfl
theorem q614 : (Jvm.Cond.instanceMethod ({ cls := "LaneCrowds", name := "guard", desc := "(II)I" } : Jvm.MethodName)) ∈ lw_all := lw_g (lw_at lw_m3 98 rfl) rfl
theorem q615 : (Jvm.Cond.selects "LaneCrowds" ({ cls := "LaneCrowds", name := "guard", desc := "(II)I" } : Jvm.MethodName) ({ cls := "LaneCrowds", name := "guard", desc := "(II)I" } : Jvm.MethodName)) ∈ lw_all := lw_g (lw_at lw_m3 99 rfl) rfl
theorem q616 : (Jvm.Cond.code ({ cls := "LaneCrowds", name := "guard", desc := "(II)I" } : Jvm.MethodName) prog_1_method_20_code (4 : Nat) (Option.some Jvm.ClassFile.FieldType.int)) ∈ lw_all := lw_g (lw_at lw_m3 100 rfl) rfl
theorem q621 : (Jvm.Cond.instanceMethod ({ cls := "LaneCrowds", name := "sees", desc := "(II)Z" } : Jvm.MethodName)) ∈ lw_all := lw_g (lw_at lw_m3 105 rfl) rfl
theorem q622 : (Jvm.Cond.selects "LaneCrowds" ({ cls := "LaneCrowds", name := "sees", desc := "(II)Z" } : Jvm.MethodName) ({ cls := "LaneCrowds", name := "sees", desc := "(II)Z" } : Jvm.MethodName)) ∈ lw_all := lw_g (lw_at lw_m3 106 rfl) rfl
theorem q623 : (Jvm.Cond.code ({ cls := "LaneCrowds", name := "sees", desc := "(II)Z" } : Jvm.MethodName) prog_1_method_21_code (4 : Nat) (Option.some Jvm.ClassFile.FieldType.boolean)) ∈ lw_all := lw_g (lw_at lw_m3 107 rfl) rfl
theorem q628 : (Jvm.Cond.instanceMethod ({ cls := "LaneCrowds", name := "count", desc := "(I)I" } : Jvm.MethodName)) ∈ lw_all := lw_g (lw_at lw_m3 112 rfl) rfl
theorem q629 : (Jvm.Cond.selects "LaneCrowds" ({ cls := "LaneCrowds", name := "count", desc := "(I)I" } : Jvm.MethodName) ({ cls := "LaneCrowds", name := "count", desc := "(I)I" } : Jvm.MethodName)) ∈ lw_all := lw_g (lw_at lw_m3 113 rfl) rfl
theorem q630 : (Jvm.Cond.code ({ cls := "LaneCrowds", name := "count", desc := "(I)I" } : Jvm.MethodName) prog_1_method_24_code (2 : Nat) (Option.some Jvm.ClassFile.FieldType.int)) ∈ lw_all := lw_g (lw_at lw_m3 114 rfl) rfl
theorem q635 : (Jvm.Cond.instanceMethod ({ cls := "LaneCrowds", name := "way", desc := "(IIII)I" } : Jvm.MethodName)) ∈ lw_all := lw_g (lw_at lw_m3 119 rfl) rfl
theorem q636 : (Jvm.Cond.selects "LaneCrowds" ({ cls := "LaneCrowds", name := "way", desc := "(IIII)I" } : Jvm.MethodName) ({ cls := "LaneCrowds", name := "way", desc := "(IIII)I" } : Jvm.MethodName)) ∈ lw_all := lw_g (lw_at lw_m3 120 rfl) rfl
theorem q637 : (Jvm.Cond.code ({ cls := "LaneCrowds", name := "way", desc := "(IIII)I" } : Jvm.MethodName) prog_1_method_25_code (5 : Nat) (Option.some Jvm.ClassFile.FieldType.int)) ∈ lw_all := lw_g (lw_at lw_m3 121 rfl) rfl
theorem q638 : (Jvm.Cond.methodLink "LaneCrowds" (173 : Nat) ({ cls := "LaneCrowds$Quarter", name := "way", desc := "(II)I" } : Jvm.MethodName)) ∈ lw_all := lw_g (lw_at lw_m3 122 rfl) rfl
theorem q643 : (Jvm.Cond.static ({ cls := "LaneCrowds", name := "beside", desc := "(II)I" } : Jvm.MethodName)) ∈ lw_all := lw_g (lw_at lw_m3 127 rfl) rfl
theorem q644 : (Jvm.Cond.code ({ cls := "LaneCrowds", name := "beside", desc := "(II)I" } : Jvm.MethodName) prog_1_method_7_code (4 : Nat) (Option.some Jvm.ClassFile.FieldType.int)) ∈ lw_all := lw_g (lw_at lw_m3 128 rfl) rfl
theorem q649 : (Jvm.Cond.instanceMethod ({ cls := "LaneCrowds", name := "pass", desc := "(I)I" } : Jvm.MethodName)) ∈ lw_all := lw_g (lw_at lw_m3 133 rfl) rfl
theorem q650 : (Jvm.Cond.selects "LaneCrowds" ({ cls := "LaneCrowds", name := "pass", desc := "(I)I" } : Jvm.MethodName) ({ cls := "LaneCrowds", name := "pass", desc := "(I)I" } : Jvm.MethodName)) ∈ lw_all := lw_g (lw_at lw_m3 134 rfl) rfl
theorem q651 : (Jvm.Cond.code ({ cls := "LaneCrowds", name := "pass", desc := "(I)I" } : Jvm.MethodName) prog_1_method_28_code (3 : Nat) (Option.some Jvm.ClassFile.FieldType.int)) ∈ lw_all := lw_g (lw_at lw_m3 135 rfl) rfl
theorem q652 : (Jvm.Cond.methodLink "LaneCrowds" (182 : Nat) ({ cls := "LaneCrowds", name := "pass", desc := "(LLaneCrowds$Quarter;I)LLaneCrowds$Quarter;" } : Jvm.MethodName)) ∈ lw_all := lw_g (lw_at lw_m3 136 rfl) rfl
theorem q653 : (Jvm.Cond.static ({ cls := "LaneCrowds", name := "pass", desc := "(LLaneCrowds$Quarter;I)LLaneCrowds$Quarter;" } : Jvm.MethodName)) ∈ lw_all := lw_g (lw_at lw_m3 137 rfl) rfl
theorem q654 : (Jvm.Cond.code ({ cls := "LaneCrowds", name := "pass", desc := "(LLaneCrowds$Quarter;I)LLaneCrowds$Quarter;" } : Jvm.MethodName) prog_1_method_27_code (3 : Nat) (Option.some (Jvm.ClassFile.FieldType.object "LaneCrowds$Quarter"))) ∈ lw_all := lw_g (lw_at lw_m3 138 rfl) rfl
theorem q655 : (Jvm.Cond.methodLink "LaneCrowds" (179 : Nat) ({ cls := "LaneCrowds$Quarter", name := "pass", desc := "()V" } : Jvm.MethodName)) ∈ lw_all := lw_g (lw_at lw_m3 139 rfl) rfl
theorem q707 : (Jvm.Cond.instanceMethod ({ cls := "LaneCrowds", name := "foresee", desc := "(II)I" } : Jvm.MethodName)) ∈ lw_all := lw_g (lw_at lw_m3 191 rfl) rfl
theorem q708 : (Jvm.Cond.selects "LaneCrowds" ({ cls := "LaneCrowds", name := "foresee", desc := "(II)I" } : Jvm.MethodName) ({ cls := "LaneCrowds", name := "foresee", desc := "(II)I" } : Jvm.MethodName)) ∈ lw_all := lw_g (lw_at lw_m3 192 rfl) rfl
theorem q709 : (Jvm.Cond.code ({ cls := "LaneCrowds", name := "foresee", desc := "(II)I" } : Jvm.MethodName) prog_1_method_29_code (4 : Nat) (Option.some Jvm.ClassFile.FieldType.int)) ∈ lw_all := lw_g (lw_at lw_m3 193 rfl) rfl
theorem q710 : (Jvm.Cond.methodLink "LaneCrowds" (185 : Nat) ({ cls := "LaneCrowds$Quarter", name := "copy", desc := "()LLaneCrowds$Quarter;" } : Jvm.MethodName)) ∈ lw_all := lw_g (lw_at lw_m3 194 rfl) rfl
theorem q738 : (Jvm.Cond.instanceMethod ({ cls := "LaneCrowds", name := "advise", desc := "(I)I" } : Jvm.MethodName)) ∈ lw_all := lw_g (lw_at lw_m3 222 rfl) rfl
theorem q739 : (Jvm.Cond.selects "LaneCrowds" ({ cls := "LaneCrowds", name := "advise", desc := "(I)I" } : Jvm.MethodName) ({ cls := "LaneCrowds", name := "advise", desc := "(I)I" } : Jvm.MethodName)) ∈ lw_all := lw_g (lw_at lw_m3 223 rfl) rfl
theorem q740 : (Jvm.Cond.code ({ cls := "LaneCrowds", name := "advise", desc := "(I)I" } : Jvm.MethodName) prog_1_method_31_code (7 : Nat) (Option.some Jvm.ClassFile.FieldType.int)) ∈ lw_all := lw_g (lw_at lw_m3 224 rfl) rfl
theorem q741 : (Jvm.Cond.methodLink "LaneCrowds" (192 : Nat) ({ cls := "LaneCrowds", name := "shutsWith", desc := "(II)I" } : Jvm.MethodName)) ∈ lw_all := lw_g (lw_at lw_m3 225 rfl) rfl
theorem q742 : (Jvm.Cond.privateMethod ({ cls := "LaneCrowds", name := "shutsWith", desc := "(II)I" } : Jvm.MethodName)) ∈ lw_tbl := lw_at lw_m3 226 rfl
theorem q743 : (Jvm.Cond.instanceMethod ({ cls := "LaneCrowds", name := "shutsWith", desc := "(II)I" } : Jvm.MethodName)) ∈ lw_all := lw_g (lw_at lw_m3 227 rfl) rfl
theorem q744 : (Jvm.Cond.code ({ cls := "LaneCrowds", name := "shutsWith", desc := "(II)I" } : Jvm.MethodName) prog_1_method_30_code (4 : Nat) (Option.some Jvm.ClassFile.FieldType.int)) ∈ lw_all := lw_g (lw_at lw_m3 228 rfl) rfl
theorem q745 : (Jvm.Cond.methodLink "LaneCrowds" (189 : Nat) ({ cls := "java/util/ArrayList", name := "clear", desc := "()V" } : Jvm.MethodName)) ∈ lw_all := lw_g (lw_at lw_m3 229 rfl) rfl
theorem q1042 : (Jvm.Cond.castable "LaneCrowds" "java/lang/Object") ∈ lw_tbl := lw_at lw_m5 46 rfl
theorem in_X1 : ∀ w ∈ wsX10, w ∈ lw_all := lw_in wsX10 [122] (by decide +kernel) (by decide +kernel)
