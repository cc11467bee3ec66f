/-! LaneCrowds$Quarter -/
set_option maxRecDepth 100000
def RX2 : String := "LaneCrowds$Quarter"
def TX2 : u_T := fun k => match k with
  | 0 => ("LaneCrowds$Quarter", "step", "I", false)
  | 1 => ("LaneCrowds$Quarter", "cells", "[I", true)
  | 2 => ("LaneCrowds$Quarter", "crowds", "Ljava/util/ArrayList;", true)
  | _ => ("LaneCrowds$Quarter", "patrols", "Ljava/util/ArrayList;", true)
def tyX2 : Nat → FieldType := fun k => match k with
  | 0 => .int
  | 1 => .array .int
  | 2 => .object "java/util/ArrayList"
  | _ => .object "java/util/ArrayList"
abbrev wsX20 : List Cond := u_ws RX2 TX2 4
theorem nmX2 : ∀ a, a < 4 → ∀ b, b < 4 → a ≠ b → (TX2 a).2.1 ≠ (TX2 b).2.1 := by decide +kernel
theorem tyX2_ok : ∀ k, k < 4 → parseFieldDescriptor (TX2 k).2.2.1 = some (tyX2 k) := by decide +kernel
abbrev cX2_init : ByteArray := prog_4_method_1_code
def yX2_init : MethodName := ⟨RX2, "<init>", "()V"⟩
def dkwX2_init_1 : List UInt8 := [187, 0, 15, 89, 183, 0, 17, 181, 0, 22, 177]
abbrev dktX2_init_1 : List UInt8 := dkwX2_init_1 ++ []
def dkwX2_init_0 : List UInt8 := [42, 183, 0, 3, 42, 16, 108, 188, 10, 181, 0, 9, 42, 187, 0, 15, 89, 183, 0, 17, 181, 0, 18, 42]
abbrev dktX2_init_0 : List UInt8 := dkwX2_init_0 ++ dktX2_init_1
theorem dksX2_init_0 : cX2_init.data.toList.drop 0 = dktX2_init_0 := by decide +kernel
theorem dksX2_init_1 : cX2_init.data.toList.drop 24 = dktX2_init_1 := dk_seg dksX2_init_0 24 rfl rfl
theorem dX2_init_0 : decode cX2_init 0 = .ok (.aload_n 0, 1) := dk_42 (dk_at dksX2_init_0 0 rfl rfl)
theorem dX2_init_1 : decode cX2_init 1 = .ok (.invokespecial 3, 3) := dk_183 0 3 (dk_at dksX2_init_0 1 rfl rfl)
theorem dX2_init_4 : decode cX2_init 4 = .ok (.aload_n 0, 1) := dk_42 (dk_at dksX2_init_0 4 rfl rfl)
theorem dX2_init_5 : decode cX2_init 5 = .ok (.bipush 108, 2) := dk_16 108 (dk_at dksX2_init_0 5 rfl rfl)
theorem dX2_init_7 : decode cX2_init 7 = .ok (.newarray .int, 2) := dk_188_10 (dk_at dksX2_init_0 7 rfl rfl)
theorem dX2_init_9 : decode cX2_init 9 = .ok (.putfield 9, 3) := dk_181 0 9 (dk_at dksX2_init_0 9 rfl rfl)
theorem dX2_init_12 : decode cX2_init 12 = .ok (.aload_n 0, 1) := dk_42 (dk_at dksX2_init_0 12 rfl rfl)
theorem dX2_init_13 : decode cX2_init 13 = .ok (.new 15, 3) := dk_187 0 15 (dk_at dksX2_init_0 13 rfl rfl)
theorem dX2_init_16 : decode cX2_init 16 = .ok (.dup, 1) := dk_89 (dk_at dksX2_init_0 16 rfl rfl)
theorem dX2_init_17 : decode cX2_init 17 = .ok (.invokespecial 17, 3) := dk_183 0 17 (dk_at dksX2_init_0 17 rfl rfl)
theorem dX2_init_20 : decode cX2_init 20 = .ok (.putfield 18, 3) := dk_181 0 18 (dk_at dksX2_init_0 20 rfl rfl)
theorem dX2_init_23 : decode cX2_init 23 = .ok (.aload_n 0, 1) := dk_42 (dk_at dksX2_init_0 23 rfl rfl)
theorem dX2_init_24 : decode cX2_init 24 = .ok (.new 15, 3) := dk_187 0 15 (dk_at dksX2_init_1 0 rfl rfl)
theorem dX2_init_27 : decode cX2_init 27 = .ok (.dup, 1) := dk_89 (dk_at dksX2_init_1 3 rfl rfl)
theorem dX2_init_28 : decode cX2_init 28 = .ok (.invokespecial 17, 3) := dk_183 0 17 (dk_at dksX2_init_1 4 rfl rfl)
theorem dX2_init_31 : decode cX2_init 31 = .ok (.putfield 22, 3) := dk_181 0 22 (dk_at dksX2_init_1 7 rfl rfl)
theorem dX2_init_34 : decode cX2_init 34 = .ok (.return_, 1) := dk_177 (dk_at dksX2_init_1 10 rfl rfl)
abbrev cX2_shuts : ByteArray := prog_4_method_20_code
def yX2_shuts : MethodName := ⟨RX2, "shuts", "()I"⟩
def dkwX2_shuts_4 : List UInt8 := [184, 0, 159, 62, 132, 4, 1, 167, 255, 237, 29, 172]
abbrev dktX2_shuts_4 : List UInt8 := dkwX2_shuts_4 ++ []
def dkwX2_shuts_3 : List UInt8 := [167, 255, 227, 17, 3, 232, 62, 16, 96, 54, 4, 21, 4, 16, 108, 162, 0, 18, 29, 43, 21, 4, 46]
abbrev dktX2_shuts_3 : List UInt8 := dkwX2_shuts_3 ++ dktX2_shuts_4
def dkwX2_shuts_2 : List UInt8 := [3, 62, 29, 16, 108, 162, 0, 18, 28, 42, 43, 29, 182, 0, 155, 128, 61, 132, 3, 1, 167, 255, 238]
abbrev dktX2_shuts_2 : List UInt8 := dkwX2_shuts_2 ++ dktX2_shuts_3
def dkwX2_shuts_1 : List UInt8 := [182, 0, 152, 167, 0, 6, 17, 3, 232, 79, 132, 2, 1, 167, 255, 227, 4, 61, 28, 153, 0, 31, 3, 61]
abbrev dktX2_shuts_1 : List UInt8 := dkwX2_shuts_1 ++ dktX2_shuts_2
def dkwX2_shuts_0 : List UInt8 := [16, 108, 188, 10, 76, 3, 61, 28, 16, 108, 162, 0, 29, 43, 28, 28, 16, 12, 162, 0, 11, 42, 28]
abbrev dktX2_shuts_0 : List UInt8 := dkwX2_shuts_0 ++ dktX2_shuts_1
theorem dksX2_shuts_0 : cX2_shuts.data.toList.drop 0 = dktX2_shuts_0 := by decide +kernel
theorem dksX2_shuts_1 : cX2_shuts.data.toList.drop 23 = dktX2_shuts_1 := dk_seg dksX2_shuts_0 23 rfl rfl
theorem dksX2_shuts_2 : cX2_shuts.data.toList.drop 47 = dktX2_shuts_2 := dk_seg dksX2_shuts_1 24 rfl rfl
theorem dksX2_shuts_3 : cX2_shuts.data.toList.drop 70 = dktX2_shuts_3 := dk_seg dksX2_shuts_2 23 rfl rfl
theorem dksX2_shuts_4 : cX2_shuts.data.toList.drop 93 = dktX2_shuts_4 := dk_seg dksX2_shuts_3 23 rfl rfl
theorem dX2_shuts_0 : decode cX2_shuts 0 = .ok (.bipush 108, 2) := dk_16 108 (dk_at dksX2_shuts_0 0 rfl rfl)
theorem dX2_shuts_2 : decode cX2_shuts 2 = .ok (.newarray .int, 2) := dk_188_10 (dk_at dksX2_shuts_0 2 rfl rfl)
theorem dX2_shuts_4 : decode cX2_shuts 4 = .ok (.astore_n 1, 1) := dk_76 (dk_at dksX2_shuts_0 4 rfl rfl)
theorem dX2_shuts_5 : decode cX2_shuts 5 = .ok (.iconst 0, 1) := dk_3 (dk_at dksX2_shuts_0 5 rfl rfl)
theorem dX2_shuts_6 : decode cX2_shuts 6 = .ok (.istore_n 2, 1) := dk_61 (dk_at dksX2_shuts_0 6 rfl rfl)
theorem dX2_shuts_7 : decode cX2_shuts 7 = .ok (.iload_n 2, 1) := dk_28 (dk_at dksX2_shuts_0 7 rfl rfl)
theorem dX2_shuts_8 : decode cX2_shuts 8 = .ok (.bipush 108, 2) := dk_16 108 (dk_at dksX2_shuts_0 8 rfl rfl)
theorem dX2_shuts_10 : decode cX2_shuts 10 = .ok (.if_icmp .ge 29, 3) := dk_162 0 29 (dk_at dksX2_shuts_0 10 rfl rfl)
theorem dX2_shuts_13 : decode cX2_shuts 13 = .ok (.aload_n 1, 1) := dk_43 (dk_at dksX2_shuts_0 13 rfl rfl)
theorem dX2_shuts_14 : decode cX2_shuts 14 = .ok (.iload_n 2, 1) := dk_28 (dk_at dksX2_shuts_0 14 rfl rfl)
theorem dX2_shuts_15 : decode cX2_shuts 15 = .ok (.iload_n 2, 1) := dk_28 (dk_at dksX2_shuts_0 15 rfl rfl)
theorem dX2_shuts_16 : decode cX2_shuts 16 = .ok (.bipush 12, 2) := dk_16 12 (dk_at dksX2_shuts_0 16 rfl rfl)
theorem dX2_shuts_18 : decode cX2_shuts 18 = .ok (.if_icmp .ge 11, 3) := dk_162 0 11 (dk_at dksX2_shuts_0 18 rfl rfl)
theorem dX2_shuts_21 : decode cX2_shuts 21 = .ok (.aload_n 0, 1) := dk_42 (dk_at dksX2_shuts_0 21 rfl rfl)
theorem dX2_shuts_22 : decode cX2_shuts 22 = .ok (.iload_n 2, 1) := dk_28 (dk_at dksX2_shuts_0 22 rfl rfl)
theorem dX2_shuts_23 : decode cX2_shuts 23 = .ok (.invokevirtual 152, 3) := dk_182 0 152 (dk_at dksX2_shuts_1 0 rfl rfl)
theorem dX2_shuts_26 : decode cX2_shuts 26 = .ok (.goto 6, 3) := dk_167 0 6 (dk_at dksX2_shuts_1 3 rfl rfl)
theorem dX2_shuts_29 : decode cX2_shuts 29 = .ok (.sipush 1000, 3) := dk_17 3 232 (dk_at dksX2_shuts_1 6 rfl rfl)
theorem dX2_shuts_32 : decode cX2_shuts 32 = .ok (.iastore, 1) := dk_79 (dk_at dksX2_shuts_1 9 rfl rfl)
theorem dX2_shuts_33 : decode cX2_shuts 33 = .ok (.iinc 2 1, 3) := dk_132 2 1 (dk_at dksX2_shuts_1 10 rfl rfl)
theorem dX2_shuts_36 : decode cX2_shuts 36 = .ok (.goto (-29), 3) := dk_167 255 227 (dk_at dksX2_shuts_1 13 rfl rfl)
theorem dX2_shuts_39 : decode cX2_shuts 39 = .ok (.iconst 1, 1) := dk_4 (dk_at dksX2_shuts_1 16 rfl rfl)
theorem dX2_shuts_40 : decode cX2_shuts 40 = .ok (.istore_n 2, 1) := dk_61 (dk_at dksX2_shuts_1 17 rfl rfl)
theorem dX2_shuts_41 : decode cX2_shuts 41 = .ok (.iload_n 2, 1) := dk_28 (dk_at dksX2_shuts_1 18 rfl rfl)
theorem dX2_shuts_42 : decode cX2_shuts 42 = .ok (.ifCond .eq 31, 3) := dk_153 0 31 (dk_at dksX2_shuts_1 19 rfl rfl)
theorem dX2_shuts_45 : decode cX2_shuts 45 = .ok (.iconst 0, 1) := dk_3 (dk_at dksX2_shuts_1 22 rfl rfl)
theorem dX2_shuts_46 : decode cX2_shuts 46 = .ok (.istore_n 2, 1) := dk_61 (dk_at dksX2_shuts_1 23 rfl rfl)
theorem dX2_shuts_47 : decode cX2_shuts 47 = .ok (.iconst 0, 1) := dk_3 (dk_at dksX2_shuts_2 0 rfl rfl)
theorem dX2_shuts_48 : decode cX2_shuts 48 = .ok (.istore_n 3, 1) := dk_62 (dk_at dksX2_shuts_2 1 rfl rfl)
theorem dX2_shuts_49 : decode cX2_shuts 49 = .ok (.iload_n 3, 1) := dk_29 (dk_at dksX2_shuts_2 2 rfl rfl)
theorem dX2_shuts_50 : decode cX2_shuts 50 = .ok (.bipush 108, 2) := dk_16 108 (dk_at dksX2_shuts_2 3 rfl rfl)
theorem dX2_shuts_52 : decode cX2_shuts 52 = .ok (.if_icmp .ge 18, 3) := dk_162 0 18 (dk_at dksX2_shuts_2 5 rfl rfl)
theorem dX2_shuts_55 : decode cX2_shuts 55 = .ok (.iload_n 2, 1) := dk_28 (dk_at dksX2_shuts_2 8 rfl rfl)
theorem dX2_shuts_56 : decode cX2_shuts 56 = .ok (.aload_n 0, 1) := dk_42 (dk_at dksX2_shuts_2 9 rfl rfl)
theorem dX2_shuts_57 : decode cX2_shuts 57 = .ok (.aload_n 1, 1) := dk_43 (dk_at dksX2_shuts_2 10 rfl rfl)
theorem dX2_shuts_58 : decode cX2_shuts 58 = .ok (.iload_n 3, 1) := dk_29 (dk_at dksX2_shuts_2 11 rfl rfl)
theorem dX2_shuts_59 : decode cX2_shuts 59 = .ok (.invokevirtual 155, 3) := dk_182 0 155 (dk_at dksX2_shuts_2 12 rfl rfl)
theorem dX2_shuts_62 : decode cX2_shuts 62 = .ok (.ior, 1) := dk_128 (dk_at dksX2_shuts_2 15 rfl rfl)
theorem dX2_shuts_63 : decode cX2_shuts 63 = .ok (.istore_n 2, 1) := dk_61 (dk_at dksX2_shuts_2 16 rfl rfl)
theorem dX2_shuts_64 : decode cX2_shuts 64 = .ok (.iinc 3 1, 3) := dk_132 3 1 (dk_at dksX2_shuts_2 17 rfl rfl)
theorem dX2_shuts_67 : decode cX2_shuts 67 = .ok (.goto (-18), 3) := dk_167 255 238 (dk_at dksX2_shuts_2 20 rfl rfl)
theorem dX2_shuts_70 : decode cX2_shuts 70 = .ok (.goto (-29), 3) := dk_167 255 227 (dk_at dksX2_shuts_3 0 rfl rfl)
theorem dX2_shuts_73 : decode cX2_shuts 73 = .ok (.sipush 1000, 3) := dk_17 3 232 (dk_at dksX2_shuts_3 3 rfl rfl)
theorem dX2_shuts_76 : decode cX2_shuts 76 = .ok (.istore_n 3, 1) := dk_62 (dk_at dksX2_shuts_3 6 rfl rfl)
theorem dX2_shuts_77 : decode cX2_shuts 77 = .ok (.bipush 96, 2) := dk_16 96 (dk_at dksX2_shuts_3 7 rfl rfl)
theorem dX2_shuts_79 : decode cX2_shuts 79 = .ok (.istore 4, 2) := dk_54 4 (dk_at dksX2_shuts_3 9 rfl rfl)
theorem dX2_shuts_81 : decode cX2_shuts 81 = .ok (.iload 4, 2) := dk_21 4 (dk_at dksX2_shuts_3 11 rfl rfl)
theorem dX2_shuts_83 : decode cX2_shuts 83 = .ok (.bipush 108, 2) := dk_16 108 (dk_at dksX2_shuts_3 13 rfl rfl)
theorem dX2_shuts_85 : decode cX2_shuts 85 = .ok (.if_icmp .ge 18, 3) := dk_162 0 18 (dk_at dksX2_shuts_3 15 rfl rfl)
theorem dX2_shuts_88 : decode cX2_shuts 88 = .ok (.iload_n 3, 1) := dk_29 (dk_at dksX2_shuts_3 18 rfl rfl)
theorem dX2_shuts_89 : decode cX2_shuts 89 = .ok (.aload_n 1, 1) := dk_43 (dk_at dksX2_shuts_3 19 rfl rfl)
theorem dX2_shuts_90 : decode cX2_shuts 90 = .ok (.iload 4, 2) := dk_21 4 (dk_at dksX2_shuts_3 20 rfl rfl)
theorem dX2_shuts_92 : decode cX2_shuts 92 = .ok (.iaload, 1) := dk_46 (dk_at dksX2_shuts_3 22 rfl rfl)
theorem dX2_shuts_93 : decode cX2_shuts 93 = .ok (.invokestatic 159, 3) := dk_184 0 159 (dk_at dksX2_shuts_4 0 rfl rfl)
theorem dX2_shuts_96 : decode cX2_shuts 96 = .ok (.istore_n 3, 1) := dk_62 (dk_at dksX2_shuts_4 3 rfl rfl)
theorem dX2_shuts_97 : decode cX2_shuts 97 = .ok (.iinc 4 1, 3) := dk_132 4 1 (dk_at dksX2_shuts_4 4 rfl rfl)
theorem dX2_shuts_100 : decode cX2_shuts 100 = .ok (.goto (-19), 3) := dk_167 255 237 (dk_at dksX2_shuts_4 7 rfl rfl)
theorem dX2_shuts_103 : decode cX2_shuts 103 = .ok (.iload_n 3, 1) := dk_29 (dk_at dksX2_shuts_4 10 rfl rfl)
theorem dX2_shuts_104 : decode cX2_shuts 104 = .ok (.ireturn, 1) := dk_172 (dk_at dksX2_shuts_4 11 rfl rfl)
abbrev cX2_costs : ByteArray := prog_4_method_21_code
def yX2_costs : MethodName := ⟨RX2, "costs", "(I)I"⟩
def dkwX2_costs_0 : List UInt8 := [42, 27, 182, 0, 121, 153, 0, 7, 4, 167, 0, 4, 3, 172]
abbrev dktX2_costs_0 : List UInt8 := dkwX2_costs_0 ++ []
theorem dksX2_costs_0 : cX2_costs.data.toList.drop 0 = dktX2_costs_0 := by decide +kernel
theorem dX2_costs_0 : decode cX2_costs 0 = .ok (.aload_n 0, 1) := dk_42 (dk_at dksX2_costs_0 0 rfl rfl)
theorem dX2_costs_1 : decode cX2_costs 1 = .ok (.iload_n 1, 1) := dk_27 (dk_at dksX2_costs_0 1 rfl rfl)
theorem dX2_costs_2 : decode cX2_costs 2 = .ok (.invokevirtual 121, 3) := dk_182 0 121 (dk_at dksX2_costs_0 2 rfl rfl)
theorem dX2_costs_5 : decode cX2_costs 5 = .ok (.ifCond .eq 7, 3) := dk_153 0 7 (dk_at dksX2_costs_0 5 rfl rfl)
theorem dX2_costs_8 : decode cX2_costs 8 = .ok (.iconst 1, 1) := dk_4 (dk_at dksX2_costs_0 8 rfl rfl)
theorem dX2_costs_9 : decode cX2_costs 9 = .ok (.goto 4, 3) := dk_167 0 4 (dk_at dksX2_costs_0 9 rfl rfl)
theorem dX2_costs_12 : decode cX2_costs 12 = .ok (.iconst 0, 1) := dk_3 (dk_at dksX2_costs_0 12 rfl rfl)
theorem dX2_costs_13 : decode cX2_costs 13 = .ok (.ireturn, 1) := dk_172 (dk_at dksX2_costs_0 13 rfl rfl)
abbrev cX2_isFree : ByteArray := prog_4_method_3_code
def yX2_isFree : MethodName := ⟨RX2, "isFree", "(I)Z"⟩
def dkwX2_isFree_0 : List UInt8 := [27, 2, 159, 0, 16, 42, 180, 0, 9, 27, 46, 154, 0, 7, 4, 167, 0, 4, 3, 172]
abbrev dktX2_isFree_0 : List UInt8 := dkwX2_isFree_0 ++ []
theorem dksX2_isFree_0 : cX2_isFree.data.toList.drop 0 = dktX2_isFree_0 := by decide +kernel
theorem dX2_isFree_0 : decode cX2_isFree 0 = .ok (.iload_n 1, 1) := dk_27 (dk_at dksX2_isFree_0 0 rfl rfl)
theorem dX2_isFree_1 : decode cX2_isFree 1 = .ok (.iconst (-1), 1) := dk_2 (dk_at dksX2_isFree_0 1 rfl rfl)
theorem dX2_isFree_2 : decode cX2_isFree 2 = .ok (.if_icmp .eq 16, 3) := dk_159 0 16 (dk_at dksX2_isFree_0 2 rfl rfl)
theorem dX2_isFree_5 : decode cX2_isFree 5 = .ok (.aload_n 0, 1) := dk_42 (dk_at dksX2_isFree_0 5 rfl rfl)
theorem dX2_isFree_6 : decode cX2_isFree 6 = .ok (.getfield 9, 3) := dk_180 0 9 (dk_at dksX2_isFree_0 6 rfl rfl)
theorem dX2_isFree_9 : decode cX2_isFree 9 = .ok (.iload_n 1, 1) := dk_27 (dk_at dksX2_isFree_0 9 rfl rfl)
theorem dX2_isFree_10 : decode cX2_isFree 10 = .ok (.iaload, 1) := dk_46 (dk_at dksX2_isFree_0 10 rfl rfl)
theorem dX2_isFree_11 : decode cX2_isFree 11 = .ok (.ifCond .ne 7, 3) := dk_154 0 7 (dk_at dksX2_isFree_0 11 rfl rfl)
theorem dX2_isFree_14 : decode cX2_isFree 14 = .ok (.iconst 1, 1) := dk_4 (dk_at dksX2_isFree_0 14 rfl rfl)
theorem dX2_isFree_15 : decode cX2_isFree 15 = .ok (.goto 4, 3) := dk_167 0 4 (dk_at dksX2_isFree_0 15 rfl rfl)
theorem dX2_isFree_18 : decode cX2_isFree 18 = .ok (.iconst 0, 1) := dk_3 (dk_at dksX2_isFree_0 18 rfl rfl)
theorem dX2_isFree_19 : decode cX2_isFree 19 = .ok (.ireturn, 1) := dk_172 (dk_at dksX2_isFree_0 19 rfl rfl)
abbrev cX2_lessens : ByteArray := prog_4_method_22_code
def yX2_lessens : MethodName := ⟨RX2, "lessens", "([II)Z"⟩
def dkwX2_lessens_4 : List UInt8 := [43, 28, 46, 162, 0, 7, 4, 167, 0, 4, 3, 54, 4, 43, 28, 29, 79, 21, 4, 172]
abbrev dktX2_lessens_4 : List UInt8 := dkwX2_lessens_4 ++ []
def dkwX2_lessens_3 : List UInt8 := [21, 6, 104, 21, 5, 96, 46, 42, 28, 182, 0, 152, 96, 184, 0, 159, 62, 132, 4, 1, 167, 255, 172, 29]
abbrev dktX2_lessens_3 : List UInt8 := dkwX2_lessens_3 ++ dktX2_lessens_4
def dkwX2_lessens_2 : List UInt8 := [16, 12, 162, 0, 39, 21, 6, 155, 0, 34, 21, 6, 16, 9, 161, 0, 6, 167, 0, 24, 29, 43, 16, 12]
abbrev dktX2_lessens_2 : List UInt8 := dkwX2_lessens_2 ++ dktX2_lessens_3
def dkwX2_lessens_1 : List UInt8 := [100, 54, 5, 28, 16, 12, 108, 21, 4, 6, 108, 96, 4, 100, 54, 6, 21, 5, 155, 0, 46, 21, 5]
abbrev dktX2_lessens_1 : List UInt8 := dkwX2_lessens_1 ++ dktX2_lessens_2
def dkwX2_lessens_0 : List UInt8 := [43, 28, 46, 62, 3, 54, 4, 21, 4, 16, 9, 162, 0, 83, 28, 16, 12, 112, 21, 4, 6, 112, 96, 4]
abbrev dktX2_lessens_0 : List UInt8 := dkwX2_lessens_0 ++ dktX2_lessens_1
theorem dksX2_lessens_0 : cX2_lessens.data.toList.drop 0 = dktX2_lessens_0 := by decide +kernel
theorem dksX2_lessens_1 : cX2_lessens.data.toList.drop 24 = dktX2_lessens_1 := dk_seg dksX2_lessens_0 24 rfl rfl
theorem dksX2_lessens_2 : cX2_lessens.data.toList.drop 47 = dktX2_lessens_2 := dk_seg dksX2_lessens_1 23 rfl rfl
theorem dksX2_lessens_3 : cX2_lessens.data.toList.drop 71 = dktX2_lessens_3 := dk_seg dksX2_lessens_2 24 rfl rfl
theorem dksX2_lessens_4 : cX2_lessens.data.toList.drop 95 = dktX2_lessens_4 := dk_seg dksX2_lessens_3 24 rfl rfl
theorem dX2_lessens_0 : decode cX2_lessens 0 = .ok (.aload_n 1, 1) := dk_43 (dk_at dksX2_lessens_0 0 rfl rfl)
theorem dX2_lessens_1 : decode cX2_lessens 1 = .ok (.iload_n 2, 1) := dk_28 (dk_at dksX2_lessens_0 1 rfl rfl)
theorem dX2_lessens_2 : decode cX2_lessens 2 = .ok (.iaload, 1) := dk_46 (dk_at dksX2_lessens_0 2 rfl rfl)
theorem dX2_lessens_3 : decode cX2_lessens 3 = .ok (.istore_n 3, 1) := dk_62 (dk_at dksX2_lessens_0 3 rfl rfl)
theorem dX2_lessens_4 : decode cX2_lessens 4 = .ok (.iconst 0, 1) := dk_3 (dk_at dksX2_lessens_0 4 rfl rfl)
theorem dX2_lessens_5 : decode cX2_lessens 5 = .ok (.istore 4, 2) := dk_54 4 (dk_at dksX2_lessens_0 5 rfl rfl)
theorem dX2_lessens_7 : decode cX2_lessens 7 = .ok (.iload 4, 2) := dk_21 4 (dk_at dksX2_lessens_0 7 rfl rfl)
theorem dX2_lessens_9 : decode cX2_lessens 9 = .ok (.bipush 9, 2) := dk_16 9 (dk_at dksX2_lessens_0 9 rfl rfl)
theorem dX2_lessens_11 : decode cX2_lessens 11 = .ok (.if_icmp .ge 83, 3) := dk_162 0 83 (dk_at dksX2_lessens_0 11 rfl rfl)
theorem dX2_lessens_14 : decode cX2_lessens 14 = .ok (.iload_n 2, 1) := dk_28 (dk_at dksX2_lessens_0 14 rfl rfl)
theorem dX2_lessens_15 : decode cX2_lessens 15 = .ok (.bipush 12, 2) := dk_16 12 (dk_at dksX2_lessens_0 15 rfl rfl)
theorem dX2_lessens_17 : decode cX2_lessens 17 = .ok (.irem, 1) := dk_112 (dk_at dksX2_lessens_0 17 rfl rfl)
theorem dX2_lessens_18 : decode cX2_lessens 18 = .ok (.iload 4, 2) := dk_21 4 (dk_at dksX2_lessens_0 18 rfl rfl)
theorem dX2_lessens_20 : decode cX2_lessens 20 = .ok (.iconst 3, 1) := dk_6 (dk_at dksX2_lessens_0 20 rfl rfl)
theorem dX2_lessens_21 : decode cX2_lessens 21 = .ok (.irem, 1) := dk_112 (dk_at dksX2_lessens_0 21 rfl rfl)
theorem dX2_lessens_22 : decode cX2_lessens 22 = .ok (.iadd, 1) := dk_96 (dk_at dksX2_lessens_0 22 rfl rfl)
theorem dX2_lessens_23 : decode cX2_lessens 23 = .ok (.iconst 1, 1) := dk_4 (dk_at dksX2_lessens_0 23 rfl rfl)
theorem dX2_lessens_24 : decode cX2_lessens 24 = .ok (.isub, 1) := dk_100 (dk_at dksX2_lessens_1 0 rfl rfl)
theorem dX2_lessens_25 : decode cX2_lessens 25 = .ok (.istore 5, 2) := dk_54 5 (dk_at dksX2_lessens_1 1 rfl rfl)
theorem dX2_lessens_27 : decode cX2_lessens 27 = .ok (.iload_n 2, 1) := dk_28 (dk_at dksX2_lessens_1 3 rfl rfl)
theorem dX2_lessens_28 : decode cX2_lessens 28 = .ok (.bipush 12, 2) := dk_16 12 (dk_at dksX2_lessens_1 4 rfl rfl)
theorem dX2_lessens_30 : decode cX2_lessens 30 = .ok (.idiv, 1) := dk_108 (dk_at dksX2_lessens_1 6 rfl rfl)
theorem dX2_lessens_31 : decode cX2_lessens 31 = .ok (.iload 4, 2) := dk_21 4 (dk_at dksX2_lessens_1 7 rfl rfl)
theorem dX2_lessens_33 : decode cX2_lessens 33 = .ok (.iconst 3, 1) := dk_6 (dk_at dksX2_lessens_1 9 rfl rfl)
theorem dX2_lessens_34 : decode cX2_lessens 34 = .ok (.idiv, 1) := dk_108 (dk_at dksX2_lessens_1 10 rfl rfl)
theorem dX2_lessens_35 : decode cX2_lessens 35 = .ok (.iadd, 1) := dk_96 (dk_at dksX2_lessens_1 11 rfl rfl)
theorem dX2_lessens_36 : decode cX2_lessens 36 = .ok (.iconst 1, 1) := dk_4 (dk_at dksX2_lessens_1 12 rfl rfl)
theorem dX2_lessens_37 : decode cX2_lessens 37 = .ok (.isub, 1) := dk_100 (dk_at dksX2_lessens_1 13 rfl rfl)
theorem dX2_lessens_38 : decode cX2_lessens 38 = .ok (.istore 6, 2) := dk_54 6 (dk_at dksX2_lessens_1 14 rfl rfl)
theorem dX2_lessens_40 : decode cX2_lessens 40 = .ok (.iload 5, 2) := dk_21 5 (dk_at dksX2_lessens_1 16 rfl rfl)
theorem dX2_lessens_42 : decode cX2_lessens 42 = .ok (.ifCond .lt 46, 3) := dk_155 0 46 (dk_at dksX2_lessens_1 18 rfl rfl)
theorem dX2_lessens_45 : decode cX2_lessens 45 = .ok (.iload 5, 2) := dk_21 5 (dk_at dksX2_lessens_1 21 rfl rfl)
theorem dX2_lessens_47 : decode cX2_lessens 47 = .ok (.bipush 12, 2) := dk_16 12 (dk_at dksX2_lessens_2 0 rfl rfl)
theorem dX2_lessens_49 : decode cX2_lessens 49 = .ok (.if_icmp .ge 39, 3) := dk_162 0 39 (dk_at dksX2_lessens_2 2 rfl rfl)
theorem dX2_lessens_52 : decode cX2_lessens 52 = .ok (.iload 6, 2) := dk_21 6 (dk_at dksX2_lessens_2 5 rfl rfl)
theorem dX2_lessens_54 : decode cX2_lessens 54 = .ok (.ifCond .lt 34, 3) := dk_155 0 34 (dk_at dksX2_lessens_2 7 rfl rfl)
theorem dX2_lessens_57 : decode cX2_lessens 57 = .ok (.iload 6, 2) := dk_21 6 (dk_at dksX2_lessens_2 10 rfl rfl)
theorem dX2_lessens_59 : decode cX2_lessens 59 = .ok (.bipush 9, 2) := dk_16 9 (dk_at dksX2_lessens_2 12 rfl rfl)
theorem dX2_lessens_61 : decode cX2_lessens 61 = .ok (.if_icmp .lt 6, 3) := dk_161 0 6 (dk_at dksX2_lessens_2 14 rfl rfl)
theorem dX2_lessens_64 : decode cX2_lessens 64 = .ok (.goto 24, 3) := dk_167 0 24 (dk_at dksX2_lessens_2 17 rfl rfl)
theorem dX2_lessens_67 : decode cX2_lessens 67 = .ok (.iload_n 3, 1) := dk_29 (dk_at dksX2_lessens_2 20 rfl rfl)
theorem dX2_lessens_68 : decode cX2_lessens 68 = .ok (.aload_n 1, 1) := dk_43 (dk_at dksX2_lessens_2 21 rfl rfl)
theorem dX2_lessens_69 : decode cX2_lessens 69 = .ok (.bipush 12, 2) := dk_16 12 (dk_at dksX2_lessens_2 22 rfl rfl)
theorem dX2_lessens_71 : decode cX2_lessens 71 = .ok (.iload 6, 2) := dk_21 6 (dk_at dksX2_lessens_3 0 rfl rfl)
theorem dX2_lessens_73 : decode cX2_lessens 73 = .ok (.imul, 1) := dk_104 (dk_at dksX2_lessens_3 2 rfl rfl)
theorem dX2_lessens_74 : decode cX2_lessens 74 = .ok (.iload 5, 2) := dk_21 5 (dk_at dksX2_lessens_3 3 rfl rfl)
theorem dX2_lessens_76 : decode cX2_lessens 76 = .ok (.iadd, 1) := dk_96 (dk_at dksX2_lessens_3 5 rfl rfl)
theorem dX2_lessens_77 : decode cX2_lessens 77 = .ok (.iaload, 1) := dk_46 (dk_at dksX2_lessens_3 6 rfl rfl)
theorem dX2_lessens_78 : decode cX2_lessens 78 = .ok (.aload_n 0, 1) := dk_42 (dk_at dksX2_lessens_3 7 rfl rfl)
theorem dX2_lessens_79 : decode cX2_lessens 79 = .ok (.iload_n 2, 1) := dk_28 (dk_at dksX2_lessens_3 8 rfl rfl)
theorem dX2_lessens_80 : decode cX2_lessens 80 = .ok (.invokevirtual 152, 3) := dk_182 0 152 (dk_at dksX2_lessens_3 9 rfl rfl)
theorem dX2_lessens_83 : decode cX2_lessens 83 = .ok (.iadd, 1) := dk_96 (dk_at dksX2_lessens_3 12 rfl rfl)
theorem dX2_lessens_84 : decode cX2_lessens 84 = .ok (.invokestatic 159, 3) := dk_184 0 159 (dk_at dksX2_lessens_3 13 rfl rfl)
theorem dX2_lessens_87 : decode cX2_lessens 87 = .ok (.istore_n 3, 1) := dk_62 (dk_at dksX2_lessens_3 16 rfl rfl)
theorem dX2_lessens_88 : decode cX2_lessens 88 = .ok (.iinc 4 1, 3) := dk_132 4 1 (dk_at dksX2_lessens_3 17 rfl rfl)
theorem dX2_lessens_91 : decode cX2_lessens 91 = .ok (.goto (-84), 3) := dk_167 255 172 (dk_at dksX2_lessens_3 20 rfl rfl)
theorem dX2_lessens_94 : decode cX2_lessens 94 = .ok (.iload_n 3, 1) := dk_29 (dk_at dksX2_lessens_3 23 rfl rfl)
theorem dX2_lessens_95 : decode cX2_lessens 95 = .ok (.aload_n 1, 1) := dk_43 (dk_at dksX2_lessens_4 0 rfl rfl)
theorem dX2_lessens_96 : decode cX2_lessens 96 = .ok (.iload_n 2, 1) := dk_28 (dk_at dksX2_lessens_4 1 rfl rfl)
theorem dX2_lessens_97 : decode cX2_lessens 97 = .ok (.iaload, 1) := dk_46 (dk_at dksX2_lessens_4 2 rfl rfl)
theorem dX2_lessens_98 : decode cX2_lessens 98 = .ok (.if_icmp .ge 7, 3) := dk_162 0 7 (dk_at dksX2_lessens_4 3 rfl rfl)
theorem dX2_lessens_101 : decode cX2_lessens 101 = .ok (.iconst 1, 1) := dk_4 (dk_at dksX2_lessens_4 6 rfl rfl)
theorem dX2_lessens_102 : decode cX2_lessens 102 = .ok (.goto 4, 3) := dk_167 0 4 (dk_at dksX2_lessens_4 7 rfl rfl)
theorem dX2_lessens_105 : decode cX2_lessens 105 = .ok (.iconst 0, 1) := dk_3 (dk_at dksX2_lessens_4 10 rfl rfl)
theorem dX2_lessens_106 : decode cX2_lessens 106 = .ok (.istore 4, 2) := dk_54 4 (dk_at dksX2_lessens_4 11 rfl rfl)
theorem dX2_lessens_108 : decode cX2_lessens 108 = .ok (.aload_n 1, 1) := dk_43 (dk_at dksX2_lessens_4 13 rfl rfl)
theorem dX2_lessens_109 : decode cX2_lessens 109 = .ok (.iload_n 2, 1) := dk_28 (dk_at dksX2_lessens_4 14 rfl rfl)
theorem dX2_lessens_110 : decode cX2_lessens 110 = .ok (.iload_n 3, 1) := dk_29 (dk_at dksX2_lessens_4 15 rfl rfl)
theorem dX2_lessens_111 : decode cX2_lessens 111 = .ok (.iastore, 1) := dk_79 (dk_at dksX2_lessens_4 16 rfl rfl)
theorem dX2_lessens_112 : decode cX2_lessens 112 = .ok (.iload 4, 2) := dk_21 4 (dk_at dksX2_lessens_4 17 rfl rfl)
theorem dX2_lessens_114 : decode cX2_lessens 114 = .ok (.ireturn, 1) := dk_172 (dk_at dksX2_lessens_4 19 rfl rfl)
abbrev cX2_crowdsThere : ByteArray := prog_4_method_16_code
def yX2_crowdsThere : MethodName := ⟨RX2, "crowdsThere", "()I"⟩
def dkwX2_crowdsThere_1 : List UInt8 := [192, 0, 44, 182, 0, 59, 153, 0, 7, 4, 167, 0, 4, 3, 96, 60, 132, 2, 1, 167, 255, 217, 27, 172]
abbrev dktX2_crowdsThere_1 : List UInt8 := dkwX2_crowdsThere_1 ++ []
def dkwX2_crowdsThere_0 : List UInt8 := [3, 60, 3, 61, 28, 42, 180, 0, 18, 182, 0, 36, 162, 0, 34, 27, 42, 180, 0, 18, 28, 182, 0, 40]
abbrev dktX2_crowdsThere_0 : List UInt8 := dkwX2_crowdsThere_0 ++ dktX2_crowdsThere_1
theorem dksX2_crowdsThere_0 : cX2_crowdsThere.data.toList.drop 0 = dktX2_crowdsThere_0 := by decide +kernel
theorem dksX2_crowdsThere_1 : cX2_crowdsThere.data.toList.drop 24 = dktX2_crowdsThere_1 := dk_seg dksX2_crowdsThere_0 24 rfl rfl
theorem dX2_crowdsThere_0 : decode cX2_crowdsThere 0 = .ok (.iconst 0, 1) := dk_3 (dk_at dksX2_crowdsThere_0 0 rfl rfl)
theorem dX2_crowdsThere_1 : decode cX2_crowdsThere 1 = .ok (.istore_n 1, 1) := dk_60 (dk_at dksX2_crowdsThere_0 1 rfl rfl)
theorem dX2_crowdsThere_2 : decode cX2_crowdsThere 2 = .ok (.iconst 0, 1) := dk_3 (dk_at dksX2_crowdsThere_0 2 rfl rfl)
theorem dX2_crowdsThere_3 : decode cX2_crowdsThere 3 = .ok (.istore_n 2, 1) := dk_61 (dk_at dksX2_crowdsThere_0 3 rfl rfl)
theorem dX2_crowdsThere_4 : decode cX2_crowdsThere 4 = .ok (.iload_n 2, 1) := dk_28 (dk_at dksX2_crowdsThere_0 4 rfl rfl)
theorem dX2_crowdsThere_5 : decode cX2_crowdsThere 5 = .ok (.aload_n 0, 1) := dk_42 (dk_at dksX2_crowdsThere_0 5 rfl rfl)
theorem dX2_crowdsThere_6 : decode cX2_crowdsThere 6 = .ok (.getfield 18, 3) := dk_180 0 18 (dk_at dksX2_crowdsThere_0 6 rfl rfl)
theorem dX2_crowdsThere_9 : decode cX2_crowdsThere 9 = .ok (.invokevirtual 36, 3) := dk_182 0 36 (dk_at dksX2_crowdsThere_0 9 rfl rfl)
theorem dX2_crowdsThere_12 : decode cX2_crowdsThere 12 = .ok (.if_icmp .ge 34, 3) := dk_162 0 34 (dk_at dksX2_crowdsThere_0 12 rfl rfl)
theorem dX2_crowdsThere_15 : decode cX2_crowdsThere 15 = .ok (.iload_n 1, 1) := dk_27 (dk_at dksX2_crowdsThere_0 15 rfl rfl)
theorem dX2_crowdsThere_16 : decode cX2_crowdsThere 16 = .ok (.aload_n 0, 1) := dk_42 (dk_at dksX2_crowdsThere_0 16 rfl rfl)
theorem dX2_crowdsThere_17 : decode cX2_crowdsThere 17 = .ok (.getfield 18, 3) := dk_180 0 18 (dk_at dksX2_crowdsThere_0 17 rfl rfl)
theorem dX2_crowdsThere_20 : decode cX2_crowdsThere 20 = .ok (.iload_n 2, 1) := dk_28 (dk_at dksX2_crowdsThere_0 20 rfl rfl)
theorem dX2_crowdsThere_21 : decode cX2_crowdsThere 21 = .ok (.invokevirtual 40, 3) := dk_182 0 40 (dk_at dksX2_crowdsThere_0 21 rfl rfl)
theorem dX2_crowdsThere_24 : decode cX2_crowdsThere 24 = .ok (.checkcast 44, 3) := dk_192 0 44 (dk_at dksX2_crowdsThere_1 0 rfl rfl)
theorem dX2_crowdsThere_27 : decode cX2_crowdsThere 27 = .ok (.invokevirtual 59, 3) := dk_182 0 59 (dk_at dksX2_crowdsThere_1 3 rfl rfl)
theorem dX2_crowdsThere_30 : decode cX2_crowdsThere 30 = .ok (.ifCond .eq 7, 3) := dk_153 0 7 (dk_at dksX2_crowdsThere_1 6 rfl rfl)
theorem dX2_crowdsThere_33 : decode cX2_crowdsThere 33 = .ok (.iconst 1, 1) := dk_4 (dk_at dksX2_crowdsThere_1 9 rfl rfl)
theorem dX2_crowdsThere_34 : decode cX2_crowdsThere 34 = .ok (.goto 4, 3) := dk_167 0 4 (dk_at dksX2_crowdsThere_1 10 rfl rfl)
theorem dX2_crowdsThere_37 : decode cX2_crowdsThere 37 = .ok (.iconst 0, 1) := dk_3 (dk_at dksX2_crowdsThere_1 13 rfl rfl)
theorem dX2_crowdsThere_38 : decode cX2_crowdsThere 38 = .ok (.iadd, 1) := dk_96 (dk_at dksX2_crowdsThere_1 14 rfl rfl)
theorem dX2_crowdsThere_39 : decode cX2_crowdsThere 39 = .ok (.istore_n 1, 1) := dk_60 (dk_at dksX2_crowdsThere_1 15 rfl rfl)
theorem dX2_crowdsThere_40 : decode cX2_crowdsThere 40 = .ok (.iinc 2 1, 3) := dk_132 2 1 (dk_at dksX2_crowdsThere_1 16 rfl rfl)
theorem dX2_crowdsThere_43 : decode cX2_crowdsThere 43 = .ok (.goto (-39), 3) := dk_167 255 217 (dk_at dksX2_crowdsThere_1 19 rfl rfl)
theorem dX2_crowdsThere_46 : decode cX2_crowdsThere 46 = .ok (.iload_n 1, 1) := dk_27 (dk_at dksX2_crowdsThere_1 22 rfl rfl)
theorem dX2_crowdsThere_47 : decode cX2_crowdsThere 47 = .ok (.ireturn, 1) := dk_172 (dk_at dksX2_crowdsThere_1 23 rfl rfl)
abbrev cX2_people : ByteArray := prog_4_method_15_code
def yX2_people : MethodName := ⟨RX2, "people", "()I"⟩
def dkwX2_people_1 : List UInt8 := [192, 0, 44, 180, 0, 79, 96, 60, 132, 2, 1, 167, 255, 225, 27, 172]
abbrev dktX2_people_1 : List UInt8 := dkwX2_people_1 ++ []
def dkwX2_people_0 : List UInt8 := [3, 60, 3, 61, 28, 42, 180, 0, 18, 182, 0, 36, 162, 0, 26, 27, 42, 180, 0, 18, 28, 182, 0, 40]
abbrev dktX2_people_0 : List UInt8 := dkwX2_people_0 ++ dktX2_people_1
theorem dksX2_people_0 : cX2_people.data.toList.drop 0 = dktX2_people_0 := by decide +kernel
theorem dksX2_people_1 : cX2_people.data.toList.drop 24 = dktX2_people_1 := dk_seg dksX2_people_0 24 rfl rfl
theorem dX2_people_0 : decode cX2_people 0 = .ok (.iconst 0, 1) := dk_3 (dk_at dksX2_people_0 0 rfl rfl)
theorem dX2_people_1 : decode cX2_people 1 = .ok (.istore_n 1, 1) := dk_60 (dk_at dksX2_people_0 1 rfl rfl)
theorem dX2_people_2 : decode cX2_people 2 = .ok (.iconst 0, 1) := dk_3 (dk_at dksX2_people_0 2 rfl rfl)
theorem dX2_people_3 : decode cX2_people 3 = .ok (.istore_n 2, 1) := dk_61 (dk_at dksX2_people_0 3 rfl rfl)
theorem dX2_people_4 : decode cX2_people 4 = .ok (.iload_n 2, 1) := dk_28 (dk_at dksX2_people_0 4 rfl rfl)
theorem dX2_people_5 : decode cX2_people 5 = .ok (.aload_n 0, 1) := dk_42 (dk_at dksX2_people_0 5 rfl rfl)
theorem dX2_people_6 : decode cX2_people 6 = .ok (.getfield 18, 3) := dk_180 0 18 (dk_at dksX2_people_0 6 rfl rfl)
theorem dX2_people_9 : decode cX2_people 9 = .ok (.invokevirtual 36, 3) := dk_182 0 36 (dk_at dksX2_people_0 9 rfl rfl)
theorem dX2_people_12 : decode cX2_people 12 = .ok (.if_icmp .ge 26, 3) := dk_162 0 26 (dk_at dksX2_people_0 12 rfl rfl)
theorem dX2_people_15 : decode cX2_people 15 = .ok (.iload_n 1, 1) := dk_27 (dk_at dksX2_people_0 15 rfl rfl)
theorem dX2_people_16 : decode cX2_people 16 = .ok (.aload_n 0, 1) := dk_42 (dk_at dksX2_people_0 16 rfl rfl)
theorem dX2_people_17 : decode cX2_people 17 = .ok (.getfield 18, 3) := dk_180 0 18 (dk_at dksX2_people_0 17 rfl rfl)
theorem dX2_people_20 : decode cX2_people 20 = .ok (.iload_n 2, 1) := dk_28 (dk_at dksX2_people_0 20 rfl rfl)
theorem dX2_people_21 : decode cX2_people 21 = .ok (.invokevirtual 40, 3) := dk_182 0 40 (dk_at dksX2_people_0 21 rfl rfl)
theorem dX2_people_24 : decode cX2_people 24 = .ok (.checkcast 44, 3) := dk_192 0 44 (dk_at dksX2_people_1 0 rfl rfl)
theorem dX2_people_27 : decode cX2_people 27 = .ok (.getfield 79, 3) := dk_180 0 79 (dk_at dksX2_people_1 3 rfl rfl)
theorem dX2_people_30 : decode cX2_people 30 = .ok (.iadd, 1) := dk_96 (dk_at dksX2_people_1 6 rfl rfl)
theorem dX2_people_31 : decode cX2_people 31 = .ok (.istore_n 1, 1) := dk_60 (dk_at dksX2_people_1 7 rfl rfl)
theorem dX2_people_32 : decode cX2_people 32 = .ok (.iinc 2 1, 3) := dk_132 2 1 (dk_at dksX2_people_1 8 rfl rfl)
theorem dX2_people_35 : decode cX2_people 35 = .ok (.goto (-31), 3) := dk_167 255 225 (dk_at dksX2_people_1 11 rfl rfl)
theorem dX2_people_38 : decode cX2_people 38 = .ok (.iload_n 1, 1) := dk_27 (dk_at dksX2_people_1 14 rfl rfl)
theorem dX2_people_39 : decode cX2_people 39 = .ok (.ireturn, 1) := dk_172 (dk_at dksX2_people_1 15 rfl rfl)
abbrev cX2_cellsLike : ByteArray := prog_4_method_18_code
def yX2_cellsLike : MethodName := ⟨RX2, "cellsLike", "(I)I"⟩
def dkwX2_cellsLike_2 : List UInt8 := [172]
abbrev dktX2_cellsLike_2 : List UInt8 := dkwX2_cellsLike_2 ++ []
def dkwX2_cellsLike_1 : List UInt8 := [46, 54, 6, 28, 21, 6, 27, 160, 0, 7, 4, 167, 0, 4, 3, 96, 61, 132, 5, 1, 167, 255, 226, 28]
abbrev dktX2_cellsLike_1 : List UInt8 := dkwX2_cellsLike_1 ++ dktX2_cellsLike_2
def dkwX2_cellsLike_0 : List UInt8 := [3, 61, 42, 180, 0, 9, 78, 45, 190, 54, 4, 3, 54, 5, 21, 5, 21, 4, 162, 0, 29, 45, 21, 5]
abbrev dktX2_cellsLike_0 : List UInt8 := dkwX2_cellsLike_0 ++ dktX2_cellsLike_1
theorem dksX2_cellsLike_0 : cX2_cellsLike.data.toList.drop 0 = dktX2_cellsLike_0 := by decide +kernel
theorem dksX2_cellsLike_1 : cX2_cellsLike.data.toList.drop 24 = dktX2_cellsLike_1 := dk_seg dksX2_cellsLike_0 24 rfl rfl
theorem dksX2_cellsLike_2 : cX2_cellsLike.data.toList.drop 48 = dktX2_cellsLike_2 := dk_seg dksX2_cellsLike_1 24 rfl rfl
theorem dX2_cellsLike_0 : decode cX2_cellsLike 0 = .ok (.iconst 0, 1) := dk_3 (dk_at dksX2_cellsLike_0 0 rfl rfl)
theorem dX2_cellsLike_1 : decode cX2_cellsLike 1 = .ok (.istore_n 2, 1) := dk_61 (dk_at dksX2_cellsLike_0 1 rfl rfl)
theorem dX2_cellsLike_2 : decode cX2_cellsLike 2 = .ok (.aload_n 0, 1) := dk_42 (dk_at dksX2_cellsLike_0 2 rfl rfl)
theorem dX2_cellsLike_3 : decode cX2_cellsLike 3 = .ok (.getfield 9, 3) := dk_180 0 9 (dk_at dksX2_cellsLike_0 3 rfl rfl)
theorem dX2_cellsLike_6 : decode cX2_cellsLike 6 = .ok (.astore_n 3, 1) := dk_78 (dk_at dksX2_cellsLike_0 6 rfl rfl)
theorem dX2_cellsLike_7 : decode cX2_cellsLike 7 = .ok (.aload_n 3, 1) := dk_45 (dk_at dksX2_cellsLike_0 7 rfl rfl)
theorem dX2_cellsLike_8 : decode cX2_cellsLike 8 = .ok (.arraylength, 1) := dk_190 (dk_at dksX2_cellsLike_0 8 rfl rfl)
theorem dX2_cellsLike_9 : decode cX2_cellsLike 9 = .ok (.istore 4, 2) := dk_54 4 (dk_at dksX2_cellsLike_0 9 rfl rfl)
theorem dX2_cellsLike_11 : decode cX2_cellsLike 11 = .ok (.iconst 0, 1) := dk_3 (dk_at dksX2_cellsLike_0 11 rfl rfl)
theorem dX2_cellsLike_12 : decode cX2_cellsLike 12 = .ok (.istore 5, 2) := dk_54 5 (dk_at dksX2_cellsLike_0 12 rfl rfl)
theorem dX2_cellsLike_14 : decode cX2_cellsLike 14 = .ok (.iload 5, 2) := dk_21 5 (dk_at dksX2_cellsLike_0 14 rfl rfl)
theorem dX2_cellsLike_16 : decode cX2_cellsLike 16 = .ok (.iload 4, 2) := dk_21 4 (dk_at dksX2_cellsLike_0 16 rfl rfl)
theorem dX2_cellsLike_18 : decode cX2_cellsLike 18 = .ok (.if_icmp .ge 29, 3) := dk_162 0 29 (dk_at dksX2_cellsLike_0 18 rfl rfl)
theorem dX2_cellsLike_21 : decode cX2_cellsLike 21 = .ok (.aload_n 3, 1) := dk_45 (dk_at dksX2_cellsLike_0 21 rfl rfl)
theorem dX2_cellsLike_22 : decode cX2_cellsLike 22 = .ok (.iload 5, 2) := dk_21 5 (dk_at dksX2_cellsLike_0 22 rfl rfl)
theorem dX2_cellsLike_24 : decode cX2_cellsLike 24 = .ok (.iaload, 1) := dk_46 (dk_at dksX2_cellsLike_1 0 rfl rfl)
theorem dX2_cellsLike_25 : decode cX2_cellsLike 25 = .ok (.istore 6, 2) := dk_54 6 (dk_at dksX2_cellsLike_1 1 rfl rfl)
theorem dX2_cellsLike_27 : decode cX2_cellsLike 27 = .ok (.iload_n 2, 1) := dk_28 (dk_at dksX2_cellsLike_1 3 rfl rfl)
theorem dX2_cellsLike_28 : decode cX2_cellsLike 28 = .ok (.iload 6, 2) := dk_21 6 (dk_at dksX2_cellsLike_1 4 rfl rfl)
theorem dX2_cellsLike_30 : decode cX2_cellsLike 30 = .ok (.iload_n 1, 1) := dk_27 (dk_at dksX2_cellsLike_1 6 rfl rfl)
theorem dX2_cellsLike_31 : decode cX2_cellsLike 31 = .ok (.if_icmp .ne 7, 3) := dk_160 0 7 (dk_at dksX2_cellsLike_1 7 rfl rfl)
theorem dX2_cellsLike_34 : decode cX2_cellsLike 34 = .ok (.iconst 1, 1) := dk_4 (dk_at dksX2_cellsLike_1 10 rfl rfl)
theorem dX2_cellsLike_35 : decode cX2_cellsLike 35 = .ok (.goto 4, 3) := dk_167 0 4 (dk_at dksX2_cellsLike_1 11 rfl rfl)
theorem dX2_cellsLike_38 : decode cX2_cellsLike 38 = .ok (.iconst 0, 1) := dk_3 (dk_at dksX2_cellsLike_1 14 rfl rfl)
theorem dX2_cellsLike_39 : decode cX2_cellsLike 39 = .ok (.iadd, 1) := dk_96 (dk_at dksX2_cellsLike_1 15 rfl rfl)
theorem dX2_cellsLike_40 : decode cX2_cellsLike 40 = .ok (.istore_n 2, 1) := dk_61 (dk_at dksX2_cellsLike_1 16 rfl rfl)
theorem dX2_cellsLike_41 : decode cX2_cellsLike 41 = .ok (.iinc 5 1, 3) := dk_132 5 1 (dk_at dksX2_cellsLike_1 17 rfl rfl)
theorem dX2_cellsLike_44 : decode cX2_cellsLike 44 = .ok (.goto (-30), 3) := dk_167 255 226 (dk_at dksX2_cellsLike_1 20 rfl rfl)
theorem dX2_cellsLike_47 : decode cX2_cellsLike 47 = .ok (.iload_n 2, 1) := dk_28 (dk_at dksX2_cellsLike_1 23 rfl rfl)
theorem dX2_cellsLike_48 : decode cX2_cellsLike 48 = .ok (.ireturn, 1) := dk_172 (dk_at dksX2_cellsLike_2 0 rfl rfl)
abbrev cX2_barricades : ByteArray := prog_4_method_17_code
def yX2_barricades : MethodName := ⟨RX2, "barricades", "()I"⟩
def dkwX2_barricades_1 : List UInt8 := [54, 5, 27, 3, 21, 5, 184, 0, 143, 96, 60, 132, 4, 1, 167, 255, 232, 27, 172]
abbrev dktX2_barricades_1 : List UInt8 := dkwX2_barricades_1 ++ []
def dkwX2_barricades_0 : List UInt8 := [3, 60, 42, 180, 0, 9, 77, 44, 190, 62, 3, 54, 4, 21, 4, 29, 162, 0, 24, 44, 21, 4, 46]
abbrev dktX2_barricades_0 : List UInt8 := dkwX2_barricades_0 ++ dktX2_barricades_1
theorem dksX2_barricades_0 : cX2_barricades.data.toList.drop 0 = dktX2_barricades_0 := by decide +kernel
theorem dksX2_barricades_1 : cX2_barricades.data.toList.drop 23 = dktX2_barricades_1 := dk_seg dksX2_barricades_0 23 rfl rfl
theorem dX2_barricades_0 : decode cX2_barricades 0 = .ok (.iconst 0, 1) := dk_3 (dk_at dksX2_barricades_0 0 rfl rfl)
theorem dX2_barricades_1 : decode cX2_barricades 1 = .ok (.istore_n 1, 1) := dk_60 (dk_at dksX2_barricades_0 1 rfl rfl)
theorem dX2_barricades_2 : decode cX2_barricades 2 = .ok (.aload_n 0, 1) := dk_42 (dk_at dksX2_barricades_0 2 rfl rfl)
theorem dX2_barricades_3 : decode cX2_barricades 3 = .ok (.getfield 9, 3) := dk_180 0 9 (dk_at dksX2_barricades_0 3 rfl rfl)
theorem dX2_barricades_6 : decode cX2_barricades 6 = .ok (.astore_n 2, 1) := dk_77 (dk_at dksX2_barricades_0 6 rfl rfl)
theorem dX2_barricades_7 : decode cX2_barricades 7 = .ok (.aload_n 2, 1) := dk_44 (dk_at dksX2_barricades_0 7 rfl rfl)
theorem dX2_barricades_8 : decode cX2_barricades 8 = .ok (.arraylength, 1) := dk_190 (dk_at dksX2_barricades_0 8 rfl rfl)
theorem dX2_barricades_9 : decode cX2_barricades 9 = .ok (.istore_n 3, 1) := dk_62 (dk_at dksX2_barricades_0 9 rfl rfl)
theorem dX2_barricades_10 : decode cX2_barricades 10 = .ok (.iconst 0, 1) := dk_3 (dk_at dksX2_barricades_0 10 rfl rfl)
theorem dX2_barricades_11 : decode cX2_barricades 11 = .ok (.istore 4, 2) := dk_54 4 (dk_at dksX2_barricades_0 11 rfl rfl)
theorem dX2_barricades_13 : decode cX2_barricades 13 = .ok (.iload 4, 2) := dk_21 4 (dk_at dksX2_barricades_0 13 rfl rfl)
theorem dX2_barricades_15 : decode cX2_barricades 15 = .ok (.iload_n 3, 1) := dk_29 (dk_at dksX2_barricades_0 15 rfl rfl)
theorem dX2_barricades_16 : decode cX2_barricades 16 = .ok (.if_icmp .ge 24, 3) := dk_162 0 24 (dk_at dksX2_barricades_0 16 rfl rfl)
theorem dX2_barricades_19 : decode cX2_barricades 19 = .ok (.aload_n 2, 1) := dk_44 (dk_at dksX2_barricades_0 19 rfl rfl)
theorem dX2_barricades_20 : decode cX2_barricades 20 = .ok (.iload 4, 2) := dk_21 4 (dk_at dksX2_barricades_0 20 rfl rfl)
theorem dX2_barricades_22 : decode cX2_barricades 22 = .ok (.iaload, 1) := dk_46 (dk_at dksX2_barricades_0 22 rfl rfl)
theorem dX2_barricades_23 : decode cX2_barricades 23 = .ok (.istore 5, 2) := dk_54 5 (dk_at dksX2_barricades_1 0 rfl rfl)
theorem dX2_barricades_25 : decode cX2_barricades 25 = .ok (.iload_n 1, 1) := dk_27 (dk_at dksX2_barricades_1 2 rfl rfl)
theorem dX2_barricades_26 : decode cX2_barricades 26 = .ok (.iconst 0, 1) := dk_3 (dk_at dksX2_barricades_1 3 rfl rfl)
theorem dX2_barricades_27 : decode cX2_barricades 27 = .ok (.iload 5, 2) := dk_21 5 (dk_at dksX2_barricades_1 4 rfl rfl)
theorem dX2_barricades_29 : decode cX2_barricades 29 = .ok (.invokestatic 143, 3) := dk_184 0 143 (dk_at dksX2_barricades_1 6 rfl rfl)
theorem dX2_barricades_32 : decode cX2_barricades 32 = .ok (.iadd, 1) := dk_96 (dk_at dksX2_barricades_1 9 rfl rfl)
theorem dX2_barricades_33 : decode cX2_barricades 33 = .ok (.istore_n 1, 1) := dk_60 (dk_at dksX2_barricades_1 10 rfl rfl)
theorem dX2_barricades_34 : decode cX2_barricades 34 = .ok (.iinc 4 1, 3) := dk_132 4 1 (dk_at dksX2_barricades_1 11 rfl rfl)
theorem dX2_barricades_37 : decode cX2_barricades 37 = .ok (.goto (-24), 3) := dk_167 255 232 (dk_at dksX2_barricades_1 14 rfl rfl)
theorem dX2_barricades_40 : decode cX2_barricades 40 = .ok (.iload_n 1, 1) := dk_27 (dk_at dksX2_barricades_1 17 rfl rfl)
theorem dX2_barricades_41 : decode cX2_barricades 41 = .ok (.ireturn, 1) := dk_172 (dk_at dksX2_barricades_1 18 rfl rfl)
abbrev cX2_seenBy : ByteArray := prog_4_method_12_code
def yX2_seenBy : MethodName := ⟨RX2, "seenBy", "(LLaneCrowds$Crowd;)I"⟩
def dkwX2_seenBy_2 : List UInt8 := [167, 255, 215, 28, 172]
abbrev dktX2_seenBy_2 : List UInt8 := dkwX2_seenBy_2 ++ []
def dkwX2_seenBy_1 : List UInt8 := [182, 0, 40, 192, 0, 54, 43, 182, 0, 124, 153, 0, 7, 4, 167, 0, 4, 3, 96, 61, 132, 3, 1]
abbrev dktX2_seenBy_1 : List UInt8 := dkwX2_seenBy_1 ++ dktX2_seenBy_2
def dkwX2_seenBy_0 : List UInt8 := [3, 61, 3, 62, 29, 42, 180, 0, 22, 182, 0, 36, 162, 0, 36, 28, 42, 42, 180, 0, 22, 29]
abbrev dktX2_seenBy_0 : List UInt8 := dkwX2_seenBy_0 ++ dktX2_seenBy_1
theorem dksX2_seenBy_0 : cX2_seenBy.data.toList.drop 0 = dktX2_seenBy_0 := by decide +kernel
theorem dksX2_seenBy_1 : cX2_seenBy.data.toList.drop 22 = dktX2_seenBy_1 := dk_seg dksX2_seenBy_0 22 rfl rfl
theorem dksX2_seenBy_2 : cX2_seenBy.data.toList.drop 45 = dktX2_seenBy_2 := dk_seg dksX2_seenBy_1 23 rfl rfl
theorem dX2_seenBy_0 : decode cX2_seenBy 0 = .ok (.iconst 0, 1) := dk_3 (dk_at dksX2_seenBy_0 0 rfl rfl)
theorem dX2_seenBy_1 : decode cX2_seenBy 1 = .ok (.istore_n 2, 1) := dk_61 (dk_at dksX2_seenBy_0 1 rfl rfl)
theorem dX2_seenBy_2 : decode cX2_seenBy 2 = .ok (.iconst 0, 1) := dk_3 (dk_at dksX2_seenBy_0 2 rfl rfl)
theorem dX2_seenBy_3 : decode cX2_seenBy 3 = .ok (.istore_n 3, 1) := dk_62 (dk_at dksX2_seenBy_0 3 rfl rfl)
theorem dX2_seenBy_4 : decode cX2_seenBy 4 = .ok (.iload_n 3, 1) := dk_29 (dk_at dksX2_seenBy_0 4 rfl rfl)
theorem dX2_seenBy_5 : decode cX2_seenBy 5 = .ok (.aload_n 0, 1) := dk_42 (dk_at dksX2_seenBy_0 5 rfl rfl)
theorem dX2_seenBy_6 : decode cX2_seenBy 6 = .ok (.getfield 22, 3) := dk_180 0 22 (dk_at dksX2_seenBy_0 6 rfl rfl)
theorem dX2_seenBy_9 : decode cX2_seenBy 9 = .ok (.invokevirtual 36, 3) := dk_182 0 36 (dk_at dksX2_seenBy_0 9 rfl rfl)
theorem dX2_seenBy_12 : decode cX2_seenBy 12 = .ok (.if_icmp .ge 36, 3) := dk_162 0 36 (dk_at dksX2_seenBy_0 12 rfl rfl)
theorem dX2_seenBy_15 : decode cX2_seenBy 15 = .ok (.iload_n 2, 1) := dk_28 (dk_at dksX2_seenBy_0 15 rfl rfl)
theorem dX2_seenBy_16 : decode cX2_seenBy 16 = .ok (.aload_n 0, 1) := dk_42 (dk_at dksX2_seenBy_0 16 rfl rfl)
theorem dX2_seenBy_17 : decode cX2_seenBy 17 = .ok (.aload_n 0, 1) := dk_42 (dk_at dksX2_seenBy_0 17 rfl rfl)
theorem dX2_seenBy_18 : decode cX2_seenBy 18 = .ok (.getfield 22, 3) := dk_180 0 22 (dk_at dksX2_seenBy_0 18 rfl rfl)
theorem dX2_seenBy_21 : decode cX2_seenBy 21 = .ok (.iload_n 3, 1) := dk_29 (dk_at dksX2_seenBy_0 21 rfl rfl)
theorem dX2_seenBy_22 : decode cX2_seenBy 22 = .ok (.invokevirtual 40, 3) := dk_182 0 40 (dk_at dksX2_seenBy_1 0 rfl rfl)
theorem dX2_seenBy_25 : decode cX2_seenBy 25 = .ok (.checkcast 54, 3) := dk_192 0 54 (dk_at dksX2_seenBy_1 3 rfl rfl)
theorem dX2_seenBy_28 : decode cX2_seenBy 28 = .ok (.aload_n 1, 1) := dk_43 (dk_at dksX2_seenBy_1 6 rfl rfl)
theorem dX2_seenBy_29 : decode cX2_seenBy 29 = .ok (.invokevirtual 124, 3) := dk_182 0 124 (dk_at dksX2_seenBy_1 7 rfl rfl)
theorem dX2_seenBy_32 : decode cX2_seenBy 32 = .ok (.ifCond .eq 7, 3) := dk_153 0 7 (dk_at dksX2_seenBy_1 10 rfl rfl)
theorem dX2_seenBy_35 : decode cX2_seenBy 35 = .ok (.iconst 1, 1) := dk_4 (dk_at dksX2_seenBy_1 13 rfl rfl)
theorem dX2_seenBy_36 : decode cX2_seenBy 36 = .ok (.goto 4, 3) := dk_167 0 4 (dk_at dksX2_seenBy_1 14 rfl rfl)
theorem dX2_seenBy_39 : decode cX2_seenBy 39 = .ok (.iconst 0, 1) := dk_3 (dk_at dksX2_seenBy_1 17 rfl rfl)
theorem dX2_seenBy_40 : decode cX2_seenBy 40 = .ok (.iadd, 1) := dk_96 (dk_at dksX2_seenBy_1 18 rfl rfl)
theorem dX2_seenBy_41 : decode cX2_seenBy 41 = .ok (.istore_n 2, 1) := dk_61 (dk_at dksX2_seenBy_1 19 rfl rfl)
theorem dX2_seenBy_42 : decode cX2_seenBy 42 = .ok (.iinc 3 1, 3) := dk_132 3 1 (dk_at dksX2_seenBy_1 20 rfl rfl)
theorem dX2_seenBy_45 : decode cX2_seenBy 45 = .ok (.goto (-41), 3) := dk_167 255 215 (dk_at dksX2_seenBy_2 0 rfl rfl)
theorem dX2_seenBy_48 : decode cX2_seenBy 48 = .ok (.iload_n 2, 1) := dk_28 (dk_at dksX2_seenBy_2 3 rfl rfl)
theorem dX2_seenBy_49 : decode cX2_seenBy 49 = .ok (.ireturn, 1) := dk_172 (dk_at dksX2_seenBy_2 4 rfl rfl)
abbrev cX2_sees : ByteArray := prog_4_method_11_code
def yX2_sees : MethodName := ⟨RX2, "sees", "(LLaneCrowds$Patrol;LLaneCrowds$Crowd;)Z"⟩
def dkwX2_sees_5 : List UInt8 := [21, 5, 96, 54, 6, 167, 255, 224, 4, 172]
abbrev dktX2_sees_5 : List UInt8 := dkwX2_sees_5 ++ []
def dkwX2_sees_4 : List UInt8 := [180, 0, 63, 159, 0, 29, 21, 5, 153, 0, 24, 42, 21, 6, 182, 0, 121, 154, 0, 5, 3, 172, 21, 6]
abbrev dktX2_sees_4 : List UInt8 := dkwX2_sees_4 ++ dktX2_sees_5
def dkwX2_sees_3 : List UInt8 := [16, 12, 21, 4, 184, 0, 118, 104, 96, 54, 5, 43, 180, 0, 66, 21, 5, 96, 54, 6, 21, 6, 44]
abbrev dktX2_sees_3 : List UInt8 := dkwX2_sees_3 ++ dktX2_sees_4
def dkwX2_sees_2 : List UInt8 := [154, 0, 17, 29, 21, 4, 96, 184, 0, 109, 44, 182, 0, 115, 164, 0, 5, 3, 172, 29, 184, 0, 118]
abbrev dktX2_sees_2 : List UInt8 := dkwX2_sees_2 ++ dktX2_sees_3
def dkwX2_sees_1 : List UInt8 := [62, 44, 180, 0, 63, 16, 12, 108, 43, 180, 0, 66, 16, 12, 108, 100, 54, 4, 29, 153, 0, 8, 21, 4]
abbrev dktX2_sees_1 : List UInt8 := dkwX2_sees_1 ++ dktX2_sees_2
def dkwX2_sees_0 : List UInt8 := [44, 182, 0, 59, 154, 0, 5, 3, 172, 44, 180, 0, 63, 16, 12, 112, 43, 180, 0, 66, 16, 12, 112, 100]
abbrev dktX2_sees_0 : List UInt8 := dkwX2_sees_0 ++ dktX2_sees_1
theorem dksX2_sees_0 : cX2_sees.data.toList.drop 0 = dktX2_sees_0 := by decide +kernel
theorem dksX2_sees_1 : cX2_sees.data.toList.drop 24 = dktX2_sees_1 := dk_seg dksX2_sees_0 24 rfl rfl
theorem dksX2_sees_2 : cX2_sees.data.toList.drop 48 = dktX2_sees_2 := dk_seg dksX2_sees_1 24 rfl rfl
theorem dksX2_sees_3 : cX2_sees.data.toList.drop 71 = dktX2_sees_3 := dk_seg dksX2_sees_2 23 rfl rfl
theorem dksX2_sees_4 : cX2_sees.data.toList.drop 94 = dktX2_sees_4 := dk_seg dksX2_sees_3 23 rfl rfl
theorem dksX2_sees_5 : cX2_sees.data.toList.drop 118 = dktX2_sees_5 := dk_seg dksX2_sees_4 24 rfl rfl
theorem dX2_sees_0 : decode cX2_sees 0 = .ok (.aload_n 2, 1) := dk_44 (dk_at dksX2_sees_0 0 rfl rfl)
theorem dX2_sees_1 : decode cX2_sees 1 = .ok (.invokevirtual 59, 3) := dk_182 0 59 (dk_at dksX2_sees_0 1 rfl rfl)
theorem dX2_sees_4 : decode cX2_sees 4 = .ok (.ifCond .ne 5, 3) := dk_154 0 5 (dk_at dksX2_sees_0 4 rfl rfl)
theorem dX2_sees_7 : decode cX2_sees 7 = .ok (.iconst 0, 1) := dk_3 (dk_at dksX2_sees_0 7 rfl rfl)
theorem dX2_sees_8 : decode cX2_sees 8 = .ok (.ireturn, 1) := dk_172 (dk_at dksX2_sees_0 8 rfl rfl)
theorem dX2_sees_9 : decode cX2_sees 9 = .ok (.aload_n 2, 1) := dk_44 (dk_at dksX2_sees_0 9 rfl rfl)
theorem dX2_sees_10 : decode cX2_sees 10 = .ok (.getfield 63, 3) := dk_180 0 63 (dk_at dksX2_sees_0 10 rfl rfl)
theorem dX2_sees_13 : decode cX2_sees 13 = .ok (.bipush 12, 2) := dk_16 12 (dk_at dksX2_sees_0 13 rfl rfl)
theorem dX2_sees_15 : decode cX2_sees 15 = .ok (.irem, 1) := dk_112 (dk_at dksX2_sees_0 15 rfl rfl)
theorem dX2_sees_16 : decode cX2_sees 16 = .ok (.aload_n 1, 1) := dk_43 (dk_at dksX2_sees_0 16 rfl rfl)
theorem dX2_sees_17 : decode cX2_sees 17 = .ok (.getfield 66, 3) := dk_180 0 66 (dk_at dksX2_sees_0 17 rfl rfl)
theorem dX2_sees_20 : decode cX2_sees 20 = .ok (.bipush 12, 2) := dk_16 12 (dk_at dksX2_sees_0 20 rfl rfl)
theorem dX2_sees_22 : decode cX2_sees 22 = .ok (.irem, 1) := dk_112 (dk_at dksX2_sees_0 22 rfl rfl)
theorem dX2_sees_23 : decode cX2_sees 23 = .ok (.isub, 1) := dk_100 (dk_at dksX2_sees_0 23 rfl rfl)
theorem dX2_sees_24 : decode cX2_sees 24 = .ok (.istore_n 3, 1) := dk_62 (dk_at dksX2_sees_1 0 rfl rfl)
theorem dX2_sees_25 : decode cX2_sees 25 = .ok (.aload_n 2, 1) := dk_44 (dk_at dksX2_sees_1 1 rfl rfl)
theorem dX2_sees_26 : decode cX2_sees 26 = .ok (.getfield 63, 3) := dk_180 0 63 (dk_at dksX2_sees_1 2 rfl rfl)
theorem dX2_sees_29 : decode cX2_sees 29 = .ok (.bipush 12, 2) := dk_16 12 (dk_at dksX2_sees_1 5 rfl rfl)
theorem dX2_sees_31 : decode cX2_sees 31 = .ok (.idiv, 1) := dk_108 (dk_at dksX2_sees_1 7 rfl rfl)
theorem dX2_sees_32 : decode cX2_sees 32 = .ok (.aload_n 1, 1) := dk_43 (dk_at dksX2_sees_1 8 rfl rfl)
theorem dX2_sees_33 : decode cX2_sees 33 = .ok (.getfield 66, 3) := dk_180 0 66 (dk_at dksX2_sees_1 9 rfl rfl)
theorem dX2_sees_36 : decode cX2_sees 36 = .ok (.bipush 12, 2) := dk_16 12 (dk_at dksX2_sees_1 12 rfl rfl)
theorem dX2_sees_38 : decode cX2_sees 38 = .ok (.idiv, 1) := dk_108 (dk_at dksX2_sees_1 14 rfl rfl)
theorem dX2_sees_39 : decode cX2_sees 39 = .ok (.isub, 1) := dk_100 (dk_at dksX2_sees_1 15 rfl rfl)
theorem dX2_sees_40 : decode cX2_sees 40 = .ok (.istore 4, 2) := dk_54 4 (dk_at dksX2_sees_1 16 rfl rfl)
theorem dX2_sees_42 : decode cX2_sees 42 = .ok (.iload_n 3, 1) := dk_29 (dk_at dksX2_sees_1 18 rfl rfl)
theorem dX2_sees_43 : decode cX2_sees 43 = .ok (.ifCond .eq 8, 3) := dk_153 0 8 (dk_at dksX2_sees_1 19 rfl rfl)
theorem dX2_sees_46 : decode cX2_sees 46 = .ok (.iload 4, 2) := dk_21 4 (dk_at dksX2_sees_1 22 rfl rfl)
theorem dX2_sees_48 : decode cX2_sees 48 = .ok (.ifCond .ne 17, 3) := dk_154 0 17 (dk_at dksX2_sees_2 0 rfl rfl)
theorem dX2_sees_51 : decode cX2_sees 51 = .ok (.iload_n 3, 1) := dk_29 (dk_at dksX2_sees_2 3 rfl rfl)
theorem dX2_sees_52 : decode cX2_sees 52 = .ok (.iload 4, 2) := dk_21 4 (dk_at dksX2_sees_2 4 rfl rfl)
theorem dX2_sees_54 : decode cX2_sees 54 = .ok (.iadd, 1) := dk_96 (dk_at dksX2_sees_2 6 rfl rfl)
theorem dX2_sees_55 : decode cX2_sees 55 = .ok (.invokestatic 109, 3) := dk_184 0 109 (dk_at dksX2_sees_2 7 rfl rfl)
theorem dX2_sees_58 : decode cX2_sees 58 = .ok (.aload_n 2, 1) := dk_44 (dk_at dksX2_sees_2 10 rfl rfl)
theorem dX2_sees_59 : decode cX2_sees 59 = .ok (.invokevirtual 115, 3) := dk_182 0 115 (dk_at dksX2_sees_2 11 rfl rfl)
theorem dX2_sees_62 : decode cX2_sees 62 = .ok (.if_icmp .le 5, 3) := dk_164 0 5 (dk_at dksX2_sees_2 14 rfl rfl)
theorem dX2_sees_65 : decode cX2_sees 65 = .ok (.iconst 0, 1) := dk_3 (dk_at dksX2_sees_2 17 rfl rfl)
theorem dX2_sees_66 : decode cX2_sees 66 = .ok (.ireturn, 1) := dk_172 (dk_at dksX2_sees_2 18 rfl rfl)
theorem dX2_sees_67 : decode cX2_sees 67 = .ok (.iload_n 3, 1) := dk_29 (dk_at dksX2_sees_2 19 rfl rfl)
theorem dX2_sees_68 : decode cX2_sees 68 = .ok (.invokestatic 118, 3) := dk_184 0 118 (dk_at dksX2_sees_2 20 rfl rfl)
theorem dX2_sees_71 : decode cX2_sees 71 = .ok (.bipush 12, 2) := dk_16 12 (dk_at dksX2_sees_3 0 rfl rfl)
theorem dX2_sees_73 : decode cX2_sees 73 = .ok (.iload 4, 2) := dk_21 4 (dk_at dksX2_sees_3 2 rfl rfl)
theorem dX2_sees_75 : decode cX2_sees 75 = .ok (.invokestatic 118, 3) := dk_184 0 118 (dk_at dksX2_sees_3 4 rfl rfl)
theorem dX2_sees_78 : decode cX2_sees 78 = .ok (.imul, 1) := dk_104 (dk_at dksX2_sees_3 7 rfl rfl)
theorem dX2_sees_79 : decode cX2_sees 79 = .ok (.iadd, 1) := dk_96 (dk_at dksX2_sees_3 8 rfl rfl)
theorem dX2_sees_80 : decode cX2_sees 80 = .ok (.istore 5, 2) := dk_54 5 (dk_at dksX2_sees_3 9 rfl rfl)
theorem dX2_sees_82 : decode cX2_sees 82 = .ok (.aload_n 1, 1) := dk_43 (dk_at dksX2_sees_3 11 rfl rfl)
theorem dX2_sees_83 : decode cX2_sees 83 = .ok (.getfield 66, 3) := dk_180 0 66 (dk_at dksX2_sees_3 12 rfl rfl)
theorem dX2_sees_86 : decode cX2_sees 86 = .ok (.iload 5, 2) := dk_21 5 (dk_at dksX2_sees_3 15 rfl rfl)
theorem dX2_sees_88 : decode cX2_sees 88 = .ok (.iadd, 1) := dk_96 (dk_at dksX2_sees_3 17 rfl rfl)
theorem dX2_sees_89 : decode cX2_sees 89 = .ok (.istore 6, 2) := dk_54 6 (dk_at dksX2_sees_3 18 rfl rfl)
theorem dX2_sees_91 : decode cX2_sees 91 = .ok (.iload 6, 2) := dk_21 6 (dk_at dksX2_sees_3 20 rfl rfl)
theorem dX2_sees_93 : decode cX2_sees 93 = .ok (.aload_n 2, 1) := dk_44 (dk_at dksX2_sees_3 22 rfl rfl)
theorem dX2_sees_94 : decode cX2_sees 94 = .ok (.getfield 63, 3) := dk_180 0 63 (dk_at dksX2_sees_4 0 rfl rfl)
theorem dX2_sees_97 : decode cX2_sees 97 = .ok (.if_icmp .eq 29, 3) := dk_159 0 29 (dk_at dksX2_sees_4 3 rfl rfl)
theorem dX2_sees_100 : decode cX2_sees 100 = .ok (.iload 5, 2) := dk_21 5 (dk_at dksX2_sees_4 6 rfl rfl)
theorem dX2_sees_102 : decode cX2_sees 102 = .ok (.ifCond .eq 24, 3) := dk_153 0 24 (dk_at dksX2_sees_4 8 rfl rfl)
theorem dX2_sees_105 : decode cX2_sees 105 = .ok (.aload_n 0, 1) := dk_42 (dk_at dksX2_sees_4 11 rfl rfl)
theorem dX2_sees_106 : decode cX2_sees 106 = .ok (.iload 6, 2) := dk_21 6 (dk_at dksX2_sees_4 12 rfl rfl)
theorem dX2_sees_108 : decode cX2_sees 108 = .ok (.invokevirtual 121, 3) := dk_182 0 121 (dk_at dksX2_sees_4 14 rfl rfl)
theorem dX2_sees_111 : decode cX2_sees 111 = .ok (.ifCond .ne 5, 3) := dk_154 0 5 (dk_at dksX2_sees_4 17 rfl rfl)
theorem dX2_sees_114 : decode cX2_sees 114 = .ok (.iconst 0, 1) := dk_3 (dk_at dksX2_sees_4 20 rfl rfl)
theorem dX2_sees_115 : decode cX2_sees 115 = .ok (.ireturn, 1) := dk_172 (dk_at dksX2_sees_4 21 rfl rfl)
theorem dX2_sees_116 : decode cX2_sees 116 = .ok (.iload 6, 2) := dk_21 6 (dk_at dksX2_sees_4 22 rfl rfl)
theorem dX2_sees_118 : decode cX2_sees 118 = .ok (.iload 5, 2) := dk_21 5 (dk_at dksX2_sees_5 0 rfl rfl)
theorem dX2_sees_120 : decode cX2_sees 120 = .ok (.iadd, 1) := dk_96 (dk_at dksX2_sees_5 2 rfl rfl)
theorem dX2_sees_121 : decode cX2_sees 121 = .ok (.istore 6, 2) := dk_54 6 (dk_at dksX2_sees_5 3 rfl rfl)
theorem dX2_sees_123 : decode cX2_sees 123 = .ok (.goto (-32), 3) := dk_167 255 224 (dk_at dksX2_sees_5 5 rfl rfl)
theorem dX2_sees_126 : decode cX2_sees 126 = .ok (.iconst 1, 1) := dk_4 (dk_at dksX2_sees_5 8 rfl rfl)
theorem dX2_sees_127 : decode cX2_sees 127 = .ok (.ireturn, 1) := dk_172 (dk_at dksX2_sees_5 9 rfl rfl)
abbrev cX2_isTaken : ByteArray := prog_4_method_5_code
def yX2_isTaken : MethodName := ⟨RX2, "isTaken", "(I)Z"⟩
def dkwX2_isTaken_4 : List UInt8 := [160, 0, 7, 4, 167, 0, 4, 3, 128, 61, 132, 3, 1, 167, 255, 216, 28, 172]
abbrev dktX2_isTaken_4 : List UInt8 := dkwX2_isTaken_4 ++ []
def dkwX2_isTaken_3 : List UInt8 := [182, 0, 36, 162, 0, 35, 28, 42, 180, 0, 22, 29, 182, 0, 40, 192, 0, 54, 180, 0, 66, 27]
abbrev dktX2_isTaken_3 : List UInt8 := dkwX2_isTaken_3 ++ dktX2_isTaken_4
def dkwX2_isTaken_2 : List UInt8 := [160, 0, 7, 4, 167, 0, 4, 3, 128, 61, 132, 3, 1, 167, 255, 199, 3, 62, 29, 42, 180, 0, 22]
abbrev dktX2_isTaken_2 : List UInt8 := dkwX2_isTaken_2 ++ dktX2_isTaken_3
def dkwX2_isTaken_1 : List UInt8 := [192, 0, 44, 182, 0, 59, 153, 0, 25, 42, 180, 0, 18, 29, 182, 0, 40, 192, 0, 44, 180, 0, 63, 27]
abbrev dktX2_isTaken_1 : List UInt8 := dkwX2_isTaken_1 ++ dktX2_isTaken_2
def dkwX2_isTaken_0 : List UInt8 := [3, 61, 3, 62, 29, 42, 180, 0, 18, 182, 0, 36, 162, 0, 52, 28, 42, 180, 0, 18, 29, 182, 0, 40]
abbrev dktX2_isTaken_0 : List UInt8 := dkwX2_isTaken_0 ++ dktX2_isTaken_1
theorem dksX2_isTaken_0 : cX2_isTaken.data.toList.drop 0 = dktX2_isTaken_0 := by decide +kernel
theorem dksX2_isTaken_1 : cX2_isTaken.data.toList.drop 24 = dktX2_isTaken_1 := dk_seg dksX2_isTaken_0 24 rfl rfl
theorem dksX2_isTaken_2 : cX2_isTaken.data.toList.drop 48 = dktX2_isTaken_2 := dk_seg dksX2_isTaken_1 24 rfl rfl
theorem dksX2_isTaken_3 : cX2_isTaken.data.toList.drop 71 = dktX2_isTaken_3 := dk_seg dksX2_isTaken_2 23 rfl rfl
theorem dksX2_isTaken_4 : cX2_isTaken.data.toList.drop 93 = dktX2_isTaken_4 := dk_seg dksX2_isTaken_3 22 rfl rfl
theorem dX2_isTaken_0 : decode cX2_isTaken 0 = .ok (.iconst 0, 1) := dk_3 (dk_at dksX2_isTaken_0 0 rfl rfl)
theorem dX2_isTaken_1 : decode cX2_isTaken 1 = .ok (.istore_n 2, 1) := dk_61 (dk_at dksX2_isTaken_0 1 rfl rfl)
theorem dX2_isTaken_2 : decode cX2_isTaken 2 = .ok (.iconst 0, 1) := dk_3 (dk_at dksX2_isTaken_0 2 rfl rfl)
theorem dX2_isTaken_3 : decode cX2_isTaken 3 = .ok (.istore_n 3, 1) := dk_62 (dk_at dksX2_isTaken_0 3 rfl rfl)
theorem dX2_isTaken_4 : decode cX2_isTaken 4 = .ok (.iload_n 3, 1) := dk_29 (dk_at dksX2_isTaken_0 4 rfl rfl)
theorem dX2_isTaken_5 : decode cX2_isTaken 5 = .ok (.aload_n 0, 1) := dk_42 (dk_at dksX2_isTaken_0 5 rfl rfl)
theorem dX2_isTaken_6 : decode cX2_isTaken 6 = .ok (.getfield 18, 3) := dk_180 0 18 (dk_at dksX2_isTaken_0 6 rfl rfl)
theorem dX2_isTaken_9 : decode cX2_isTaken 9 = .ok (.invokevirtual 36, 3) := dk_182 0 36 (dk_at dksX2_isTaken_0 9 rfl rfl)
theorem dX2_isTaken_12 : decode cX2_isTaken 12 = .ok (.if_icmp .ge 52, 3) := dk_162 0 52 (dk_at dksX2_isTaken_0 12 rfl rfl)
theorem dX2_isTaken_15 : decode cX2_isTaken 15 = .ok (.iload_n 2, 1) := dk_28 (dk_at dksX2_isTaken_0 15 rfl rfl)
theorem dX2_isTaken_16 : decode cX2_isTaken 16 = .ok (.aload_n 0, 1) := dk_42 (dk_at dksX2_isTaken_0 16 rfl rfl)
theorem dX2_isTaken_17 : decode cX2_isTaken 17 = .ok (.getfield 18, 3) := dk_180 0 18 (dk_at dksX2_isTaken_0 17 rfl rfl)
theorem dX2_isTaken_20 : decode cX2_isTaken 20 = .ok (.iload_n 3, 1) := dk_29 (dk_at dksX2_isTaken_0 20 rfl rfl)
theorem dX2_isTaken_21 : decode cX2_isTaken 21 = .ok (.invokevirtual 40, 3) := dk_182 0 40 (dk_at dksX2_isTaken_0 21 rfl rfl)
theorem dX2_isTaken_24 : decode cX2_isTaken 24 = .ok (.checkcast 44, 3) := dk_192 0 44 (dk_at dksX2_isTaken_1 0 rfl rfl)
theorem dX2_isTaken_27 : decode cX2_isTaken 27 = .ok (.invokevirtual 59, 3) := dk_182 0 59 (dk_at dksX2_isTaken_1 3 rfl rfl)
theorem dX2_isTaken_30 : decode cX2_isTaken 30 = .ok (.ifCond .eq 25, 3) := dk_153 0 25 (dk_at dksX2_isTaken_1 6 rfl rfl)
theorem dX2_isTaken_33 : decode cX2_isTaken 33 = .ok (.aload_n 0, 1) := dk_42 (dk_at dksX2_isTaken_1 9 rfl rfl)
theorem dX2_isTaken_34 : decode cX2_isTaken 34 = .ok (.getfield 18, 3) := dk_180 0 18 (dk_at dksX2_isTaken_1 10 rfl rfl)
theorem dX2_isTaken_37 : decode cX2_isTaken 37 = .ok (.iload_n 3, 1) := dk_29 (dk_at dksX2_isTaken_1 13 rfl rfl)
theorem dX2_isTaken_38 : decode cX2_isTaken 38 = .ok (.invokevirtual 40, 3) := dk_182 0 40 (dk_at dksX2_isTaken_1 14 rfl rfl)
theorem dX2_isTaken_41 : decode cX2_isTaken 41 = .ok (.checkcast 44, 3) := dk_192 0 44 (dk_at dksX2_isTaken_1 17 rfl rfl)
theorem dX2_isTaken_44 : decode cX2_isTaken 44 = .ok (.getfield 63, 3) := dk_180 0 63 (dk_at dksX2_isTaken_1 20 rfl rfl)
theorem dX2_isTaken_47 : decode cX2_isTaken 47 = .ok (.iload_n 1, 1) := dk_27 (dk_at dksX2_isTaken_1 23 rfl rfl)
theorem dX2_isTaken_48 : decode cX2_isTaken 48 = .ok (.if_icmp .ne 7, 3) := dk_160 0 7 (dk_at dksX2_isTaken_2 0 rfl rfl)
theorem dX2_isTaken_51 : decode cX2_isTaken 51 = .ok (.iconst 1, 1) := dk_4 (dk_at dksX2_isTaken_2 3 rfl rfl)
theorem dX2_isTaken_52 : decode cX2_isTaken 52 = .ok (.goto 4, 3) := dk_167 0 4 (dk_at dksX2_isTaken_2 4 rfl rfl)
theorem dX2_isTaken_55 : decode cX2_isTaken 55 = .ok (.iconst 0, 1) := dk_3 (dk_at dksX2_isTaken_2 7 rfl rfl)
theorem dX2_isTaken_56 : decode cX2_isTaken 56 = .ok (.ior, 1) := dk_128 (dk_at dksX2_isTaken_2 8 rfl rfl)
theorem dX2_isTaken_57 : decode cX2_isTaken 57 = .ok (.istore_n 2, 1) := dk_61 (dk_at dksX2_isTaken_2 9 rfl rfl)
theorem dX2_isTaken_58 : decode cX2_isTaken 58 = .ok (.iinc 3 1, 3) := dk_132 3 1 (dk_at dksX2_isTaken_2 10 rfl rfl)
theorem dX2_isTaken_61 : decode cX2_isTaken 61 = .ok (.goto (-57), 3) := dk_167 255 199 (dk_at dksX2_isTaken_2 13 rfl rfl)
theorem dX2_isTaken_64 : decode cX2_isTaken 64 = .ok (.iconst 0, 1) := dk_3 (dk_at dksX2_isTaken_2 16 rfl rfl)
theorem dX2_isTaken_65 : decode cX2_isTaken 65 = .ok (.istore_n 3, 1) := dk_62 (dk_at dksX2_isTaken_2 17 rfl rfl)
theorem dX2_isTaken_66 : decode cX2_isTaken 66 = .ok (.iload_n 3, 1) := dk_29 (dk_at dksX2_isTaken_2 18 rfl rfl)
theorem dX2_isTaken_67 : decode cX2_isTaken 67 = .ok (.aload_n 0, 1) := dk_42 (dk_at dksX2_isTaken_2 19 rfl rfl)
theorem dX2_isTaken_68 : decode cX2_isTaken 68 = .ok (.getfield 22, 3) := dk_180 0 22 (dk_at dksX2_isTaken_2 20 rfl rfl)
theorem dX2_isTaken_71 : decode cX2_isTaken 71 = .ok (.invokevirtual 36, 3) := dk_182 0 36 (dk_at dksX2_isTaken_3 0 rfl rfl)
theorem dX2_isTaken_74 : decode cX2_isTaken 74 = .ok (.if_icmp .ge 35, 3) := dk_162 0 35 (dk_at dksX2_isTaken_3 3 rfl rfl)
theorem dX2_isTaken_77 : decode cX2_isTaken 77 = .ok (.iload_n 2, 1) := dk_28 (dk_at dksX2_isTaken_3 6 rfl rfl)
theorem dX2_isTaken_78 : decode cX2_isTaken 78 = .ok (.aload_n 0, 1) := dk_42 (dk_at dksX2_isTaken_3 7 rfl rfl)
theorem dX2_isTaken_79 : decode cX2_isTaken 79 = .ok (.getfield 22, 3) := dk_180 0 22 (dk_at dksX2_isTaken_3 8 rfl rfl)
theorem dX2_isTaken_82 : decode cX2_isTaken 82 = .ok (.iload_n 3, 1) := dk_29 (dk_at dksX2_isTaken_3 11 rfl rfl)
theorem dX2_isTaken_83 : decode cX2_isTaken 83 = .ok (.invokevirtual 40, 3) := dk_182 0 40 (dk_at dksX2_isTaken_3 12 rfl rfl)
theorem dX2_isTaken_86 : decode cX2_isTaken 86 = .ok (.checkcast 54, 3) := dk_192 0 54 (dk_at dksX2_isTaken_3 15 rfl rfl)
theorem dX2_isTaken_89 : decode cX2_isTaken 89 = .ok (.getfield 66, 3) := dk_180 0 66 (dk_at dksX2_isTaken_3 18 rfl rfl)
theorem dX2_isTaken_92 : decode cX2_isTaken 92 = .ok (.iload_n 1, 1) := dk_27 (dk_at dksX2_isTaken_3 21 rfl rfl)
theorem dX2_isTaken_93 : decode cX2_isTaken 93 = .ok (.if_icmp .ne 7, 3) := dk_160 0 7 (dk_at dksX2_isTaken_4 0 rfl rfl)
theorem dX2_isTaken_96 : decode cX2_isTaken 96 = .ok (.iconst 1, 1) := dk_4 (dk_at dksX2_isTaken_4 3 rfl rfl)
theorem dX2_isTaken_97 : decode cX2_isTaken 97 = .ok (.goto 4, 3) := dk_167 0 4 (dk_at dksX2_isTaken_4 4 rfl rfl)
theorem dX2_isTaken_100 : decode cX2_isTaken 100 = .ok (.iconst 0, 1) := dk_3 (dk_at dksX2_isTaken_4 7 rfl rfl)
theorem dX2_isTaken_101 : decode cX2_isTaken 101 = .ok (.ior, 1) := dk_128 (dk_at dksX2_isTaken_4 8 rfl rfl)
theorem dX2_isTaken_102 : decode cX2_isTaken 102 = .ok (.istore_n 2, 1) := dk_61 (dk_at dksX2_isTaken_4 9 rfl rfl)
theorem dX2_isTaken_103 : decode cX2_isTaken 103 = .ok (.iinc 3 1, 3) := dk_132 3 1 (dk_at dksX2_isTaken_4 10 rfl rfl)
theorem dX2_isTaken_106 : decode cX2_isTaken 106 = .ok (.goto (-40), 3) := dk_167 255 216 (dk_at dksX2_isTaken_4 13 rfl rfl)
theorem dX2_isTaken_109 : decode cX2_isTaken 109 = .ok (.iload_n 2, 1) := dk_28 (dk_at dksX2_isTaken_4 16 rfl rfl)
theorem dX2_isTaken_110 : decode cX2_isTaken 110 = .ok (.ireturn, 1) := dk_172 (dk_at dksX2_isTaken_4 17 rfl rfl)
abbrev cX2_isLane : ByteArray := prog_4_method_4_code
def yX2_isLane : MethodName := ⟨RX2, "isLane", "(I)Z"⟩
def dkwX2_isLane_0 : List UInt8 := [27, 2, 159, 0, 17, 42, 180, 0, 9, 27, 46, 2, 159, 0, 7, 4, 167, 0, 4, 3, 172]
abbrev dktX2_isLane_0 : List UInt8 := dkwX2_isLane_0 ++ []
theorem dksX2_isLane_0 : cX2_isLane.data.toList.drop 0 = dktX2_isLane_0 := by decide +kernel
theorem dX2_isLane_0 : decode cX2_isLane 0 = .ok (.iload_n 1, 1) := dk_27 (dk_at dksX2_isLane_0 0 rfl rfl)
theorem dX2_isLane_1 : decode cX2_isLane 1 = .ok (.iconst (-1), 1) := dk_2 (dk_at dksX2_isLane_0 1 rfl rfl)
theorem dX2_isLane_2 : decode cX2_isLane 2 = .ok (.if_icmp .eq 17, 3) := dk_159 0 17 (dk_at dksX2_isLane_0 2 rfl rfl)
theorem dX2_isLane_5 : decode cX2_isLane 5 = .ok (.aload_n 0, 1) := dk_42 (dk_at dksX2_isLane_0 5 rfl rfl)
theorem dX2_isLane_6 : decode cX2_isLane 6 = .ok (.getfield 9, 3) := dk_180 0 9 (dk_at dksX2_isLane_0 6 rfl rfl)
theorem dX2_isLane_9 : decode cX2_isLane 9 = .ok (.iload_n 1, 1) := dk_27 (dk_at dksX2_isLane_0 9 rfl rfl)
theorem dX2_isLane_10 : decode cX2_isLane 10 = .ok (.iaload, 1) := dk_46 (dk_at dksX2_isLane_0 10 rfl rfl)
theorem dX2_isLane_11 : decode cX2_isLane 11 = .ok (.iconst (-1), 1) := dk_2 (dk_at dksX2_isLane_0 11 rfl rfl)
theorem dX2_isLane_12 : decode cX2_isLane 12 = .ok (.if_icmp .eq 7, 3) := dk_159 0 7 (dk_at dksX2_isLane_0 12 rfl rfl)
theorem dX2_isLane_15 : decode cX2_isLane 15 = .ok (.iconst 1, 1) := dk_4 (dk_at dksX2_isLane_0 15 rfl rfl)
theorem dX2_isLane_16 : decode cX2_isLane 16 = .ok (.goto 4, 3) := dk_167 0 4 (dk_at dksX2_isLane_0 16 rfl rfl)
theorem dX2_isLane_19 : decode cX2_isLane 19 = .ok (.iconst 0, 1) := dk_3 (dk_at dksX2_isLane_0 19 rfl rfl)
theorem dX2_isLane_20 : decode cX2_isLane 20 = .ok (.ireturn, 1) := dk_172 (dk_at dksX2_isLane_0 20 rfl rfl)
abbrev cX2_way : ByteArray := prog_4_method_19_code
def yX2_way : MethodName := ⟨RX2, "way", "(II)I"⟩
def dkwX2_way_6 : List UInt8 := [46, 172]
abbrev dktX2_way_6 : List UInt8 := dkwX2_way_6 ++ []
def dkwX2_way_5 : List UInt8 := [25, 4, 21, 5, 21, 8, 79, 132, 5, 1, 132, 7, 1, 167, 255, 192, 132, 6, 1, 167, 255, 176, 45, 28]
abbrev dktX2_way_5 : List UInt8 := dkwX2_way_5 ++ dktX2_way_6
def dkwX2_way_4 : List UInt8 := [45, 21, 8, 46, 2, 159, 0, 6, 167, 0, 26, 45, 21, 8, 45, 25, 4, 21, 6, 46, 46, 4, 96, 79]
abbrev dktX2_way_4 : List UInt8 := dkwX2_way_4 ++ dktX2_way_5
def dkwX2_way_3 : List UInt8 := [162, 0, 64, 25, 4, 21, 6, 46, 21, 7, 184, 0, 67, 54, 8, 42, 21, 8, 182, 0, 121, 153, 0, 37]
abbrev dktX2_way_3 : List UInt8 := dkwX2_way_3 ++ dktX2_way_4
def dkwX2_way_2 : List UInt8 := [25, 4, 3, 27, 79, 4, 54, 5, 3, 54, 6, 21, 6, 21, 5, 162, 0, 79, 3, 54, 7, 21, 7, 7]
abbrev dktX2_way_2 : List UInt8 := dkwX2_way_2 ++ dktX2_way_3
def dkwX2_way_1 : List UInt8 := [2, 79, 132, 5, 1, 167, 255, 241, 3, 54, 5, 42, 27, 182, 0, 121, 153, 0, 15, 45, 27, 3, 79]
abbrev dktX2_way_1 : List UInt8 := dkwX2_way_1 ++ dktX2_way_2
def dkwX2_way_0 : List UInt8 := [16, 108, 188, 10, 78, 16, 108, 188, 10, 58, 4, 3, 54, 5, 21, 5, 16, 108, 162, 0, 14, 45, 21, 5]
abbrev dktX2_way_0 : List UInt8 := dkwX2_way_0 ++ dktX2_way_1
theorem dksX2_way_0 : cX2_way.data.toList.drop 0 = dktX2_way_0 := by decide +kernel
theorem dksX2_way_1 : cX2_way.data.toList.drop 24 = dktX2_way_1 := dk_seg dksX2_way_0 24 rfl rfl
theorem dksX2_way_2 : cX2_way.data.toList.drop 47 = dktX2_way_2 := dk_seg dksX2_way_1 23 rfl rfl
theorem dksX2_way_3 : cX2_way.data.toList.drop 71 = dktX2_way_3 := dk_seg dksX2_way_2 24 rfl rfl
theorem dksX2_way_4 : cX2_way.data.toList.drop 95 = dktX2_way_4 := dk_seg dksX2_way_3 24 rfl rfl
theorem dksX2_way_5 : cX2_way.data.toList.drop 119 = dktX2_way_5 := dk_seg dksX2_way_4 24 rfl rfl
theorem dksX2_way_6 : cX2_way.data.toList.drop 143 = dktX2_way_6 := dk_seg dksX2_way_5 24 rfl rfl
theorem dX2_way_0 : decode cX2_way 0 = .ok (.bipush 108, 2) := dk_16 108 (dk_at dksX2_way_0 0 rfl rfl)
theorem dX2_way_2 : decode cX2_way 2 = .ok (.newarray .int, 2) := dk_188_10 (dk_at dksX2_way_0 2 rfl rfl)
theorem dX2_way_4 : decode cX2_way 4 = .ok (.astore_n 3, 1) := dk_78 (dk_at dksX2_way_0 4 rfl rfl)
theorem dX2_way_5 : decode cX2_way 5 = .ok (.bipush 108, 2) := dk_16 108 (dk_at dksX2_way_0 5 rfl rfl)
theorem dX2_way_7 : decode cX2_way 7 = .ok (.newarray .int, 2) := dk_188_10 (dk_at dksX2_way_0 7 rfl rfl)
theorem dX2_way_9 : decode cX2_way 9 = .ok (.astore 4, 2) := dk_58 4 (dk_at dksX2_way_0 9 rfl rfl)
theorem dX2_way_11 : decode cX2_way 11 = .ok (.iconst 0, 1) := dk_3 (dk_at dksX2_way_0 11 rfl rfl)
theorem dX2_way_12 : decode cX2_way 12 = .ok (.istore 5, 2) := dk_54 5 (dk_at dksX2_way_0 12 rfl rfl)
theorem dX2_way_14 : decode cX2_way 14 = .ok (.iload 5, 2) := dk_21 5 (dk_at dksX2_way_0 14 rfl rfl)
theorem dX2_way_16 : decode cX2_way 16 = .ok (.bipush 108, 2) := dk_16 108 (dk_at dksX2_way_0 16 rfl rfl)
theorem dX2_way_18 : decode cX2_way 18 = .ok (.if_icmp .ge 14, 3) := dk_162 0 14 (dk_at dksX2_way_0 18 rfl rfl)
theorem dX2_way_21 : decode cX2_way 21 = .ok (.aload_n 3, 1) := dk_45 (dk_at dksX2_way_0 21 rfl rfl)
theorem dX2_way_22 : decode cX2_way 22 = .ok (.iload 5, 2) := dk_21 5 (dk_at dksX2_way_0 22 rfl rfl)
theorem dX2_way_24 : decode cX2_way 24 = .ok (.iconst (-1), 1) := dk_2 (dk_at dksX2_way_1 0 rfl rfl)
theorem dX2_way_25 : decode cX2_way 25 = .ok (.iastore, 1) := dk_79 (dk_at dksX2_way_1 1 rfl rfl)
theorem dX2_way_26 : decode cX2_way 26 = .ok (.iinc 5 1, 3) := dk_132 5 1 (dk_at dksX2_way_1 2 rfl rfl)
theorem dX2_way_29 : decode cX2_way 29 = .ok (.goto (-15), 3) := dk_167 255 241 (dk_at dksX2_way_1 5 rfl rfl)
theorem dX2_way_32 : decode cX2_way 32 = .ok (.iconst 0, 1) := dk_3 (dk_at dksX2_way_1 8 rfl rfl)
theorem dX2_way_33 : decode cX2_way 33 = .ok (.istore 5, 2) := dk_54 5 (dk_at dksX2_way_1 9 rfl rfl)
theorem dX2_way_35 : decode cX2_way 35 = .ok (.aload_n 0, 1) := dk_42 (dk_at dksX2_way_1 11 rfl rfl)
theorem dX2_way_36 : decode cX2_way 36 = .ok (.iload_n 1, 1) := dk_27 (dk_at dksX2_way_1 12 rfl rfl)
theorem dX2_way_37 : decode cX2_way 37 = .ok (.invokevirtual 121, 3) := dk_182 0 121 (dk_at dksX2_way_1 13 rfl rfl)
theorem dX2_way_40 : decode cX2_way 40 = .ok (.ifCond .eq 15, 3) := dk_153 0 15 (dk_at dksX2_way_1 16 rfl rfl)
theorem dX2_way_43 : decode cX2_way 43 = .ok (.aload_n 3, 1) := dk_45 (dk_at dksX2_way_1 19 rfl rfl)
theorem dX2_way_44 : decode cX2_way 44 = .ok (.iload_n 1, 1) := dk_27 (dk_at dksX2_way_1 20 rfl rfl)
theorem dX2_way_45 : decode cX2_way 45 = .ok (.iconst 0, 1) := dk_3 (dk_at dksX2_way_1 21 rfl rfl)
theorem dX2_way_46 : decode cX2_way 46 = .ok (.iastore, 1) := dk_79 (dk_at dksX2_way_1 22 rfl rfl)
theorem dX2_way_47 : decode cX2_way 47 = .ok (.aload 4, 2) := dk_25 4 (dk_at dksX2_way_2 0 rfl rfl)
theorem dX2_way_49 : decode cX2_way 49 = .ok (.iconst 0, 1) := dk_3 (dk_at dksX2_way_2 2 rfl rfl)
theorem dX2_way_50 : decode cX2_way 50 = .ok (.iload_n 1, 1) := dk_27 (dk_at dksX2_way_2 3 rfl rfl)
theorem dX2_way_51 : decode cX2_way 51 = .ok (.iastore, 1) := dk_79 (dk_at dksX2_way_2 4 rfl rfl)
theorem dX2_way_52 : decode cX2_way 52 = .ok (.iconst 1, 1) := dk_4 (dk_at dksX2_way_2 5 rfl rfl)
theorem dX2_way_53 : decode cX2_way 53 = .ok (.istore 5, 2) := dk_54 5 (dk_at dksX2_way_2 6 rfl rfl)
theorem dX2_way_55 : decode cX2_way 55 = .ok (.iconst 0, 1) := dk_3 (dk_at dksX2_way_2 8 rfl rfl)
theorem dX2_way_56 : decode cX2_way 56 = .ok (.istore 6, 2) := dk_54 6 (dk_at dksX2_way_2 9 rfl rfl)
theorem dX2_way_58 : decode cX2_way 58 = .ok (.iload 6, 2) := dk_21 6 (dk_at dksX2_way_2 11 rfl rfl)
theorem dX2_way_60 : decode cX2_way 60 = .ok (.iload 5, 2) := dk_21 5 (dk_at dksX2_way_2 13 rfl rfl)
theorem dX2_way_62 : decode cX2_way 62 = .ok (.if_icmp .ge 79, 3) := dk_162 0 79 (dk_at dksX2_way_2 15 rfl rfl)
theorem dX2_way_65 : decode cX2_way 65 = .ok (.iconst 0, 1) := dk_3 (dk_at dksX2_way_2 18 rfl rfl)
theorem dX2_way_66 : decode cX2_way 66 = .ok (.istore 7, 2) := dk_54 7 (dk_at dksX2_way_2 19 rfl rfl)
theorem dX2_way_68 : decode cX2_way 68 = .ok (.iload 7, 2) := dk_21 7 (dk_at dksX2_way_2 21 rfl rfl)
theorem dX2_way_70 : decode cX2_way 70 = .ok (.iconst 4, 1) := dk_7 (dk_at dksX2_way_2 23 rfl rfl)
theorem dX2_way_71 : decode cX2_way 71 = .ok (.if_icmp .ge 64, 3) := dk_162 0 64 (dk_at dksX2_way_3 0 rfl rfl)
theorem dX2_way_74 : decode cX2_way 74 = .ok (.aload 4, 2) := dk_25 4 (dk_at dksX2_way_3 3 rfl rfl)
theorem dX2_way_76 : decode cX2_way 76 = .ok (.iload 6, 2) := dk_21 6 (dk_at dksX2_way_3 5 rfl rfl)
theorem dX2_way_78 : decode cX2_way 78 = .ok (.iaload, 1) := dk_46 (dk_at dksX2_way_3 7 rfl rfl)
theorem dX2_way_79 : decode cX2_way 79 = .ok (.iload 7, 2) := dk_21 7 (dk_at dksX2_way_3 8 rfl rfl)
theorem dX2_way_81 : decode cX2_way 81 = .ok (.invokestatic 67, 3) := dk_184 0 67 (dk_at dksX2_way_3 10 rfl rfl)
theorem dX2_way_84 : decode cX2_way 84 = .ok (.istore 8, 2) := dk_54 8 (dk_at dksX2_way_3 13 rfl rfl)
theorem dX2_way_86 : decode cX2_way 86 = .ok (.aload_n 0, 1) := dk_42 (dk_at dksX2_way_3 15 rfl rfl)
theorem dX2_way_87 : decode cX2_way 87 = .ok (.iload 8, 2) := dk_21 8 (dk_at dksX2_way_3 16 rfl rfl)
theorem dX2_way_89 : decode cX2_way 89 = .ok (.invokevirtual 121, 3) := dk_182 0 121 (dk_at dksX2_way_3 18 rfl rfl)
theorem dX2_way_92 : decode cX2_way 92 = .ok (.ifCond .eq 37, 3) := dk_153 0 37 (dk_at dksX2_way_3 21 rfl rfl)
theorem dX2_way_95 : decode cX2_way 95 = .ok (.aload_n 3, 1) := dk_45 (dk_at dksX2_way_4 0 rfl rfl)
theorem dX2_way_96 : decode cX2_way 96 = .ok (.iload 8, 2) := dk_21 8 (dk_at dksX2_way_4 1 rfl rfl)
theorem dX2_way_98 : decode cX2_way 98 = .ok (.iaload, 1) := dk_46 (dk_at dksX2_way_4 3 rfl rfl)
theorem dX2_way_99 : decode cX2_way 99 = .ok (.iconst (-1), 1) := dk_2 (dk_at dksX2_way_4 4 rfl rfl)
theorem dX2_way_100 : decode cX2_way 100 = .ok (.if_icmp .eq 6, 3) := dk_159 0 6 (dk_at dksX2_way_4 5 rfl rfl)
theorem dX2_way_103 : decode cX2_way 103 = .ok (.goto 26, 3) := dk_167 0 26 (dk_at dksX2_way_4 8 rfl rfl)
theorem dX2_way_106 : decode cX2_way 106 = .ok (.aload_n 3, 1) := dk_45 (dk_at dksX2_way_4 11 rfl rfl)
theorem dX2_way_107 : decode cX2_way 107 = .ok (.iload 8, 2) := dk_21 8 (dk_at dksX2_way_4 12 rfl rfl)
theorem dX2_way_109 : decode cX2_way 109 = .ok (.aload_n 3, 1) := dk_45 (dk_at dksX2_way_4 14 rfl rfl)
theorem dX2_way_110 : decode cX2_way 110 = .ok (.aload 4, 2) := dk_25 4 (dk_at dksX2_way_4 15 rfl rfl)
theorem dX2_way_112 : decode cX2_way 112 = .ok (.iload 6, 2) := dk_21 6 (dk_at dksX2_way_4 17 rfl rfl)
theorem dX2_way_114 : decode cX2_way 114 = .ok (.iaload, 1) := dk_46 (dk_at dksX2_way_4 19 rfl rfl)
theorem dX2_way_115 : decode cX2_way 115 = .ok (.iaload, 1) := dk_46 (dk_at dksX2_way_4 20 rfl rfl)
theorem dX2_way_116 : decode cX2_way 116 = .ok (.iconst 1, 1) := dk_4 (dk_at dksX2_way_4 21 rfl rfl)
theorem dX2_way_117 : decode cX2_way 117 = .ok (.iadd, 1) := dk_96 (dk_at dksX2_way_4 22 rfl rfl)
theorem dX2_way_118 : decode cX2_way 118 = .ok (.iastore, 1) := dk_79 (dk_at dksX2_way_4 23 rfl rfl)
theorem dX2_way_119 : decode cX2_way 119 = .ok (.aload 4, 2) := dk_25 4 (dk_at dksX2_way_5 0 rfl rfl)
theorem dX2_way_121 : decode cX2_way 121 = .ok (.iload 5, 2) := dk_21 5 (dk_at dksX2_way_5 2 rfl rfl)
theorem dX2_way_123 : decode cX2_way 123 = .ok (.iload 8, 2) := dk_21 8 (dk_at dksX2_way_5 4 rfl rfl)
theorem dX2_way_125 : decode cX2_way 125 = .ok (.iastore, 1) := dk_79 (dk_at dksX2_way_5 6 rfl rfl)
theorem dX2_way_126 : decode cX2_way 126 = .ok (.iinc 5 1, 3) := dk_132 5 1 (dk_at dksX2_way_5 7 rfl rfl)
theorem dX2_way_129 : decode cX2_way 129 = .ok (.iinc 7 1, 3) := dk_132 7 1 (dk_at dksX2_way_5 10 rfl rfl)
theorem dX2_way_132 : decode cX2_way 132 = .ok (.goto (-64), 3) := dk_167 255 192 (dk_at dksX2_way_5 13 rfl rfl)
theorem dX2_way_135 : decode cX2_way 135 = .ok (.iinc 6 1, 3) := dk_132 6 1 (dk_at dksX2_way_5 16 rfl rfl)
theorem dX2_way_138 : decode cX2_way 138 = .ok (.goto (-80), 3) := dk_167 255 176 (dk_at dksX2_way_5 19 rfl rfl)
theorem dX2_way_141 : decode cX2_way 141 = .ok (.aload_n 3, 1) := dk_45 (dk_at dksX2_way_5 22 rfl rfl)
theorem dX2_way_142 : decode cX2_way 142 = .ok (.iload_n 2, 1) := dk_28 (dk_at dksX2_way_5 23 rfl rfl)
theorem dX2_way_143 : decode cX2_way 143 = .ok (.iaload, 1) := dk_46 (dk_at dksX2_way_6 0 rfl rfl)
theorem dX2_way_144 : decode cX2_way 144 = .ok (.ireturn, 1) := dk_172 (dk_at dksX2_way_6 1 rfl rfl)
abbrev cX2_pass : ByteArray := prog_4_method_13_code
def yX2_pass : MethodName := ⟨RX2, "pass", "()V"⟩
def dkwX2_pass_8 : List UInt8 := [167, 255, 177, 42, 89, 180, 0, 26, 4, 96, 181, 0, 26, 177]
abbrev dktX2_pass_8 : List UInt8 := dkwX2_pass_8 ++ []
def dkwX2_pass_7 : List UInt8 := [180, 0, 18, 27, 182, 0, 40, 192, 0, 44, 182, 0, 139, 100, 184, 0, 143, 181, 0, 79, 132, 1, 1]
abbrev dktX2_pass_7 : List UInt8 := dkwX2_pass_7 ++ dktX2_pass_8
def dkwX2_pass_6 : List UInt8 := [27, 182, 0, 40, 192, 0, 44, 3, 42, 180, 0, 18, 27, 182, 0, 40, 192, 0, 44, 180, 0, 79, 42, 42]
abbrev dktX2_pass_6 : List UInt8 := dkwX2_pass_6 ++ dktX2_pass_7
def dkwX2_pass_5 : List UInt8 := [162, 0, 74, 42, 180, 0, 18, 27, 182, 0, 40, 192, 0, 44, 182, 0, 59, 153, 0, 51, 42, 180, 0, 18]
abbrev dktX2_pass_5 : List UInt8 := dkwX2_pass_5 ++ dktX2_pass_6
def dkwX2_pass_4 : List UInt8 := [192, 0, 54, 182, 0, 135, 132, 1, 1, 167, 255, 227, 3, 60, 27, 42, 180, 0, 18, 182, 0, 36]
abbrev dktX2_pass_4 : List UInt8 := dkwX2_pass_4 ++ dktX2_pass_5
def dkwX2_pass_3 : List UInt8 := [3, 60, 27, 42, 180, 0, 22, 182, 0, 36, 162, 0, 24, 42, 42, 180, 0, 22, 27, 182, 0, 40]
abbrev dktX2_pass_3 : List UInt8 := dkwX2_pass_3 ++ dktX2_pass_4
def dkwX2_pass_2 : List UInt8 := [154, 0, 18, 42, 42, 180, 0, 18, 27, 182, 0, 40, 192, 0, 44, 182, 0, 131, 132, 1, 1, 167, 255, 190]
abbrev dktX2_pass_2 : List UInt8 := dkwX2_pass_2 ++ dktX2_pass_3
def dkwX2_pass_1 : List UInt8 := [182, 0, 59, 153, 0, 38, 42, 180, 0, 18, 27, 182, 0, 40, 192, 0, 44, 180, 0, 85, 182, 0, 128]
abbrev dktX2_pass_1 : List UInt8 := dkwX2_pass_1 ++ dktX2_pass_2
def dkwX2_pass_0 : List UInt8 := [3, 60, 27, 42, 180, 0, 18, 182, 0, 36, 162, 0, 61, 42, 180, 0, 18, 27, 182, 0, 40, 192, 0, 44]
abbrev dktX2_pass_0 : List UInt8 := dkwX2_pass_0 ++ dktX2_pass_1
theorem dksX2_pass_0 : cX2_pass.data.toList.drop 0 = dktX2_pass_0 := by decide +kernel
theorem dksX2_pass_1 : cX2_pass.data.toList.drop 24 = dktX2_pass_1 := dk_seg dksX2_pass_0 24 rfl rfl
theorem dksX2_pass_2 : cX2_pass.data.toList.drop 47 = dktX2_pass_2 := dk_seg dksX2_pass_1 23 rfl rfl
theorem dksX2_pass_3 : cX2_pass.data.toList.drop 71 = dktX2_pass_3 := dk_seg dksX2_pass_2 24 rfl rfl
theorem dksX2_pass_4 : cX2_pass.data.toList.drop 93 = dktX2_pass_4 := dk_seg dksX2_pass_3 22 rfl rfl
theorem dksX2_pass_5 : cX2_pass.data.toList.drop 115 = dktX2_pass_5 := dk_seg dksX2_pass_4 22 rfl rfl
theorem dksX2_pass_6 : cX2_pass.data.toList.drop 139 = dktX2_pass_6 := dk_seg dksX2_pass_5 24 rfl rfl
theorem dksX2_pass_7 : cX2_pass.data.toList.drop 163 = dktX2_pass_7 := dk_seg dksX2_pass_6 24 rfl rfl
theorem dksX2_pass_8 : cX2_pass.data.toList.drop 186 = dktX2_pass_8 := dk_seg dksX2_pass_7 23 rfl rfl
theorem dX2_pass_0 : decode cX2_pass 0 = .ok (.iconst 0, 1) := dk_3 (dk_at dksX2_pass_0 0 rfl rfl)
theorem dX2_pass_1 : decode cX2_pass 1 = .ok (.istore_n 1, 1) := dk_60 (dk_at dksX2_pass_0 1 rfl rfl)
theorem dX2_pass_2 : decode cX2_pass 2 = .ok (.iload_n 1, 1) := dk_27 (dk_at dksX2_pass_0 2 rfl rfl)
theorem dX2_pass_3 : decode cX2_pass 3 = .ok (.aload_n 0, 1) := dk_42 (dk_at dksX2_pass_0 3 rfl rfl)
theorem dX2_pass_4 : decode cX2_pass 4 = .ok (.getfield 18, 3) := dk_180 0 18 (dk_at dksX2_pass_0 4 rfl rfl)
theorem dX2_pass_7 : decode cX2_pass 7 = .ok (.invokevirtual 36, 3) := dk_182 0 36 (dk_at dksX2_pass_0 7 rfl rfl)
theorem dX2_pass_10 : decode cX2_pass 10 = .ok (.if_icmp .ge 61, 3) := dk_162 0 61 (dk_at dksX2_pass_0 10 rfl rfl)
theorem dX2_pass_13 : decode cX2_pass 13 = .ok (.aload_n 0, 1) := dk_42 (dk_at dksX2_pass_0 13 rfl rfl)
theorem dX2_pass_14 : decode cX2_pass 14 = .ok (.getfield 18, 3) := dk_180 0 18 (dk_at dksX2_pass_0 14 rfl rfl)
theorem dX2_pass_17 : decode cX2_pass 17 = .ok (.iload_n 1, 1) := dk_27 (dk_at dksX2_pass_0 17 rfl rfl)
theorem dX2_pass_18 : decode cX2_pass 18 = .ok (.invokevirtual 40, 3) := dk_182 0 40 (dk_at dksX2_pass_0 18 rfl rfl)
theorem dX2_pass_21 : decode cX2_pass 21 = .ok (.checkcast 44, 3) := dk_192 0 44 (dk_at dksX2_pass_0 21 rfl rfl)
theorem dX2_pass_24 : decode cX2_pass 24 = .ok (.invokevirtual 59, 3) := dk_182 0 59 (dk_at dksX2_pass_1 0 rfl rfl)
theorem dX2_pass_27 : decode cX2_pass 27 = .ok (.ifCond .eq 38, 3) := dk_153 0 38 (dk_at dksX2_pass_1 3 rfl rfl)
theorem dX2_pass_30 : decode cX2_pass 30 = .ok (.aload_n 0, 1) := dk_42 (dk_at dksX2_pass_1 6 rfl rfl)
theorem dX2_pass_31 : decode cX2_pass 31 = .ok (.getfield 18, 3) := dk_180 0 18 (dk_at dksX2_pass_1 7 rfl rfl)
theorem dX2_pass_34 : decode cX2_pass 34 = .ok (.iload_n 1, 1) := dk_27 (dk_at dksX2_pass_1 10 rfl rfl)
theorem dX2_pass_35 : decode cX2_pass 35 = .ok (.invokevirtual 40, 3) := dk_182 0 40 (dk_at dksX2_pass_1 11 rfl rfl)
theorem dX2_pass_38 : decode cX2_pass 38 = .ok (.checkcast 44, 3) := dk_192 0 44 (dk_at dksX2_pass_1 14 rfl rfl)
theorem dX2_pass_41 : decode cX2_pass 41 = .ok (.getfield 85, 3) := dk_180 0 85 (dk_at dksX2_pass_1 17 rfl rfl)
theorem dX2_pass_44 : decode cX2_pass 44 = .ok (.invokevirtual 128, 3) := dk_182 0 128 (dk_at dksX2_pass_1 20 rfl rfl)
theorem dX2_pass_47 : decode cX2_pass 47 = .ok (.ifCond .ne 18, 3) := dk_154 0 18 (dk_at dksX2_pass_2 0 rfl rfl)
theorem dX2_pass_50 : decode cX2_pass 50 = .ok (.aload_n 0, 1) := dk_42 (dk_at dksX2_pass_2 3 rfl rfl)
theorem dX2_pass_51 : decode cX2_pass 51 = .ok (.aload_n 0, 1) := dk_42 (dk_at dksX2_pass_2 4 rfl rfl)
theorem dX2_pass_52 : decode cX2_pass 52 = .ok (.getfield 18, 3) := dk_180 0 18 (dk_at dksX2_pass_2 5 rfl rfl)
theorem dX2_pass_55 : decode cX2_pass 55 = .ok (.iload_n 1, 1) := dk_27 (dk_at dksX2_pass_2 8 rfl rfl)
theorem dX2_pass_56 : decode cX2_pass 56 = .ok (.invokevirtual 40, 3) := dk_182 0 40 (dk_at dksX2_pass_2 9 rfl rfl)
theorem dX2_pass_59 : decode cX2_pass 59 = .ok (.checkcast 44, 3) := dk_192 0 44 (dk_at dksX2_pass_2 12 rfl rfl)
theorem dX2_pass_62 : decode cX2_pass 62 = .ok (.invokevirtual 131, 3) := dk_182 0 131 (dk_at dksX2_pass_2 15 rfl rfl)
theorem dX2_pass_65 : decode cX2_pass 65 = .ok (.iinc 1 1, 3) := dk_132 1 1 (dk_at dksX2_pass_2 18 rfl rfl)
theorem dX2_pass_68 : decode cX2_pass 68 = .ok (.goto (-66), 3) := dk_167 255 190 (dk_at dksX2_pass_2 21 rfl rfl)
theorem dX2_pass_71 : decode cX2_pass 71 = .ok (.iconst 0, 1) := dk_3 (dk_at dksX2_pass_3 0 rfl rfl)
theorem dX2_pass_72 : decode cX2_pass 72 = .ok (.istore_n 1, 1) := dk_60 (dk_at dksX2_pass_3 1 rfl rfl)
theorem dX2_pass_73 : decode cX2_pass 73 = .ok (.iload_n 1, 1) := dk_27 (dk_at dksX2_pass_3 2 rfl rfl)
theorem dX2_pass_74 : decode cX2_pass 74 = .ok (.aload_n 0, 1) := dk_42 (dk_at dksX2_pass_3 3 rfl rfl)
theorem dX2_pass_75 : decode cX2_pass 75 = .ok (.getfield 22, 3) := dk_180 0 22 (dk_at dksX2_pass_3 4 rfl rfl)
theorem dX2_pass_78 : decode cX2_pass 78 = .ok (.invokevirtual 36, 3) := dk_182 0 36 (dk_at dksX2_pass_3 7 rfl rfl)
theorem dX2_pass_81 : decode cX2_pass 81 = .ok (.if_icmp .ge 24, 3) := dk_162 0 24 (dk_at dksX2_pass_3 10 rfl rfl)
theorem dX2_pass_84 : decode cX2_pass 84 = .ok (.aload_n 0, 1) := dk_42 (dk_at dksX2_pass_3 13 rfl rfl)
theorem dX2_pass_85 : decode cX2_pass 85 = .ok (.aload_n 0, 1) := dk_42 (dk_at dksX2_pass_3 14 rfl rfl)
theorem dX2_pass_86 : decode cX2_pass 86 = .ok (.getfield 22, 3) := dk_180 0 22 (dk_at dksX2_pass_3 15 rfl rfl)
theorem dX2_pass_89 : decode cX2_pass 89 = .ok (.iload_n 1, 1) := dk_27 (dk_at dksX2_pass_3 18 rfl rfl)
theorem dX2_pass_90 : decode cX2_pass 90 = .ok (.invokevirtual 40, 3) := dk_182 0 40 (dk_at dksX2_pass_3 19 rfl rfl)
theorem dX2_pass_93 : decode cX2_pass 93 = .ok (.checkcast 54, 3) := dk_192 0 54 (dk_at dksX2_pass_4 0 rfl rfl)
theorem dX2_pass_96 : decode cX2_pass 96 = .ok (.invokevirtual 135, 3) := dk_182 0 135 (dk_at dksX2_pass_4 3 rfl rfl)
theorem dX2_pass_99 : decode cX2_pass 99 = .ok (.iinc 1 1, 3) := dk_132 1 1 (dk_at dksX2_pass_4 6 rfl rfl)
theorem dX2_pass_102 : decode cX2_pass 102 = .ok (.goto (-29), 3) := dk_167 255 227 (dk_at dksX2_pass_4 9 rfl rfl)
theorem dX2_pass_105 : decode cX2_pass 105 = .ok (.iconst 0, 1) := dk_3 (dk_at dksX2_pass_4 12 rfl rfl)
theorem dX2_pass_106 : decode cX2_pass 106 = .ok (.istore_n 1, 1) := dk_60 (dk_at dksX2_pass_4 13 rfl rfl)
theorem dX2_pass_107 : decode cX2_pass 107 = .ok (.iload_n 1, 1) := dk_27 (dk_at dksX2_pass_4 14 rfl rfl)
theorem dX2_pass_108 : decode cX2_pass 108 = .ok (.aload_n 0, 1) := dk_42 (dk_at dksX2_pass_4 15 rfl rfl)
theorem dX2_pass_109 : decode cX2_pass 109 = .ok (.getfield 18, 3) := dk_180 0 18 (dk_at dksX2_pass_4 16 rfl rfl)
theorem dX2_pass_112 : decode cX2_pass 112 = .ok (.invokevirtual 36, 3) := dk_182 0 36 (dk_at dksX2_pass_4 19 rfl rfl)
theorem dX2_pass_115 : decode cX2_pass 115 = .ok (.if_icmp .ge 74, 3) := dk_162 0 74 (dk_at dksX2_pass_5 0 rfl rfl)
theorem dX2_pass_118 : decode cX2_pass 118 = .ok (.aload_n 0, 1) := dk_42 (dk_at dksX2_pass_5 3 rfl rfl)
theorem dX2_pass_119 : decode cX2_pass 119 = .ok (.getfield 18, 3) := dk_180 0 18 (dk_at dksX2_pass_5 4 rfl rfl)
theorem dX2_pass_122 : decode cX2_pass 122 = .ok (.iload_n 1, 1) := dk_27 (dk_at dksX2_pass_5 7 rfl rfl)
theorem dX2_pass_123 : decode cX2_pass 123 = .ok (.invokevirtual 40, 3) := dk_182 0 40 (dk_at dksX2_pass_5 8 rfl rfl)
theorem dX2_pass_126 : decode cX2_pass 126 = .ok (.checkcast 44, 3) := dk_192 0 44 (dk_at dksX2_pass_5 11 rfl rfl)
theorem dX2_pass_129 : decode cX2_pass 129 = .ok (.invokevirtual 59, 3) := dk_182 0 59 (dk_at dksX2_pass_5 14 rfl rfl)
theorem dX2_pass_132 : decode cX2_pass 132 = .ok (.ifCond .eq 51, 3) := dk_153 0 51 (dk_at dksX2_pass_5 17 rfl rfl)
theorem dX2_pass_135 : decode cX2_pass 135 = .ok (.aload_n 0, 1) := dk_42 (dk_at dksX2_pass_5 20 rfl rfl)
theorem dX2_pass_136 : decode cX2_pass 136 = .ok (.getfield 18, 3) := dk_180 0 18 (dk_at dksX2_pass_5 21 rfl rfl)
theorem dX2_pass_139 : decode cX2_pass 139 = .ok (.iload_n 1, 1) := dk_27 (dk_at dksX2_pass_6 0 rfl rfl)
theorem dX2_pass_140 : decode cX2_pass 140 = .ok (.invokevirtual 40, 3) := dk_182 0 40 (dk_at dksX2_pass_6 1 rfl rfl)
theorem dX2_pass_143 : decode cX2_pass 143 = .ok (.checkcast 44, 3) := dk_192 0 44 (dk_at dksX2_pass_6 4 rfl rfl)
theorem dX2_pass_146 : decode cX2_pass 146 = .ok (.iconst 0, 1) := dk_3 (dk_at dksX2_pass_6 7 rfl rfl)
theorem dX2_pass_147 : decode cX2_pass 147 = .ok (.aload_n 0, 1) := dk_42 (dk_at dksX2_pass_6 8 rfl rfl)
theorem dX2_pass_148 : decode cX2_pass 148 = .ok (.getfield 18, 3) := dk_180 0 18 (dk_at dksX2_pass_6 9 rfl rfl)
theorem dX2_pass_151 : decode cX2_pass 151 = .ok (.iload_n 1, 1) := dk_27 (dk_at dksX2_pass_6 12 rfl rfl)
theorem dX2_pass_152 : decode cX2_pass 152 = .ok (.invokevirtual 40, 3) := dk_182 0 40 (dk_at dksX2_pass_6 13 rfl rfl)
theorem dX2_pass_155 : decode cX2_pass 155 = .ok (.checkcast 44, 3) := dk_192 0 44 (dk_at dksX2_pass_6 16 rfl rfl)
theorem dX2_pass_158 : decode cX2_pass 158 = .ok (.getfield 79, 3) := dk_180 0 79 (dk_at dksX2_pass_6 19 rfl rfl)
theorem dX2_pass_161 : decode cX2_pass 161 = .ok (.aload_n 0, 1) := dk_42 (dk_at dksX2_pass_6 22 rfl rfl)
theorem dX2_pass_162 : decode cX2_pass 162 = .ok (.aload_n 0, 1) := dk_42 (dk_at dksX2_pass_6 23 rfl rfl)
theorem dX2_pass_163 : decode cX2_pass 163 = .ok (.getfield 18, 3) := dk_180 0 18 (dk_at dksX2_pass_7 0 rfl rfl)
theorem dX2_pass_166 : decode cX2_pass 166 = .ok (.iload_n 1, 1) := dk_27 (dk_at dksX2_pass_7 3 rfl rfl)
theorem dX2_pass_167 : decode cX2_pass 167 = .ok (.invokevirtual 40, 3) := dk_182 0 40 (dk_at dksX2_pass_7 4 rfl rfl)
theorem dX2_pass_170 : decode cX2_pass 170 = .ok (.checkcast 44, 3) := dk_192 0 44 (dk_at dksX2_pass_7 7 rfl rfl)
theorem dX2_pass_173 : decode cX2_pass 173 = .ok (.invokevirtual 139, 3) := dk_182 0 139 (dk_at dksX2_pass_7 10 rfl rfl)
theorem dX2_pass_176 : decode cX2_pass 176 = .ok (.isub, 1) := dk_100 (dk_at dksX2_pass_7 13 rfl rfl)
theorem dX2_pass_177 : decode cX2_pass 177 = .ok (.invokestatic 143, 3) := dk_184 0 143 (dk_at dksX2_pass_7 14 rfl rfl)
theorem dX2_pass_180 : decode cX2_pass 180 = .ok (.putfield 79, 3) := dk_181 0 79 (dk_at dksX2_pass_7 17 rfl rfl)
theorem dX2_pass_183 : decode cX2_pass 183 = .ok (.iinc 1 1, 3) := dk_132 1 1 (dk_at dksX2_pass_7 20 rfl rfl)
theorem dX2_pass_186 : decode cX2_pass 186 = .ok (.goto (-79), 3) := dk_167 255 177 (dk_at dksX2_pass_8 0 rfl rfl)
theorem dX2_pass_189 : decode cX2_pass 189 = .ok (.aload_n 0, 1) := dk_42 (dk_at dksX2_pass_8 3 rfl rfl)
theorem dX2_pass_190 : decode cX2_pass 190 = .ok (.dup, 1) := dk_89 (dk_at dksX2_pass_8 4 rfl rfl)
theorem dX2_pass_191 : decode cX2_pass 191 = .ok (.getfield 26, 3) := dk_180 0 26 (dk_at dksX2_pass_8 5 rfl rfl)
theorem dX2_pass_194 : decode cX2_pass 194 = .ok (.iconst 1, 1) := dk_4 (dk_at dksX2_pass_8 8 rfl rfl)
theorem dX2_pass_195 : decode cX2_pass 195 = .ok (.iadd, 1) := dk_96 (dk_at dksX2_pass_8 9 rfl rfl)
theorem dX2_pass_196 : decode cX2_pass 196 = .ok (.putfield 26, 3) := dk_181 0 26 (dk_at dksX2_pass_8 10 rfl rfl)
theorem dX2_pass_199 : decode cX2_pass 199 = .ok (.return_, 1) := dk_177 (dk_at dksX2_pass_8 13 rfl rfl)
abbrev cX2_obey : ByteArray := prog_4_method_10_code
def yX2_obey : MethodName := ⟨RX2, "obey", "(LLaneCrowds$Crowd;)V"⟩
def dkwX2_obey_3 : List UInt8 := [181, 0, 106, 177]
abbrev dktX2_obey_3 : List UInt8 := dkwX2_obey_3 ++ []
def dkwX2_obey_2 : List UInt8 := [43, 28, 16, 8, 100, 182, 0, 103, 62, 43, 89, 180, 0, 106, 29, 153, 0, 7, 3, 167, 0, 4, 4, 96]
abbrev dktX2_obey_2 : List UInt8 := dkwX2_obey_2 ++ dktX2_obey_3
def dkwX2_obey_1 : List UInt8 := [182, 0, 96, 167, 0, 29, 28, 16, 8, 162, 0, 14, 42, 43, 28, 7, 100, 182, 0, 100, 167, 0, 12, 42]
abbrev dktX2_obey_1 : List UInt8 := dkwX2_obey_1 ++ dktX2_obey_2
def dkwX2_obey_0 : List UInt8 := [43, 180, 0, 85, 3, 182, 0, 88, 192, 0, 91, 182, 0, 93, 61, 28, 7, 162, 0, 12, 42, 43, 28]
abbrev dktX2_obey_0 : List UInt8 := dkwX2_obey_0 ++ dktX2_obey_1
theorem dksX2_obey_0 : cX2_obey.data.toList.drop 0 = dktX2_obey_0 := by decide +kernel
theorem dksX2_obey_1 : cX2_obey.data.toList.drop 23 = dktX2_obey_1 := dk_seg dksX2_obey_0 23 rfl rfl
theorem dksX2_obey_2 : cX2_obey.data.toList.drop 47 = dktX2_obey_2 := dk_seg dksX2_obey_1 24 rfl rfl
theorem dksX2_obey_3 : cX2_obey.data.toList.drop 71 = dktX2_obey_3 := dk_seg dksX2_obey_2 24 rfl rfl
theorem dX2_obey_0 : decode cX2_obey 0 = .ok (.aload_n 1, 1) := dk_43 (dk_at dksX2_obey_0 0 rfl rfl)
theorem dX2_obey_1 : decode cX2_obey 1 = .ok (.getfield 85, 3) := dk_180 0 85 (dk_at dksX2_obey_0 1 rfl rfl)
theorem dX2_obey_4 : decode cX2_obey 4 = .ok (.iconst 0, 1) := dk_3 (dk_at dksX2_obey_0 4 rfl rfl)
theorem dX2_obey_5 : decode cX2_obey 5 = .ok (.invokevirtual 88, 3) := dk_182 0 88 (dk_at dksX2_obey_0 5 rfl rfl)
theorem dX2_obey_8 : decode cX2_obey 8 = .ok (.checkcast 91, 3) := dk_192 0 91 (dk_at dksX2_obey_0 8 rfl rfl)
theorem dX2_obey_11 : decode cX2_obey 11 = .ok (.invokevirtual 93, 3) := dk_182 0 93 (dk_at dksX2_obey_0 11 rfl rfl)
theorem dX2_obey_14 : decode cX2_obey 14 = .ok (.istore_n 2, 1) := dk_61 (dk_at dksX2_obey_0 14 rfl rfl)
theorem dX2_obey_15 : decode cX2_obey 15 = .ok (.iload_n 2, 1) := dk_28 (dk_at dksX2_obey_0 15 rfl rfl)
theorem dX2_obey_16 : decode cX2_obey 16 = .ok (.iconst 4, 1) := dk_7 (dk_at dksX2_obey_0 16 rfl rfl)
theorem dX2_obey_17 : decode cX2_obey 17 = .ok (.if_icmp .ge 12, 3) := dk_162 0 12 (dk_at dksX2_obey_0 17 rfl rfl)
theorem dX2_obey_20 : decode cX2_obey 20 = .ok (.aload_n 0, 1) := dk_42 (dk_at dksX2_obey_0 20 rfl rfl)
theorem dX2_obey_21 : decode cX2_obey 21 = .ok (.aload_n 1, 1) := dk_43 (dk_at dksX2_obey_0 21 rfl rfl)
theorem dX2_obey_22 : decode cX2_obey 22 = .ok (.iload_n 2, 1) := dk_28 (dk_at dksX2_obey_0 22 rfl rfl)
theorem dX2_obey_23 : decode cX2_obey 23 = .ok (.invokevirtual 96, 3) := dk_182 0 96 (dk_at dksX2_obey_1 0 rfl rfl)
theorem dX2_obey_26 : decode cX2_obey 26 = .ok (.goto 29, 3) := dk_167 0 29 (dk_at dksX2_obey_1 3 rfl rfl)
theorem dX2_obey_29 : decode cX2_obey 29 = .ok (.iload_n 2, 1) := dk_28 (dk_at dksX2_obey_1 6 rfl rfl)
theorem dX2_obey_30 : decode cX2_obey 30 = .ok (.bipush 8, 2) := dk_16 8 (dk_at dksX2_obey_1 7 rfl rfl)
theorem dX2_obey_32 : decode cX2_obey 32 = .ok (.if_icmp .ge 14, 3) := dk_162 0 14 (dk_at dksX2_obey_1 9 rfl rfl)
theorem dX2_obey_35 : decode cX2_obey 35 = .ok (.aload_n 0, 1) := dk_42 (dk_at dksX2_obey_1 12 rfl rfl)
theorem dX2_obey_36 : decode cX2_obey 36 = .ok (.aload_n 1, 1) := dk_43 (dk_at dksX2_obey_1 13 rfl rfl)
theorem dX2_obey_37 : decode cX2_obey 37 = .ok (.iload_n 2, 1) := dk_28 (dk_at dksX2_obey_1 14 rfl rfl)
theorem dX2_obey_38 : decode cX2_obey 38 = .ok (.iconst 4, 1) := dk_7 (dk_at dksX2_obey_1 15 rfl rfl)
theorem dX2_obey_39 : decode cX2_obey 39 = .ok (.isub, 1) := dk_100 (dk_at dksX2_obey_1 16 rfl rfl)
theorem dX2_obey_40 : decode cX2_obey 40 = .ok (.invokevirtual 100, 3) := dk_182 0 100 (dk_at dksX2_obey_1 17 rfl rfl)
theorem dX2_obey_43 : decode cX2_obey 43 = .ok (.goto 12, 3) := dk_167 0 12 (dk_at dksX2_obey_1 20 rfl rfl)
theorem dX2_obey_46 : decode cX2_obey 46 = .ok (.aload_n 0, 1) := dk_42 (dk_at dksX2_obey_1 23 rfl rfl)
theorem dX2_obey_47 : decode cX2_obey 47 = .ok (.aload_n 1, 1) := dk_43 (dk_at dksX2_obey_2 0 rfl rfl)
theorem dX2_obey_48 : decode cX2_obey 48 = .ok (.iload_n 2, 1) := dk_28 (dk_at dksX2_obey_2 1 rfl rfl)
theorem dX2_obey_49 : decode cX2_obey 49 = .ok (.bipush 8, 2) := dk_16 8 (dk_at dksX2_obey_2 2 rfl rfl)
theorem dX2_obey_51 : decode cX2_obey 51 = .ok (.isub, 1) := dk_100 (dk_at dksX2_obey_2 4 rfl rfl)
theorem dX2_obey_52 : decode cX2_obey 52 = .ok (.invokevirtual 103, 3) := dk_182 0 103 (dk_at dksX2_obey_2 5 rfl rfl)
theorem dX2_obey_55 : decode cX2_obey 55 = .ok (.istore_n 3, 1) := dk_62 (dk_at dksX2_obey_2 8 rfl rfl)
theorem dX2_obey_56 : decode cX2_obey 56 = .ok (.aload_n 1, 1) := dk_43 (dk_at dksX2_obey_2 9 rfl rfl)
theorem dX2_obey_57 : decode cX2_obey 57 = .ok (.dup, 1) := dk_89 (dk_at dksX2_obey_2 10 rfl rfl)
theorem dX2_obey_58 : decode cX2_obey 58 = .ok (.getfield 106, 3) := dk_180 0 106 (dk_at dksX2_obey_2 11 rfl rfl)
theorem dX2_obey_61 : decode cX2_obey 61 = .ok (.iload_n 3, 1) := dk_29 (dk_at dksX2_obey_2 14 rfl rfl)
theorem dX2_obey_62 : decode cX2_obey 62 = .ok (.ifCond .eq 7, 3) := dk_153 0 7 (dk_at dksX2_obey_2 15 rfl rfl)
theorem dX2_obey_65 : decode cX2_obey 65 = .ok (.iconst 0, 1) := dk_3 (dk_at dksX2_obey_2 18 rfl rfl)
theorem dX2_obey_66 : decode cX2_obey 66 = .ok (.goto 4, 3) := dk_167 0 4 (dk_at dksX2_obey_2 19 rfl rfl)
theorem dX2_obey_69 : decode cX2_obey 69 = .ok (.iconst 1, 1) := dk_4 (dk_at dksX2_obey_2 22 rfl rfl)
theorem dX2_obey_70 : decode cX2_obey 70 = .ok (.iadd, 1) := dk_96 (dk_at dksX2_obey_2 23 rfl rfl)
theorem dX2_obey_71 : decode cX2_obey 71 = .ok (.putfield 106, 3) := dk_181 0 106 (dk_at dksX2_obey_3 0 rfl rfl)
theorem dX2_obey_74 : decode cX2_obey 74 = .ok (.return_, 1) := dk_177 (dk_at dksX2_obey_3 3 rfl rfl)
abbrev cX2_goes : ByteArray := prog_4_method_6_code
def yX2_goes : MethodName := ⟨RX2, "goes", "(LLaneCrowds$Crowd;I)Z"⟩
def dkwX2_goes_2 : List UInt8 := [181, 0, 63, 4, 172]
abbrev dktX2_goes_2 : List UInt8 := dkwX2_goes_2 ++ []
def dkwX2_goes_1 : List UInt8 := [46, 158, 0, 19, 42, 43, 29, 29, 28, 184, 0, 67, 182, 0, 75, 154, 0, 5, 3, 172, 43, 29]
abbrev dktX2_goes_1 : List UInt8 := dkwX2_goes_1 ++ dktX2_goes_2
def dkwX2_goes_0 : List UInt8 := [43, 180, 0, 63, 28, 184, 0, 67, 62, 42, 29, 182, 0, 71, 154, 0, 5, 3, 172, 42, 180, 0, 9, 29]
abbrev dktX2_goes_0 : List UInt8 := dkwX2_goes_0 ++ dktX2_goes_1
theorem dksX2_goes_0 : cX2_goes.data.toList.drop 0 = dktX2_goes_0 := by decide +kernel
theorem dksX2_goes_1 : cX2_goes.data.toList.drop 24 = dktX2_goes_1 := dk_seg dksX2_goes_0 24 rfl rfl
theorem dksX2_goes_2 : cX2_goes.data.toList.drop 46 = dktX2_goes_2 := dk_seg dksX2_goes_1 22 rfl rfl
theorem dX2_goes_0 : decode cX2_goes 0 = .ok (.aload_n 1, 1) := dk_43 (dk_at dksX2_goes_0 0 rfl rfl)
theorem dX2_goes_1 : decode cX2_goes 1 = .ok (.getfield 63, 3) := dk_180 0 63 (dk_at dksX2_goes_0 1 rfl rfl)
theorem dX2_goes_4 : decode cX2_goes 4 = .ok (.iload_n 2, 1) := dk_28 (dk_at dksX2_goes_0 4 rfl rfl)
theorem dX2_goes_5 : decode cX2_goes 5 = .ok (.invokestatic 67, 3) := dk_184 0 67 (dk_at dksX2_goes_0 5 rfl rfl)
theorem dX2_goes_8 : decode cX2_goes 8 = .ok (.istore_n 3, 1) := dk_62 (dk_at dksX2_goes_0 8 rfl rfl)
theorem dX2_goes_9 : decode cX2_goes 9 = .ok (.aload_n 0, 1) := dk_42 (dk_at dksX2_goes_0 9 rfl rfl)
theorem dX2_goes_10 : decode cX2_goes 10 = .ok (.iload_n 3, 1) := dk_29 (dk_at dksX2_goes_0 10 rfl rfl)
theorem dX2_goes_11 : decode cX2_goes 11 = .ok (.invokevirtual 71, 3) := dk_182 0 71 (dk_at dksX2_goes_0 11 rfl rfl)
theorem dX2_goes_14 : decode cX2_goes 14 = .ok (.ifCond .ne 5, 3) := dk_154 0 5 (dk_at dksX2_goes_0 14 rfl rfl)
theorem dX2_goes_17 : decode cX2_goes 17 = .ok (.iconst 0, 1) := dk_3 (dk_at dksX2_goes_0 17 rfl rfl)
theorem dX2_goes_18 : decode cX2_goes 18 = .ok (.ireturn, 1) := dk_172 (dk_at dksX2_goes_0 18 rfl rfl)
theorem dX2_goes_19 : decode cX2_goes 19 = .ok (.aload_n 0, 1) := dk_42 (dk_at dksX2_goes_0 19 rfl rfl)
theorem dX2_goes_20 : decode cX2_goes 20 = .ok (.getfield 9, 3) := dk_180 0 9 (dk_at dksX2_goes_0 20 rfl rfl)
theorem dX2_goes_23 : decode cX2_goes 23 = .ok (.iload_n 3, 1) := dk_29 (dk_at dksX2_goes_0 23 rfl rfl)
theorem dX2_goes_24 : decode cX2_goes 24 = .ok (.iaload, 1) := dk_46 (dk_at dksX2_goes_1 0 rfl rfl)
theorem dX2_goes_25 : decode cX2_goes 25 = .ok (.ifCond .le 19, 3) := dk_158 0 19 (dk_at dksX2_goes_1 1 rfl rfl)
theorem dX2_goes_28 : decode cX2_goes 28 = .ok (.aload_n 0, 1) := dk_42 (dk_at dksX2_goes_1 4 rfl rfl)
theorem dX2_goes_29 : decode cX2_goes 29 = .ok (.aload_n 1, 1) := dk_43 (dk_at dksX2_goes_1 5 rfl rfl)
theorem dX2_goes_30 : decode cX2_goes 30 = .ok (.iload_n 3, 1) := dk_29 (dk_at dksX2_goes_1 6 rfl rfl)
theorem dX2_goes_31 : decode cX2_goes 31 = .ok (.iload_n 3, 1) := dk_29 (dk_at dksX2_goes_1 7 rfl rfl)
theorem dX2_goes_32 : decode cX2_goes 32 = .ok (.iload_n 2, 1) := dk_28 (dk_at dksX2_goes_1 8 rfl rfl)
theorem dX2_goes_33 : decode cX2_goes 33 = .ok (.invokestatic 67, 3) := dk_184 0 67 (dk_at dksX2_goes_1 9 rfl rfl)
theorem dX2_goes_36 : decode cX2_goes 36 = .ok (.invokevirtual 75, 3) := dk_182 0 75 (dk_at dksX2_goes_1 12 rfl rfl)
theorem dX2_goes_39 : decode cX2_goes 39 = .ok (.ifCond .ne 5, 3) := dk_154 0 5 (dk_at dksX2_goes_1 15 rfl rfl)
theorem dX2_goes_42 : decode cX2_goes 42 = .ok (.iconst 0, 1) := dk_3 (dk_at dksX2_goes_1 18 rfl rfl)
theorem dX2_goes_43 : decode cX2_goes 43 = .ok (.ireturn, 1) := dk_172 (dk_at dksX2_goes_1 19 rfl rfl)
theorem dX2_goes_44 : decode cX2_goes 44 = .ok (.aload_n 1, 1) := dk_43 (dk_at dksX2_goes_1 20 rfl rfl)
theorem dX2_goes_45 : decode cX2_goes 45 = .ok (.iload_n 3, 1) := dk_29 (dk_at dksX2_goes_1 21 rfl rfl)
theorem dX2_goes_46 : decode cX2_goes 46 = .ok (.putfield 63, 3) := dk_181 0 63 (dk_at dksX2_goes_2 0 rfl rfl)
theorem dX2_goes_49 : decode cX2_goes 49 = .ok (.iconst 1, 1) := dk_4 (dk_at dksX2_goes_2 3 rfl rfl)
theorem dX2_goes_50 : decode cX2_goes 50 = .ok (.ireturn, 1) := dk_172 (dk_at dksX2_goes_2 4 rfl rfl)
abbrev cX2_pushes : ByteArray := prog_4_method_7_code
def yX2_pushes : MethodName := ⟨RX2, "pushes", "(LLaneCrowds$Crowd;II)Z"⟩
def dkwX2_pushes_2 : List UInt8 := [3, 172, 42, 180, 0, 9, 29, 92, 46, 21, 4, 96, 79, 42, 180, 0, 9, 28, 3, 79, 4, 172]
abbrev dktX2_pushes_2 : List UInt8 := dkwX2_pushes_2 ++ []
def dkwX2_pushes_1 : List UInt8 := [153, 0, 24, 42, 180, 0, 9, 29, 46, 21, 4, 96, 6, 163, 0, 11, 42, 29, 182, 0, 82, 153, 0, 5]
abbrev dktX2_pushes_1 : List UInt8 := dkwX2_pushes_1 ++ dktX2_pushes_2
def dkwX2_pushes_0 : List UInt8 := [42, 180, 0, 9, 28, 46, 54, 4, 43, 180, 0, 79, 5, 21, 4, 104, 161, 0, 32, 42, 29, 182, 0, 71]
abbrev dktX2_pushes_0 : List UInt8 := dkwX2_pushes_0 ++ dktX2_pushes_1
theorem dksX2_pushes_0 : cX2_pushes.data.toList.drop 0 = dktX2_pushes_0 := by decide +kernel
theorem dksX2_pushes_1 : cX2_pushes.data.toList.drop 24 = dktX2_pushes_1 := dk_seg dksX2_pushes_0 24 rfl rfl
theorem dksX2_pushes_2 : cX2_pushes.data.toList.drop 48 = dktX2_pushes_2 := dk_seg dksX2_pushes_1 24 rfl rfl
theorem dX2_pushes_0 : decode cX2_pushes 0 = .ok (.aload_n 0, 1) := dk_42 (dk_at dksX2_pushes_0 0 rfl rfl)
theorem dX2_pushes_1 : decode cX2_pushes 1 = .ok (.getfield 9, 3) := dk_180 0 9 (dk_at dksX2_pushes_0 1 rfl rfl)
theorem dX2_pushes_4 : decode cX2_pushes 4 = .ok (.iload_n 2, 1) := dk_28 (dk_at dksX2_pushes_0 4 rfl rfl)
theorem dX2_pushes_5 : decode cX2_pushes 5 = .ok (.iaload, 1) := dk_46 (dk_at dksX2_pushes_0 5 rfl rfl)
theorem dX2_pushes_6 : decode cX2_pushes 6 = .ok (.istore 4, 2) := dk_54 4 (dk_at dksX2_pushes_0 6 rfl rfl)
theorem dX2_pushes_8 : decode cX2_pushes 8 = .ok (.aload_n 1, 1) := dk_43 (dk_at dksX2_pushes_0 8 rfl rfl)
theorem dX2_pushes_9 : decode cX2_pushes 9 = .ok (.getfield 79, 3) := dk_180 0 79 (dk_at dksX2_pushes_0 9 rfl rfl)
theorem dX2_pushes_12 : decode cX2_pushes 12 = .ok (.iconst 2, 1) := dk_5 (dk_at dksX2_pushes_0 12 rfl rfl)
theorem dX2_pushes_13 : decode cX2_pushes 13 = .ok (.iload 4, 2) := dk_21 4 (dk_at dksX2_pushes_0 13 rfl rfl)
theorem dX2_pushes_15 : decode cX2_pushes 15 = .ok (.imul, 1) := dk_104 (dk_at dksX2_pushes_0 15 rfl rfl)
theorem dX2_pushes_16 : decode cX2_pushes 16 = .ok (.if_icmp .lt 32, 3) := dk_161 0 32 (dk_at dksX2_pushes_0 16 rfl rfl)
theorem dX2_pushes_19 : decode cX2_pushes 19 = .ok (.aload_n 0, 1) := dk_42 (dk_at dksX2_pushes_0 19 rfl rfl)
theorem dX2_pushes_20 : decode cX2_pushes 20 = .ok (.iload_n 3, 1) := dk_29 (dk_at dksX2_pushes_0 20 rfl rfl)
theorem dX2_pushes_21 : decode cX2_pushes 21 = .ok (.invokevirtual 71, 3) := dk_182 0 71 (dk_at dksX2_pushes_0 21 rfl rfl)
theorem dX2_pushes_24 : decode cX2_pushes 24 = .ok (.ifCond .eq 24, 3) := dk_153 0 24 (dk_at dksX2_pushes_1 0 rfl rfl)
theorem dX2_pushes_27 : decode cX2_pushes 27 = .ok (.aload_n 0, 1) := dk_42 (dk_at dksX2_pushes_1 3 rfl rfl)
theorem dX2_pushes_28 : decode cX2_pushes 28 = .ok (.getfield 9, 3) := dk_180 0 9 (dk_at dksX2_pushes_1 4 rfl rfl)
theorem dX2_pushes_31 : decode cX2_pushes 31 = .ok (.iload_n 3, 1) := dk_29 (dk_at dksX2_pushes_1 7 rfl rfl)
theorem dX2_pushes_32 : decode cX2_pushes 32 = .ok (.iaload, 1) := dk_46 (dk_at dksX2_pushes_1 8 rfl rfl)
theorem dX2_pushes_33 : decode cX2_pushes 33 = .ok (.iload 4, 2) := dk_21 4 (dk_at dksX2_pushes_1 9 rfl rfl)
theorem dX2_pushes_35 : decode cX2_pushes 35 = .ok (.iadd, 1) := dk_96 (dk_at dksX2_pushes_1 11 rfl rfl)
theorem dX2_pushes_36 : decode cX2_pushes 36 = .ok (.iconst 3, 1) := dk_6 (dk_at dksX2_pushes_1 12 rfl rfl)
theorem dX2_pushes_37 : decode cX2_pushes 37 = .ok (.if_icmp .gt 11, 3) := dk_163 0 11 (dk_at dksX2_pushes_1 13 rfl rfl)
theorem dX2_pushes_40 : decode cX2_pushes 40 = .ok (.aload_n 0, 1) := dk_42 (dk_at dksX2_pushes_1 16 rfl rfl)
theorem dX2_pushes_41 : decode cX2_pushes 41 = .ok (.iload_n 3, 1) := dk_29 (dk_at dksX2_pushes_1 17 rfl rfl)
theorem dX2_pushes_42 : decode cX2_pushes 42 = .ok (.invokevirtual 82, 3) := dk_182 0 82 (dk_at dksX2_pushes_1 18 rfl rfl)
theorem dX2_pushes_45 : decode cX2_pushes 45 = .ok (.ifCond .eq 5, 3) := dk_153 0 5 (dk_at dksX2_pushes_1 21 rfl rfl)
theorem dX2_pushes_48 : decode cX2_pushes 48 = .ok (.iconst 0, 1) := dk_3 (dk_at dksX2_pushes_2 0 rfl rfl)
theorem dX2_pushes_49 : decode cX2_pushes 49 = .ok (.ireturn, 1) := dk_172 (dk_at dksX2_pushes_2 1 rfl rfl)
theorem dX2_pushes_50 : decode cX2_pushes 50 = .ok (.aload_n 0, 1) := dk_42 (dk_at dksX2_pushes_2 2 rfl rfl)
theorem dX2_pushes_51 : decode cX2_pushes 51 = .ok (.getfield 9, 3) := dk_180 0 9 (dk_at dksX2_pushes_2 3 rfl rfl)
theorem dX2_pushes_54 : decode cX2_pushes 54 = .ok (.iload_n 3, 1) := dk_29 (dk_at dksX2_pushes_2 6 rfl rfl)
theorem dX2_pushes_55 : decode cX2_pushes 55 = .ok (.dup2, 1) := dk_92 (dk_at dksX2_pushes_2 7 rfl rfl)
theorem dX2_pushes_56 : decode cX2_pushes 56 = .ok (.iaload, 1) := dk_46 (dk_at dksX2_pushes_2 8 rfl rfl)
theorem dX2_pushes_57 : decode cX2_pushes 57 = .ok (.iload 4, 2) := dk_21 4 (dk_at dksX2_pushes_2 9 rfl rfl)
theorem dX2_pushes_59 : decode cX2_pushes 59 = .ok (.iadd, 1) := dk_96 (dk_at dksX2_pushes_2 11 rfl rfl)
theorem dX2_pushes_60 : decode cX2_pushes 60 = .ok (.iastore, 1) := dk_79 (dk_at dksX2_pushes_2 12 rfl rfl)
theorem dX2_pushes_61 : decode cX2_pushes 61 = .ok (.aload_n 0, 1) := dk_42 (dk_at dksX2_pushes_2 13 rfl rfl)
theorem dX2_pushes_62 : decode cX2_pushes 62 = .ok (.getfield 9, 3) := dk_180 0 9 (dk_at dksX2_pushes_2 14 rfl rfl)
theorem dX2_pushes_65 : decode cX2_pushes 65 = .ok (.iload_n 2, 1) := dk_28 (dk_at dksX2_pushes_2 17 rfl rfl)
theorem dX2_pushes_66 : decode cX2_pushes 66 = .ok (.iconst 0, 1) := dk_3 (dk_at dksX2_pushes_2 18 rfl rfl)
theorem dX2_pushes_67 : decode cX2_pushes 67 = .ok (.iastore, 1) := dk_79 (dk_at dksX2_pushes_2 19 rfl rfl)
theorem dX2_pushes_68 : decode cX2_pushes 68 = .ok (.iconst 1, 1) := dk_4 (dk_at dksX2_pushes_2 20 rfl rfl)
theorem dX2_pushes_69 : decode cX2_pushes 69 = .ok (.ireturn, 1) := dk_172 (dk_at dksX2_pushes_2 21 rfl rfl)
abbrev cX2_raises : ByteArray := prog_4_method_8_code
def yX2_raises : MethodName := ⟨RX2, "raises", "(LLaneCrowds$Crowd;I)Z"⟩
def dkwX2_raises_2 : List UInt8 := [180, 0, 9, 29, 92, 46, 4, 96, 79, 4, 172]
abbrev dktX2_raises_2 : List UInt8 := dkwX2_raises_2 ++ []
def dkwX2_raises_1 : List UInt8 := [153, 0, 21, 42, 180, 0, 9, 29, 46, 6, 159, 0, 11, 42, 29, 182, 0, 82, 153, 0, 5, 3, 172, 42]
abbrev dktX2_raises_1 : List UInt8 := dkwX2_raises_1 ++ dktX2_raises_2
def dkwX2_raises_0 : List UInt8 := [43, 180, 0, 63, 28, 184, 0, 67, 62, 43, 180, 0, 79, 6, 161, 0, 29, 42, 29, 182, 0, 71]
abbrev dktX2_raises_0 : List UInt8 := dkwX2_raises_0 ++ dktX2_raises_1
theorem dksX2_raises_0 : cX2_raises.data.toList.drop 0 = dktX2_raises_0 := by decide +kernel
theorem dksX2_raises_1 : cX2_raises.data.toList.drop 22 = dktX2_raises_1 := dk_seg dksX2_raises_0 22 rfl rfl
theorem dksX2_raises_2 : cX2_raises.data.toList.drop 46 = dktX2_raises_2 := dk_seg dksX2_raises_1 24 rfl rfl
theorem dX2_raises_0 : decode cX2_raises 0 = .ok (.aload_n 1, 1) := dk_43 (dk_at dksX2_raises_0 0 rfl rfl)
theorem dX2_raises_1 : decode cX2_raises 1 = .ok (.getfield 63, 3) := dk_180 0 63 (dk_at dksX2_raises_0 1 rfl rfl)
theorem dX2_raises_4 : decode cX2_raises 4 = .ok (.iload_n 2, 1) := dk_28 (dk_at dksX2_raises_0 4 rfl rfl)
theorem dX2_raises_5 : decode cX2_raises 5 = .ok (.invokestatic 67, 3) := dk_184 0 67 (dk_at dksX2_raises_0 5 rfl rfl)
theorem dX2_raises_8 : decode cX2_raises 8 = .ok (.istore_n 3, 1) := dk_62 (dk_at dksX2_raises_0 8 rfl rfl)
theorem dX2_raises_9 : decode cX2_raises 9 = .ok (.aload_n 1, 1) := dk_43 (dk_at dksX2_raises_0 9 rfl rfl)
theorem dX2_raises_10 : decode cX2_raises 10 = .ok (.getfield 79, 3) := dk_180 0 79 (dk_at dksX2_raises_0 10 rfl rfl)
theorem dX2_raises_13 : decode cX2_raises 13 = .ok (.iconst 3, 1) := dk_6 (dk_at dksX2_raises_0 13 rfl rfl)
theorem dX2_raises_14 : decode cX2_raises 14 = .ok (.if_icmp .lt 29, 3) := dk_161 0 29 (dk_at dksX2_raises_0 14 rfl rfl)
theorem dX2_raises_17 : decode cX2_raises 17 = .ok (.aload_n 0, 1) := dk_42 (dk_at dksX2_raises_0 17 rfl rfl)
theorem dX2_raises_18 : decode cX2_raises 18 = .ok (.iload_n 3, 1) := dk_29 (dk_at dksX2_raises_0 18 rfl rfl)
theorem dX2_raises_19 : decode cX2_raises 19 = .ok (.invokevirtual 71, 3) := dk_182 0 71 (dk_at dksX2_raises_0 19 rfl rfl)
theorem dX2_raises_22 : decode cX2_raises 22 = .ok (.ifCond .eq 21, 3) := dk_153 0 21 (dk_at dksX2_raises_1 0 rfl rfl)
theorem dX2_raises_25 : decode cX2_raises 25 = .ok (.aload_n 0, 1) := dk_42 (dk_at dksX2_raises_1 3 rfl rfl)
theorem dX2_raises_26 : decode cX2_raises 26 = .ok (.getfield 9, 3) := dk_180 0 9 (dk_at dksX2_raises_1 4 rfl rfl)
theorem dX2_raises_29 : decode cX2_raises 29 = .ok (.iload_n 3, 1) := dk_29 (dk_at dksX2_raises_1 7 rfl rfl)
theorem dX2_raises_30 : decode cX2_raises 30 = .ok (.iaload, 1) := dk_46 (dk_at dksX2_raises_1 8 rfl rfl)
theorem dX2_raises_31 : decode cX2_raises 31 = .ok (.iconst 3, 1) := dk_6 (dk_at dksX2_raises_1 9 rfl rfl)
theorem dX2_raises_32 : decode cX2_raises 32 = .ok (.if_icmp .eq 11, 3) := dk_159 0 11 (dk_at dksX2_raises_1 10 rfl rfl)
theorem dX2_raises_35 : decode cX2_raises 35 = .ok (.aload_n 0, 1) := dk_42 (dk_at dksX2_raises_1 13 rfl rfl)
theorem dX2_raises_36 : decode cX2_raises 36 = .ok (.iload_n 3, 1) := dk_29 (dk_at dksX2_raises_1 14 rfl rfl)
theorem dX2_raises_37 : decode cX2_raises 37 = .ok (.invokevirtual 82, 3) := dk_182 0 82 (dk_at dksX2_raises_1 15 rfl rfl)
theorem dX2_raises_40 : decode cX2_raises 40 = .ok (.ifCond .eq 5, 3) := dk_153 0 5 (dk_at dksX2_raises_1 18 rfl rfl)
theorem dX2_raises_43 : decode cX2_raises 43 = .ok (.iconst 0, 1) := dk_3 (dk_at dksX2_raises_1 21 rfl rfl)
theorem dX2_raises_44 : decode cX2_raises 44 = .ok (.ireturn, 1) := dk_172 (dk_at dksX2_raises_1 22 rfl rfl)
theorem dX2_raises_45 : decode cX2_raises 45 = .ok (.aload_n 0, 1) := dk_42 (dk_at dksX2_raises_1 23 rfl rfl)
theorem dX2_raises_46 : decode cX2_raises 46 = .ok (.getfield 9, 3) := dk_180 0 9 (dk_at dksX2_raises_2 0 rfl rfl)
theorem dX2_raises_49 : decode cX2_raises 49 = .ok (.iload_n 3, 1) := dk_29 (dk_at dksX2_raises_2 3 rfl rfl)
theorem dX2_raises_50 : decode cX2_raises 50 = .ok (.dup2, 1) := dk_92 (dk_at dksX2_raises_2 4 rfl rfl)
theorem dX2_raises_51 : decode cX2_raises 51 = .ok (.iaload, 1) := dk_46 (dk_at dksX2_raises_2 5 rfl rfl)
theorem dX2_raises_52 : decode cX2_raises 52 = .ok (.iconst 1, 1) := dk_4 (dk_at dksX2_raises_2 6 rfl rfl)
theorem dX2_raises_53 : decode cX2_raises 53 = .ok (.iadd, 1) := dk_96 (dk_at dksX2_raises_2 7 rfl rfl)
theorem dX2_raises_54 : decode cX2_raises 54 = .ok (.iastore, 1) := dk_79 (dk_at dksX2_raises_2 8 rfl rfl)
theorem dX2_raises_55 : decode cX2_raises 55 = .ok (.iconst 1, 1) := dk_4 (dk_at dksX2_raises_2 9 rfl rfl)
theorem dX2_raises_56 : decode cX2_raises 56 = .ok (.ireturn, 1) := dk_172 (dk_at dksX2_raises_2 10 rfl rfl)
abbrev cX2_pullsDown : ByteArray := prog_4_method_9_code
def yX2_pullsDown : MethodName := ⟨RX2, "pullsDown", "(LLaneCrowds$Crowd;I)Z"⟩
def dkwX2_pullsDown_1 : List UInt8 := [154, 0, 5, 3, 172, 42, 180, 0, 9, 29, 92, 46, 4, 100, 79, 4, 172]
abbrev dktX2_pullsDown_1 : List UInt8 := dkwX2_pullsDown_1 ++ []
def dkwX2_pullsDown_0 : List UInt8 := [43, 180, 0, 63, 28, 184, 0, 67, 62, 42, 29, 182, 0, 71, 153, 0, 12, 42, 180, 0, 9, 29, 46]
abbrev dktX2_pullsDown_0 : List UInt8 := dkwX2_pullsDown_0 ++ dktX2_pullsDown_1
theorem dksX2_pullsDown_0 : cX2_pullsDown.data.toList.drop 0 = dktX2_pullsDown_0 := by decide +kernel
theorem dksX2_pullsDown_1 : cX2_pullsDown.data.toList.drop 23 = dktX2_pullsDown_1 := dk_seg dksX2_pullsDown_0 23 rfl rfl
theorem dX2_pullsDown_0 : decode cX2_pullsDown 0 = .ok (.aload_n 1, 1) := dk_43 (dk_at dksX2_pullsDown_0 0 rfl rfl)
theorem dX2_pullsDown_1 : decode cX2_pullsDown 1 = .ok (.getfield 63, 3) := dk_180 0 63 (dk_at dksX2_pullsDown_0 1 rfl rfl)
theorem dX2_pullsDown_4 : decode cX2_pullsDown 4 = .ok (.iload_n 2, 1) := dk_28 (dk_at dksX2_pullsDown_0 4 rfl rfl)
theorem dX2_pullsDown_5 : decode cX2_pullsDown 5 = .ok (.invokestatic 67, 3) := dk_184 0 67 (dk_at dksX2_pullsDown_0 5 rfl rfl)
theorem dX2_pullsDown_8 : decode cX2_pullsDown 8 = .ok (.istore_n 3, 1) := dk_62 (dk_at dksX2_pullsDown_0 8 rfl rfl)
theorem dX2_pullsDown_9 : decode cX2_pullsDown 9 = .ok (.aload_n 0, 1) := dk_42 (dk_at dksX2_pullsDown_0 9 rfl rfl)
theorem dX2_pullsDown_10 : decode cX2_pullsDown 10 = .ok (.iload_n 3, 1) := dk_29 (dk_at dksX2_pullsDown_0 10 rfl rfl)
theorem dX2_pullsDown_11 : decode cX2_pullsDown 11 = .ok (.invokevirtual 71, 3) := dk_182 0 71 (dk_at dksX2_pullsDown_0 11 rfl rfl)
theorem dX2_pullsDown_14 : decode cX2_pullsDown 14 = .ok (.ifCond .eq 12, 3) := dk_153 0 12 (dk_at dksX2_pullsDown_0 14 rfl rfl)
theorem dX2_pullsDown_17 : decode cX2_pullsDown 17 = .ok (.aload_n 0, 1) := dk_42 (dk_at dksX2_pullsDown_0 17 rfl rfl)
theorem dX2_pullsDown_18 : decode cX2_pullsDown 18 = .ok (.getfield 9, 3) := dk_180 0 9 (dk_at dksX2_pullsDown_0 18 rfl rfl)
theorem dX2_pullsDown_21 : decode cX2_pullsDown 21 = .ok (.iload_n 3, 1) := dk_29 (dk_at dksX2_pullsDown_0 21 rfl rfl)
theorem dX2_pullsDown_22 : decode cX2_pullsDown 22 = .ok (.iaload, 1) := dk_46 (dk_at dksX2_pullsDown_0 22 rfl rfl)
theorem dX2_pullsDown_23 : decode cX2_pullsDown 23 = .ok (.ifCond .ne 5, 3) := dk_154 0 5 (dk_at dksX2_pullsDown_1 0 rfl rfl)
theorem dX2_pullsDown_26 : decode cX2_pullsDown 26 = .ok (.iconst 0, 1) := dk_3 (dk_at dksX2_pullsDown_1 3 rfl rfl)
theorem dX2_pullsDown_27 : decode cX2_pullsDown 27 = .ok (.ireturn, 1) := dk_172 (dk_at dksX2_pullsDown_1 4 rfl rfl)
theorem dX2_pullsDown_28 : decode cX2_pullsDown 28 = .ok (.aload_n 0, 1) := dk_42 (dk_at dksX2_pullsDown_1 5 rfl rfl)
theorem dX2_pullsDown_29 : decode cX2_pullsDown 29 = .ok (.getfield 9, 3) := dk_180 0 9 (dk_at dksX2_pullsDown_1 6 rfl rfl)
theorem dX2_pullsDown_32 : decode cX2_pullsDown 32 = .ok (.iload_n 3, 1) := dk_29 (dk_at dksX2_pullsDown_1 9 rfl rfl)
theorem dX2_pullsDown_33 : decode cX2_pullsDown 33 = .ok (.dup2, 1) := dk_92 (dk_at dksX2_pullsDown_1 10 rfl rfl)
theorem dX2_pullsDown_34 : decode cX2_pullsDown 34 = .ok (.iaload, 1) := dk_46 (dk_at dksX2_pullsDown_1 11 rfl rfl)
theorem dX2_pullsDown_35 : decode cX2_pullsDown 35 = .ok (.iconst 1, 1) := dk_4 (dk_at dksX2_pullsDown_1 12 rfl rfl)
theorem dX2_pullsDown_36 : decode cX2_pullsDown 36 = .ok (.isub, 1) := dk_100 (dk_at dksX2_pullsDown_1 13 rfl rfl)
theorem dX2_pullsDown_37 : decode cX2_pullsDown 37 = .ok (.iastore, 1) := dk_79 (dk_at dksX2_pullsDown_1 14 rfl rfl)
theorem dX2_pullsDown_38 : decode cX2_pullsDown 38 = .ok (.iconst 1, 1) := dk_4 (dk_at dksX2_pullsDown_1 15 rfl rfl)
theorem dX2_pullsDown_39 : decode cX2_pullsDown 39 = .ok (.ireturn, 1) := dk_172 (dk_at dksX2_pullsDown_1 16 rfl rfl)
abbrev cX2_walk : ByteArray := prog_4_method_14_code
def yX2_walk : MethodName := ⟨RX2, "walk", "(LLaneCrowds$Patrol;)V"⟩
def dkwX2_walk_1 : List UInt8 := [181, 0, 66, 43, 182, 0, 149, 177]
abbrev dktX2_walk_1 : List UInt8 := dkwX2_walk_1 ++ []
def dkwX2_walk_0 : List UInt8 := [43, 180, 0, 66, 43, 182, 0, 146, 184, 0, 67, 61, 42, 28, 182, 0, 121, 153, 0, 8, 43, 28]
abbrev dktX2_walk_0 : List UInt8 := dkwX2_walk_0 ++ dktX2_walk_1
theorem dksX2_walk_0 : cX2_walk.data.toList.drop 0 = dktX2_walk_0 := by decide +kernel
theorem dksX2_walk_1 : cX2_walk.data.toList.drop 22 = dktX2_walk_1 := dk_seg dksX2_walk_0 22 rfl rfl
theorem dX2_walk_0 : decode cX2_walk 0 = .ok (.aload_n 1, 1) := dk_43 (dk_at dksX2_walk_0 0 rfl rfl)
theorem dX2_walk_1 : decode cX2_walk 1 = .ok (.getfield 66, 3) := dk_180 0 66 (dk_at dksX2_walk_0 1 rfl rfl)
theorem dX2_walk_4 : decode cX2_walk 4 = .ok (.aload_n 1, 1) := dk_43 (dk_at dksX2_walk_0 4 rfl rfl)
theorem dX2_walk_5 : decode cX2_walk 5 = .ok (.invokevirtual 146, 3) := dk_182 0 146 (dk_at dksX2_walk_0 5 rfl rfl)
theorem dX2_walk_8 : decode cX2_walk 8 = .ok (.invokestatic 67, 3) := dk_184 0 67 (dk_at dksX2_walk_0 8 rfl rfl)
theorem dX2_walk_11 : decode cX2_walk 11 = .ok (.istore_n 2, 1) := dk_61 (dk_at dksX2_walk_0 11 rfl rfl)
theorem dX2_walk_12 : decode cX2_walk 12 = .ok (.aload_n 0, 1) := dk_42 (dk_at dksX2_walk_0 12 rfl rfl)
theorem dX2_walk_13 : decode cX2_walk 13 = .ok (.iload_n 2, 1) := dk_28 (dk_at dksX2_walk_0 13 rfl rfl)
theorem dX2_walk_14 : decode cX2_walk 14 = .ok (.invokevirtual 121, 3) := dk_182 0 121 (dk_at dksX2_walk_0 14 rfl rfl)
theorem dX2_walk_17 : decode cX2_walk 17 = .ok (.ifCond .eq 8, 3) := dk_153 0 8 (dk_at dksX2_walk_0 17 rfl rfl)
theorem dX2_walk_20 : decode cX2_walk 20 = .ok (.aload_n 1, 1) := dk_43 (dk_at dksX2_walk_0 20 rfl rfl)
theorem dX2_walk_21 : decode cX2_walk 21 = .ok (.iload_n 2, 1) := dk_28 (dk_at dksX2_walk_0 21 rfl rfl)
theorem dX2_walk_22 : decode cX2_walk 22 = .ok (.putfield 66, 3) := dk_181 0 66 (dk_at dksX2_walk_1 0 rfl rfl)
theorem dX2_walk_25 : decode cX2_walk 25 = .ok (.aload_n 1, 1) := dk_43 (dk_at dksX2_walk_1 3 rfl rfl)
theorem dX2_walk_26 : decode cX2_walk 26 = .ok (.invokevirtual 149, 3) := dk_182 0 149 (dk_at dksX2_walk_1 4 rfl rfl)
theorem dX2_walk_29 : decode cX2_walk 29 = .ok (.return_, 1) := dk_177 (dk_at dksX2_walk_1 7 rfl rfl)
abbrev cX2_copy : ByteArray := prog_4_method_2_code
def yX2_copy : MethodName := ⟨RX2, "copy", "()LLaneCrowds$Quarter;"⟩
def dkwX2_copy_4 : List UInt8 := [28, 182, 0, 40, 192, 0, 54, 182, 0, 56, 182, 0, 50, 87, 132, 2, 1, 167, 255, 220, 43, 176]
abbrev dktX2_copy_4 : List UInt8 := dkwX2_copy_4 ++ []
def dkwX2_copy_3 : List UInt8 := [167, 255, 220, 3, 61, 28, 42, 180, 0, 22, 182, 0, 36, 162, 0, 31, 43, 180, 0, 22, 42, 180, 0, 22]
abbrev dktX2_copy_3 : List UInt8 := dkwX2_copy_3 ++ dktX2_copy_4
def dkwX2_copy_2 : List UInt8 := [180, 0, 18, 42, 180, 0, 18, 28, 182, 0, 40, 192, 0, 44, 182, 0, 46, 182, 0, 50, 87, 132, 2, 1]
abbrev dktX2_copy_2 : List UInt8 := dkwX2_copy_2 ++ dktX2_copy_3
def dkwX2_copy_1 : List UInt8 := [180, 0, 9, 3, 16, 108, 184, 0, 30, 3, 61, 28, 42, 180, 0, 18, 182, 0, 36, 162, 0, 31, 43]
abbrev dktX2_copy_1 : List UInt8 := dkwX2_copy_1 ++ dktX2_copy_2
def dkwX2_copy_0 : List UInt8 := [187, 0, 10, 89, 183, 0, 25, 76, 43, 42, 180, 0, 26, 181, 0, 26, 42, 180, 0, 9, 3, 43]
abbrev dktX2_copy_0 : List UInt8 := dkwX2_copy_0 ++ dktX2_copy_1
theorem dksX2_copy_0 : cX2_copy.data.toList.drop 0 = dktX2_copy_0 := by decide +kernel
theorem dksX2_copy_1 : cX2_copy.data.toList.drop 22 = dktX2_copy_1 := dk_seg dksX2_copy_0 22 rfl rfl
theorem dksX2_copy_2 : cX2_copy.data.toList.drop 45 = dktX2_copy_2 := dk_seg dksX2_copy_1 23 rfl rfl
theorem dksX2_copy_3 : cX2_copy.data.toList.drop 69 = dktX2_copy_3 := dk_seg dksX2_copy_2 24 rfl rfl
theorem dksX2_copy_4 : cX2_copy.data.toList.drop 93 = dktX2_copy_4 := dk_seg dksX2_copy_3 24 rfl rfl
theorem dX2_copy_0 : decode cX2_copy 0 = .ok (.new 10, 3) := dk_187 0 10 (dk_at dksX2_copy_0 0 rfl rfl)
theorem dX2_copy_3 : decode cX2_copy 3 = .ok (.dup, 1) := dk_89 (dk_at dksX2_copy_0 3 rfl rfl)
theorem dX2_copy_4 : decode cX2_copy 4 = .ok (.invokespecial 25, 3) := dk_183 0 25 (dk_at dksX2_copy_0 4 rfl rfl)
theorem dX2_copy_7 : decode cX2_copy 7 = .ok (.astore_n 1, 1) := dk_76 (dk_at dksX2_copy_0 7 rfl rfl)
theorem dX2_copy_8 : decode cX2_copy 8 = .ok (.aload_n 1, 1) := dk_43 (dk_at dksX2_copy_0 8 rfl rfl)
theorem dX2_copy_9 : decode cX2_copy 9 = .ok (.aload_n 0, 1) := dk_42 (dk_at dksX2_copy_0 9 rfl rfl)
theorem dX2_copy_10 : decode cX2_copy 10 = .ok (.getfield 26, 3) := dk_180 0 26 (dk_at dksX2_copy_0 10 rfl rfl)
theorem dX2_copy_13 : decode cX2_copy 13 = .ok (.putfield 26, 3) := dk_181 0 26 (dk_at dksX2_copy_0 13 rfl rfl)
theorem dX2_copy_16 : decode cX2_copy 16 = .ok (.aload_n 0, 1) := dk_42 (dk_at dksX2_copy_0 16 rfl rfl)
theorem dX2_copy_17 : decode cX2_copy 17 = .ok (.getfield 9, 3) := dk_180 0 9 (dk_at dksX2_copy_0 17 rfl rfl)
theorem dX2_copy_20 : decode cX2_copy 20 = .ok (.iconst 0, 1) := dk_3 (dk_at dksX2_copy_0 20 rfl rfl)
theorem dX2_copy_21 : decode cX2_copy 21 = .ok (.aload_n 1, 1) := dk_43 (dk_at dksX2_copy_0 21 rfl rfl)
theorem dX2_copy_22 : decode cX2_copy 22 = .ok (.getfield 9, 3) := dk_180 0 9 (dk_at dksX2_copy_1 0 rfl rfl)
theorem dX2_copy_25 : decode cX2_copy 25 = .ok (.iconst 0, 1) := dk_3 (dk_at dksX2_copy_1 3 rfl rfl)
theorem dX2_copy_26 : decode cX2_copy 26 = .ok (.bipush 108, 2) := dk_16 108 (dk_at dksX2_copy_1 4 rfl rfl)
theorem dX2_copy_28 : decode cX2_copy 28 = .ok (.invokestatic 30, 3) := dk_184 0 30 (dk_at dksX2_copy_1 6 rfl rfl)
theorem dX2_copy_31 : decode cX2_copy 31 = .ok (.iconst 0, 1) := dk_3 (dk_at dksX2_copy_1 9 rfl rfl)
theorem dX2_copy_32 : decode cX2_copy 32 = .ok (.istore_n 2, 1) := dk_61 (dk_at dksX2_copy_1 10 rfl rfl)
theorem dX2_copy_33 : decode cX2_copy 33 = .ok (.iload_n 2, 1) := dk_28 (dk_at dksX2_copy_1 11 rfl rfl)
theorem dX2_copy_34 : decode cX2_copy 34 = .ok (.aload_n 0, 1) := dk_42 (dk_at dksX2_copy_1 12 rfl rfl)
theorem dX2_copy_35 : decode cX2_copy 35 = .ok (.getfield 18, 3) := dk_180 0 18 (dk_at dksX2_copy_1 13 rfl rfl)
theorem dX2_copy_38 : decode cX2_copy 38 = .ok (.invokevirtual 36, 3) := dk_182 0 36 (dk_at dksX2_copy_1 16 rfl rfl)
theorem dX2_copy_41 : decode cX2_copy 41 = .ok (.if_icmp .ge 31, 3) := dk_162 0 31 (dk_at dksX2_copy_1 19 rfl rfl)
theorem dX2_copy_44 : decode cX2_copy 44 = .ok (.aload_n 1, 1) := dk_43 (dk_at dksX2_copy_1 22 rfl rfl)
theorem dX2_copy_45 : decode cX2_copy 45 = .ok (.getfield 18, 3) := dk_180 0 18 (dk_at dksX2_copy_2 0 rfl rfl)
theorem dX2_copy_48 : decode cX2_copy 48 = .ok (.aload_n 0, 1) := dk_42 (dk_at dksX2_copy_2 3 rfl rfl)
theorem dX2_copy_49 : decode cX2_copy 49 = .ok (.getfield 18, 3) := dk_180 0 18 (dk_at dksX2_copy_2 4 rfl rfl)
theorem dX2_copy_52 : decode cX2_copy 52 = .ok (.iload_n 2, 1) := dk_28 (dk_at dksX2_copy_2 7 rfl rfl)
theorem dX2_copy_53 : decode cX2_copy 53 = .ok (.invokevirtual 40, 3) := dk_182 0 40 (dk_at dksX2_copy_2 8 rfl rfl)
theorem dX2_copy_56 : decode cX2_copy 56 = .ok (.checkcast 44, 3) := dk_192 0 44 (dk_at dksX2_copy_2 11 rfl rfl)
theorem dX2_copy_59 : decode cX2_copy 59 = .ok (.invokevirtual 46, 3) := dk_182 0 46 (dk_at dksX2_copy_2 14 rfl rfl)
theorem dX2_copy_62 : decode cX2_copy 62 = .ok (.invokevirtual 50, 3) := dk_182 0 50 (dk_at dksX2_copy_2 17 rfl rfl)
theorem dX2_copy_65 : decode cX2_copy 65 = .ok (.pop, 1) := dk_87 (dk_at dksX2_copy_2 20 rfl rfl)
theorem dX2_copy_66 : decode cX2_copy 66 = .ok (.iinc 2 1, 3) := dk_132 2 1 (dk_at dksX2_copy_2 21 rfl rfl)
theorem dX2_copy_69 : decode cX2_copy 69 = .ok (.goto (-36), 3) := dk_167 255 220 (dk_at dksX2_copy_3 0 rfl rfl)
theorem dX2_copy_72 : decode cX2_copy 72 = .ok (.iconst 0, 1) := dk_3 (dk_at dksX2_copy_3 3 rfl rfl)
theorem dX2_copy_73 : decode cX2_copy 73 = .ok (.istore_n 2, 1) := dk_61 (dk_at dksX2_copy_3 4 rfl rfl)
theorem dX2_copy_74 : decode cX2_copy 74 = .ok (.iload_n 2, 1) := dk_28 (dk_at dksX2_copy_3 5 rfl rfl)
theorem dX2_copy_75 : decode cX2_copy 75 = .ok (.aload_n 0, 1) := dk_42 (dk_at dksX2_copy_3 6 rfl rfl)
theorem dX2_copy_76 : decode cX2_copy 76 = .ok (.getfield 22, 3) := dk_180 0 22 (dk_at dksX2_copy_3 7 rfl rfl)
theorem dX2_copy_79 : decode cX2_copy 79 = .ok (.invokevirtual 36, 3) := dk_182 0 36 (dk_at dksX2_copy_3 10 rfl rfl)
theorem dX2_copy_82 : decode cX2_copy 82 = .ok (.if_icmp .ge 31, 3) := dk_162 0 31 (dk_at dksX2_copy_3 13 rfl rfl)
theorem dX2_copy_85 : decode cX2_copy 85 = .ok (.aload_n 1, 1) := dk_43 (dk_at dksX2_copy_3 16 rfl rfl)
theorem dX2_copy_86 : decode cX2_copy 86 = .ok (.getfield 22, 3) := dk_180 0 22 (dk_at dksX2_copy_3 17 rfl rfl)
theorem dX2_copy_89 : decode cX2_copy 89 = .ok (.aload_n 0, 1) := dk_42 (dk_at dksX2_copy_3 20 rfl rfl)
theorem dX2_copy_90 : decode cX2_copy 90 = .ok (.getfield 22, 3) := dk_180 0 22 (dk_at dksX2_copy_3 21 rfl rfl)
theorem dX2_copy_93 : decode cX2_copy 93 = .ok (.iload_n 2, 1) := dk_28 (dk_at dksX2_copy_4 0 rfl rfl)
theorem dX2_copy_94 : decode cX2_copy 94 = .ok (.invokevirtual 40, 3) := dk_182 0 40 (dk_at dksX2_copy_4 1 rfl rfl)
theorem dX2_copy_97 : decode cX2_copy 97 = .ok (.checkcast 54, 3) := dk_192 0 54 (dk_at dksX2_copy_4 4 rfl rfl)
theorem dX2_copy_100 : decode cX2_copy 100 = .ok (.invokevirtual 56, 3) := dk_182 0 56 (dk_at dksX2_copy_4 7 rfl rfl)
theorem dX2_copy_103 : decode cX2_copy 103 = .ok (.invokevirtual 50, 3) := dk_182 0 50 (dk_at dksX2_copy_4 10 rfl rfl)
theorem dX2_copy_106 : decode cX2_copy 106 = .ok (.pop, 1) := dk_87 (dk_at dksX2_copy_4 13 rfl rfl)
theorem dX2_copy_107 : decode cX2_copy 107 = .ok (.iinc 2 1, 3) := dk_132 2 1 (dk_at dksX2_copy_4 14 rfl rfl)
theorem dX2_copy_110 : decode cX2_copy 110 = .ok (.goto (-36), 3) := dk_167 255 220 (dk_at dksX2_copy_4 17 rfl rfl)
theorem dX2_copy_113 : decode cX2_copy 113 = .ok (.aload_n 1, 1) := dk_43 (dk_at dksX2_copy_4 20 rfl rfl)
theorem dX2_copy_114 : decode cX2_copy 114 = .ok (.areturn, 1) := dk_176 (dk_at dksX2_copy_4 21 rfl rfl)
theorem q38 : (Jvm.Cond.initialized "LaneCrowds$Quarter") ∈ lw_all := lw_g (lw_at lw_m1 2 rfl) rfl
theorem q72 : (Jvm.Cond.instantiable "LaneCrowds$Quarter" (4 : Nat)) ∈ lw_all := lw_g (lw_at lw_m1 36 rfl) rfl
theorem q74 : (Jvm.Cond.instanceMethod ({ cls := "LaneCrowds$Quarter", name := "<init>", desc := "()V" } : Jvm.MethodName)) ∈ lw_all := lw_g (lw_at lw_m1 38 rfl) rfl
theorem q75 : (Jvm.Cond.code ({ cls := "LaneCrowds$Quarter", name := "<init>", desc := "()V" } : Jvm.MethodName) prog_4_method_1_code (1 : Nat) (Option.none : Option Jvm.ClassFile.FieldType)) ∈ lw_all := lw_g (lw_at lw_m1 39 rfl) rfl
theorem q76 : (Jvm.Cond.methodLink "LaneCrowds$Quarter" (3 : Nat) ({ cls := "java/lang/Object", name := "<init>", desc := "()V" } : Jvm.MethodName)) ∈ lw_all := lw_g (lw_at lw_m1 40 rfl) rfl
theorem q77 : (Jvm.Cond.classLink "LaneCrowds$Quarter" (15 : Nat) "java/util/ArrayList") ∈ lw_all := lw_g (lw_at lw_m1 41 rfl) rfl
theorem q79 : (Jvm.Cond.methodLink "LaneCrowds$Quarter" (17 : Nat) ({ cls := "java/util/ArrayList", name := "<init>", desc := "()V" } : Jvm.MethodName)) ∈ lw_all := lw_g (lw_at lw_m1 43 rfl) rfl
theorem q104 : (Jvm.Cond.fieldLink "LaneCrowds$Quarter" (26 : Nat) "LaneCrowds$Quarter" "step" "I") ∈ lw_all := lw_g (lw_at lw_m1 68 rfl) rfl
theorem q106 : (Jvm.Cond.fieldLink "LaneCrowds$Quarter" (9 : Nat) "LaneCrowds$Quarter" "cells" "[I") ∈ lw_all := lw_g (lw_at lw_m1 70 rfl) rfl
theorem q108 : (Jvm.Cond.fieldLink "LaneCrowds$Quarter" (18 : Nat) "LaneCrowds$Quarter" "crowds" "Ljava/util/ArrayList;") ∈ lw_all := lw_g (lw_at lw_m1 72 rfl) rfl
theorem q110 : (Jvm.Cond.fieldLink "LaneCrowds$Quarter" (22 : Nat) "LaneCrowds$Quarter" "patrols" "Ljava/util/ArrayList;") ∈ lw_all := lw_g (lw_at lw_m1 74 rfl) rfl
theorem q112 : (Jvm.Cond.lays "LaneCrowds$Quarter" "LaneCrowds$Quarter" "step" "I") ∈ lw_all := lw_g (lw_at lw_m1 76 rfl) rfl
theorem q113 : (Jvm.Cond.soleField "LaneCrowds$Quarter" "step") ∈ lw_all := lw_g (lw_at lw_m1 77 rfl) rfl
theorem q114 : (Jvm.Cond.laysFinal "LaneCrowds$Quarter" "LaneCrowds$Quarter" "cells" "[I") ∈ lw_all := lw_g (lw_at lw_m1 78 rfl) rfl
theorem q115 : (Jvm.Cond.soleField "LaneCrowds$Quarter" "cells") ∈ lw_all := lw_g (lw_at lw_m1 79 rfl) rfl
theorem q116 : (Jvm.Cond.laysFinal "LaneCrowds$Quarter" "LaneCrowds$Quarter" "crowds" "Ljava/util/ArrayList;") ∈ lw_all := lw_g (lw_at lw_m1 80 rfl) rfl
theorem q117 : (Jvm.Cond.soleField "LaneCrowds$Quarter" "crowds") ∈ lw_all := lw_g (lw_at lw_m1 81 rfl) rfl
theorem q118 : (Jvm.Cond.laysFinal "LaneCrowds$Quarter" "LaneCrowds$Quarter" "patrols" "Ljava/util/ArrayList;") ∈ lw_all := lw_g (lw_at lw_m1 82 rfl) rfl
theorem q119 : (Jvm.Cond.soleField "LaneCrowds$Quarter" "patrols") ∈ lw_all := lw_g (lw_at lw_m1 83 rfl) rfl
theorem q120 : (Jvm.Cond.superclass "LaneCrowds$Quarter" "java/lang/Object") ∈ lw_all := lw_g (lw_at lw_m1 84 rfl) rfl
theorem q130 : (Jvm.Cond.instanceMethod ({ cls := "LaneCrowds$Quarter", name := "shuts", desc := "()I" } : Jvm.MethodName)) ∈ lw_all := lw_g (lw_at lw_m1 94 rfl) rfl
theorem q131 : (Jvm.Cond.selects "LaneCrowds$Quarter" ({ cls := "LaneCrowds$Quarter", name := "shuts", desc := "()I" } : Jvm.MethodName) ({ cls := "LaneCrowds$Quarter", name := "shuts", desc := "()I" } : Jvm.MethodName)) ∈ lw_all := lw_g (lw_at lw_m1 95 rfl) rfl
theorem q132 : (Jvm.Cond.code ({ cls := "LaneCrowds$Quarter", name := "shuts", desc := "()I" } : Jvm.MethodName) prog_4_method_20_code (5 : Nat) (Option.some Jvm.ClassFile.FieldType.int)) ∈ lw_all := lw_g (lw_at lw_m1 96 rfl) rfl
theorem q133 : (Jvm.Cond.methodLink "LaneCrowds$Quarter" (152 : Nat) ({ cls := "LaneCrowds$Quarter", name := "costs", desc := "(I)I" } : Jvm.MethodName)) ∈ lw_all := lw_g (lw_at lw_m1 97 rfl) rfl
theorem q134 : (Jvm.Cond.privateMethod ({ cls := "LaneCrowds$Quarter", name := "costs", desc := "(I)I" } : Jvm.MethodName)) ∈ lw_tbl := lw_at lw_m1 98 rfl
theorem q135 : (Jvm.Cond.instanceMethod ({ cls := "LaneCrowds$Quarter", name := "costs", desc := "(I)I" } : Jvm.MethodName)) ∈ lw_all := lw_g (lw_at lw_m1 99 rfl) rfl
theorem q136 : (Jvm.Cond.code ({ cls := "LaneCrowds$Quarter", name := "costs", desc := "(I)I" } : Jvm.MethodName) prog_4_method_21_code (2 : Nat) (Option.some Jvm.ClassFile.FieldType.int)) ∈ lw_all := lw_g (lw_at lw_m1 100 rfl) rfl
theorem q137 : (Jvm.Cond.methodLink "LaneCrowds$Quarter" (121 : Nat) ({ cls := "LaneCrowds$Quarter", name := "isFree", desc := "(I)Z" } : Jvm.MethodName)) ∈ lw_all := lw_g (lw_at lw_m1 101 rfl) rfl
theorem q138 : (Jvm.Cond.instanceMethod ({ cls := "LaneCrowds$Quarter", name := "isFree", desc := "(I)Z" } : Jvm.MethodName)) ∈ lw_all := lw_g (lw_at lw_m1 102 rfl) rfl
theorem q139 : (Jvm.Cond.selects "LaneCrowds$Quarter" ({ cls := "LaneCrowds$Quarter", name := "isFree", desc := "(I)Z" } : Jvm.MethodName) ({ cls := "LaneCrowds$Quarter", name := "isFree", desc := "(I)Z" } : Jvm.MethodName)) ∈ lw_all := lw_g (lw_at lw_m1 103 rfl) rfl
theorem q140 : (Jvm.Cond.code ({ cls := "LaneCrowds$Quarter", name := "isFree", desc := "(I)Z" } : Jvm.MethodName) prog_4_method_3_code (2 : Nat) (Option.some Jvm.ClassFile.FieldType.boolean)) ∈ lw_all := lw_g (lw_at lw_m1 104 rfl) rfl
theorem q141 : (Jvm.Cond.methodLink "LaneCrowds$Quarter" (155 : Nat) ({ cls := "LaneCrowds$Quarter", name := "lessens", desc := "([II)Z" } : Jvm.MethodName)) ∈ lw_all := lw_g (lw_at lw_m1 105 rfl) rfl
theorem q142 : (Jvm.Cond.privateMethod ({ cls := "LaneCrowds$Quarter", name := "lessens", desc := "([II)Z" } : Jvm.MethodName)) ∈ lw_tbl := lw_at lw_m1 106 rfl
theorem q143 : (Jvm.Cond.instanceMethod ({ cls := "LaneCrowds$Quarter", name := "lessens", desc := "([II)Z" } : Jvm.MethodName)) ∈ lw_all := lw_g (lw_at lw_m1 107 rfl) rfl
theorem q144 : (Jvm.Cond.code ({ cls := "LaneCrowds$Quarter", name := "lessens", desc := "([II)Z" } : Jvm.MethodName) prog_4_method_22_code (7 : Nat) (Option.some Jvm.ClassFile.FieldType.boolean)) ∈ lw_all := lw_g (lw_at lw_m1 108 rfl) rfl
theorem q145 : (Jvm.Cond.methodLink "LaneCrowds$Quarter" (159 : Nat) ({ cls := "java/lang/Math", name := "min", desc := "(II)I" } : Jvm.MethodName)) ∈ lw_all := lw_g (lw_at lw_m1 109 rfl) rfl
theorem q153 : (Jvm.Cond.instanceMethod ({ cls := "LaneCrowds$Quarter", name := "crowdsThere", desc := "()I" } : Jvm.MethodName)) ∈ lw_all := lw_g (lw_at lw_m1 117 rfl) rfl
theorem q154 : (Jvm.Cond.selects "LaneCrowds$Quarter" ({ cls := "LaneCrowds$Quarter", name := "crowdsThere", desc := "()I" } : Jvm.MethodName) ({ cls := "LaneCrowds$Quarter", name := "crowdsThere", desc := "()I" } : Jvm.MethodName)) ∈ lw_all := lw_g (lw_at lw_m1 118 rfl) rfl
theorem q155 : (Jvm.Cond.code ({ cls := "LaneCrowds$Quarter", name := "crowdsThere", desc := "()I" } : Jvm.MethodName) prog_4_method_16_code (3 : Nat) (Option.some Jvm.ClassFile.FieldType.int)) ∈ lw_all := lw_g (lw_at lw_m1 119 rfl) rfl
theorem q156 : (Jvm.Cond.methodLink "LaneCrowds$Quarter" (36 : Nat) ({ cls := "java/util/ArrayList", name := "size", desc := "()I" } : Jvm.MethodName)) ∈ lw_all := lw_g (lw_at lw_m1 120 rfl) rfl
theorem q160 : (Jvm.Cond.methodLink "LaneCrowds$Quarter" (40 : Nat) ({ cls := "java/util/ArrayList", name := "get", desc := "(I)Ljava/lang/Object;" } : Jvm.MethodName)) ∈ lw_all := lw_g (lw_at lw_m1 124 rfl) rfl
theorem q174 : (Jvm.Cond.classLink "LaneCrowds$Quarter" (44 : Nat) "LaneCrowds$Crowd") ∈ lw_all := lw_g (lw_at lw_m1 138 rfl) rfl
theorem q175 : (Jvm.Cond.methodLink "LaneCrowds$Quarter" (59 : Nat) ({ cls := "LaneCrowds$Crowd", name := "isThere", desc := "()Z" } : Jvm.MethodName)) ∈ lw_all := lw_g (lw_at lw_m1 139 rfl) rfl
theorem q180 : (Jvm.Cond.instanceMethod ({ cls := "LaneCrowds$Quarter", name := "people", desc := "()I" } : Jvm.MethodName)) ∈ lw_all := lw_g (lw_at lw_m1 144 rfl) rfl
theorem q181 : (Jvm.Cond.selects "LaneCrowds$Quarter" ({ cls := "LaneCrowds$Quarter", name := "people", desc := "()I" } : Jvm.MethodName) ({ cls := "LaneCrowds$Quarter", name := "people", desc := "()I" } : Jvm.MethodName)) ∈ lw_all := lw_g (lw_at lw_m1 145 rfl) rfl
theorem q182 : (Jvm.Cond.code ({ cls := "LaneCrowds$Quarter", name := "people", desc := "()I" } : Jvm.MethodName) prog_4_method_15_code (3 : Nat) (Option.some Jvm.ClassFile.FieldType.int)) ∈ lw_all := lw_g (lw_at lw_m1 146 rfl) rfl
theorem q194 : (Jvm.Cond.instanceMethod ({ cls := "LaneCrowds$Quarter", name := "cellsLike", desc := "(I)I" } : Jvm.MethodName)) ∈ lw_all := lw_g (lw_at lw_m1 158 rfl) rfl
theorem q195 : (Jvm.Cond.selects "LaneCrowds$Quarter" ({ cls := "LaneCrowds$Quarter", name := "cellsLike", desc := "(I)I" } : Jvm.MethodName) ({ cls := "LaneCrowds$Quarter", name := "cellsLike", desc := "(I)I" } : Jvm.MethodName)) ∈ lw_all := lw_g (lw_at lw_m1 159 rfl) rfl
theorem q196 : (Jvm.Cond.code ({ cls := "LaneCrowds$Quarter", name := "cellsLike", desc := "(I)I" } : Jvm.MethodName) prog_4_method_18_code (7 : Nat) (Option.some Jvm.ClassFile.FieldType.int)) ∈ lw_all := lw_g (lw_at lw_m1 160 rfl) rfl
theorem q198 : (Jvm.Cond.instanceMethod ({ cls := "LaneCrowds$Quarter", name := "barricades", desc := "()I" } : Jvm.MethodName)) ∈ lw_all := lw_g (lw_at lw_m1 162 rfl) rfl
theorem q199 : (Jvm.Cond.selects "LaneCrowds$Quarter" ({ cls := "LaneCrowds$Quarter", name := "barricades", desc := "()I" } : Jvm.MethodName) ({ cls := "LaneCrowds$Quarter", name := "barricades", desc := "()I" } : Jvm.MethodName)) ∈ lw_all := lw_g (lw_at lw_m1 163 rfl) rfl
theorem q200 : (Jvm.Cond.code ({ cls := "LaneCrowds$Quarter", name := "barricades", desc := "()I" } : Jvm.MethodName) prog_4_method_17_code (6 : Nat) (Option.some Jvm.ClassFile.FieldType.int)) ∈ lw_all := lw_g (lw_at lw_m1 164 rfl) rfl
theorem q201 : (Jvm.Cond.methodLink "LaneCrowds$Quarter" (143 : Nat) ({ cls := "java/lang/Math", name := "max", desc := "(II)I" } : Jvm.MethodName)) ∈ lw_all := lw_g (lw_at lw_m1 165 rfl) rfl
theorem q225 : (Jvm.Cond.instanceMethod ({ cls := "LaneCrowds$Quarter", name := "seenBy", desc := "(LLaneCrowds$Crowd;)I" } : Jvm.MethodName)) ∈ lw_all := lw_g (lw_at lw_m1 189 rfl) rfl
theorem q226 : (Jvm.Cond.selects "LaneCrowds$Quarter" ({ cls := "LaneCrowds$Quarter", name := "seenBy", desc := "(LLaneCrowds$Crowd;)I" } : Jvm.MethodName) ({ cls := "LaneCrowds$Quarter", name := "seenBy", desc := "(LLaneCrowds$Crowd;)I" } : Jvm.MethodName)) ∈ lw_all := lw_g (lw_at lw_m1 190 rfl) rfl
theorem q227 : (Jvm.Cond.code ({ cls := "LaneCrowds$Quarter", name := "seenBy", desc := "(LLaneCrowds$Crowd;)I" } : Jvm.MethodName) prog_4_method_12_code (4 : Nat) (Option.some Jvm.ClassFile.FieldType.int)) ∈ lw_all := lw_g (lw_at lw_m1 191 rfl) rfl
theorem q228 : (Jvm.Cond.classLink "LaneCrowds$Quarter" (54 : Nat) "LaneCrowds$Patrol") ∈ lw_all := lw_g (lw_at lw_m1 192 rfl) rfl
theorem q229 : (Jvm.Cond.methodLink "LaneCrowds$Quarter" (124 : Nat) ({ cls := "LaneCrowds$Quarter", name := "sees", desc := "(LLaneCrowds$Patrol;LLaneCrowds$Crowd;)Z" } : Jvm.MethodName)) ∈ lw_all := lw_g (lw_at lw_m1 193 rfl) rfl
theorem q230 : (Jvm.Cond.instanceMethod ({ cls := "LaneCrowds$Quarter", name := "sees", desc := "(LLaneCrowds$Patrol;LLaneCrowds$Crowd;)Z" } : Jvm.MethodName)) ∈ lw_all := lw_g (lw_at lw_m1 194 rfl) rfl
theorem q231 : (Jvm.Cond.selects "LaneCrowds$Quarter" ({ cls := "LaneCrowds$Quarter", name := "sees", desc := "(LLaneCrowds$Patrol;LLaneCrowds$Crowd;)Z" } : Jvm.MethodName) ({ cls := "LaneCrowds$Quarter", name := "sees", desc := "(LLaneCrowds$Patrol;LLaneCrowds$Crowd;)Z" } : Jvm.MethodName)) ∈ lw_all := lw_g (lw_at lw_m1 195 rfl) rfl
theorem q232 : (Jvm.Cond.code ({ cls := "LaneCrowds$Quarter", name := "sees", desc := "(LLaneCrowds$Patrol;LLaneCrowds$Crowd;)Z" } : Jvm.MethodName) prog_4_method_11_code (7 : Nat) (Option.some Jvm.ClassFile.FieldType.boolean)) ∈ lw_all := lw_g (lw_at lw_m1 196 rfl) rfl
theorem q233 : (Jvm.Cond.methodLink "LaneCrowds$Quarter" (109 : Nat) ({ cls := "java/lang/Math", name := "abs", desc := "(I)I" } : Jvm.MethodName)) ∈ lw_all := lw_g (lw_at lw_m1 197 rfl) rfl
theorem q236 : (Jvm.Cond.methodLink "LaneCrowds$Quarter" (115 : Nat) ({ cls := "LaneCrowds$Crowd", name := "isSeenFrom", desc := "()I" } : Jvm.MethodName)) ∈ lw_all := lw_g (lw_at lw_m1 200 rfl) rfl
theorem q240 : (Jvm.Cond.methodLink "LaneCrowds$Quarter" (118 : Nat) ({ cls := "java/lang/Integer", name := "signum", desc := "(I)I" } : Jvm.MethodName)) ∈ lw_all := lw_g (lw_at lw_m1 204 rfl) rfl
theorem q370 : (Jvm.Cond.instanceMethod ({ cls := "LaneCrowds$Quarter", name := "isTaken", desc := "(I)Z" } : Jvm.MethodName)) ∈ lw_all := lw_g (lw_at lw_m2 94 rfl) rfl
theorem q371 : (Jvm.Cond.selects "LaneCrowds$Quarter" ({ cls := "LaneCrowds$Quarter", name := "isTaken", desc := "(I)Z" } : Jvm.MethodName) ({ cls := "LaneCrowds$Quarter", name := "isTaken", desc := "(I)Z" } : Jvm.MethodName)) ∈ lw_all := lw_g (lw_at lw_m2 95 rfl) rfl
theorem q372 : (Jvm.Cond.code ({ cls := "LaneCrowds$Quarter", name := "isTaken", desc := "(I)Z" } : Jvm.MethodName) prog_4_method_5_code (4 : Nat) (Option.some Jvm.ClassFile.FieldType.boolean)) ∈ lw_all := lw_g (lw_at lw_m2 96 rfl) rfl
theorem q421 : (Jvm.Cond.instanceMethod ({ cls := "LaneCrowds$Quarter", name := "isLane", desc := "(I)Z" } : Jvm.MethodName)) ∈ lw_all := lw_g (lw_at lw_m2 145 rfl) rfl
theorem q422 : (Jvm.Cond.selects "LaneCrowds$Quarter" ({ cls := "LaneCrowds$Quarter", name := "isLane", desc := "(I)Z" } : Jvm.MethodName) ({ cls := "LaneCrowds$Quarter", name := "isLane", desc := "(I)Z" } : Jvm.MethodName)) ∈ lw_all := lw_g (lw_at lw_m2 146 rfl) rfl
theorem q423 : (Jvm.Cond.code ({ cls := "LaneCrowds$Quarter", name := "isLane", desc := "(I)Z" } : Jvm.MethodName) prog_4_method_4_code (2 : Nat) (Option.some Jvm.ClassFile.FieldType.boolean)) ∈ lw_all := lw_g (lw_at lw_m2 147 rfl) rfl
theorem q447 : (Jvm.Cond.fieldLinkNest "LaneCrowds$Quarter" (63 : Nat) "LaneCrowds$Crowd" "cell" "I" "LaneCrowds") ∈ lw_tbl := lw_at lw_m2 171 rfl
theorem q450 : (Jvm.Cond.fieldLinkNest "LaneCrowds$Quarter" (79 : Nat) "LaneCrowds$Crowd" "people" "I" "LaneCrowds") ∈ lw_tbl := lw_at lw_m2 174 rfl
theorem q455 : (Jvm.Cond.fieldLinkNest "LaneCrowds$Quarter" (106 : Nat) "LaneCrowds$Crowd" "missed" "I" "LaneCrowds") ∈ lw_tbl := lw_at lw_m2 179 rfl
theorem q458 : (Jvm.Cond.fieldLinkNest "LaneCrowds$Quarter" (85 : Nat) "LaneCrowds$Crowd" "orders" "Ljava/util/ArrayList;" "LaneCrowds") ∈ lw_tbl := lw_at lw_m2 182 rfl
theorem q504 : (Jvm.Cond.selects "LaneCrowds$Quarter" ({ cls := "java/lang/Object", name := "getClass", desc := "()Ljava/lang/Class;" } : Jvm.MethodName) ({ cls := "java/lang/Object", name := "getClass", desc := "()Ljava/lang/Class;" } : Jvm.MethodName)) ∈ lw_all := lw_g (lw_at lw_m2 228 rfl) rfl
theorem q592 : (Jvm.Cond.fieldLinkNest "LaneCrowds$Quarter" (66 : Nat) "LaneCrowds$Patrol" "cell" "I" "LaneCrowds") ∈ lw_tbl := lw_at lw_m3 76 rfl
theorem q639 : (Jvm.Cond.instanceMethod ({ cls := "LaneCrowds$Quarter", name := "way", desc := "(II)I" } : Jvm.MethodName)) ∈ lw_all := lw_g (lw_at lw_m3 123 rfl) rfl
theorem q640 : (Jvm.Cond.selects "LaneCrowds$Quarter" ({ cls := "LaneCrowds$Quarter", name := "way", desc := "(II)I" } : Jvm.MethodName) ({ cls := "LaneCrowds$Quarter", name := "way", desc := "(II)I" } : Jvm.MethodName)) ∈ lw_all := lw_g (lw_at lw_m3 124 rfl) rfl
theorem q641 : (Jvm.Cond.code ({ cls := "LaneCrowds$Quarter", name := "way", desc := "(II)I" } : Jvm.MethodName) prog_4_method_19_code (9 : Nat) (Option.some Jvm.ClassFile.FieldType.int)) ∈ lw_all := lw_g (lw_at lw_m3 125 rfl) rfl
theorem q642 : (Jvm.Cond.methodLinkNest "LaneCrowds$Quarter" (67 : Nat) ({ cls := "LaneCrowds", name := "beside", desc := "(II)I" } : Jvm.MethodName) "LaneCrowds") ∈ lw_tbl := lw_at lw_m3 126 rfl
theorem q656 : (Jvm.Cond.instanceMethod ({ cls := "LaneCrowds$Quarter", name := "pass", desc := "()V" } : Jvm.MethodName)) ∈ lw_all := lw_g (lw_at lw_m3 140 rfl) rfl
theorem q657 : (Jvm.Cond.selects "LaneCrowds$Quarter" ({ cls := "LaneCrowds$Quarter", name := "pass", desc := "()V" } : Jvm.MethodName) ({ cls := "LaneCrowds$Quarter", name := "pass", desc := "()V" } : Jvm.MethodName)) ∈ lw_all := lw_g (lw_at lw_m3 141 rfl) rfl
theorem q658 : (Jvm.Cond.code ({ cls := "LaneCrowds$Quarter", name := "pass", desc := "()V" } : Jvm.MethodName) prog_4_method_13_code (2 : Nat) (Option.none : Option Jvm.ClassFile.FieldType)) ∈ lw_all := lw_g (lw_at lw_m3 142 rfl) rfl
theorem q659 : (Jvm.Cond.methodLink "LaneCrowds$Quarter" (128 : Nat) ({ cls := "java/util/ArrayList", name := "isEmpty", desc := "()Z" } : Jvm.MethodName)) ∈ lw_all := lw_g (lw_at lw_m3 143 rfl) rfl
theorem q660 : (Jvm.Cond.methodLink "LaneCrowds$Quarter" (131 : Nat) ({ cls := "LaneCrowds$Quarter", name := "obey", desc := "(LLaneCrowds$Crowd;)V" } : Jvm.MethodName)) ∈ lw_all := lw_g (lw_at lw_m3 144 rfl) rfl
theorem q661 : (Jvm.Cond.privateMethod ({ cls := "LaneCrowds$Quarter", name := "obey", desc := "(LLaneCrowds$Crowd;)V" } : Jvm.MethodName)) ∈ lw_tbl := lw_at lw_m3 145 rfl
theorem q662 : (Jvm.Cond.instanceMethod ({ cls := "LaneCrowds$Quarter", name := "obey", desc := "(LLaneCrowds$Crowd;)V" } : Jvm.MethodName)) ∈ lw_all := lw_g (lw_at lw_m3 146 rfl) rfl
theorem q663 : (Jvm.Cond.code ({ cls := "LaneCrowds$Quarter", name := "obey", desc := "(LLaneCrowds$Crowd;)V" } : Jvm.MethodName) prog_4_method_10_code (4 : Nat) (Option.none : Option Jvm.ClassFile.FieldType)) ∈ lw_all := lw_g (lw_at lw_m3 147 rfl) rfl
theorem q664 : (Jvm.Cond.methodLink "LaneCrowds$Quarter" (88 : Nat) ({ cls := "java/util/ArrayList", name := "remove", desc := "(I)Ljava/lang/Object;" } : Jvm.MethodName)) ∈ lw_all := lw_g (lw_at lw_m3 148 rfl) rfl
theorem q673 : (Jvm.Cond.classLink "LaneCrowds$Quarter" (91 : Nat) "java/lang/Integer") ∈ lw_all := lw_g (lw_at lw_m3 157 rfl) rfl
theorem q674 : (Jvm.Cond.methodLink "LaneCrowds$Quarter" (93 : Nat) ({ cls := "java/lang/Integer", name := "intValue", desc := "()I" } : Jvm.MethodName)) ∈ lw_all := lw_g (lw_at lw_m3 158 rfl) rfl
theorem q675 : (Jvm.Cond.methodLink "LaneCrowds$Quarter" (96 : Nat) ({ cls := "LaneCrowds$Quarter", name := "goes", desc := "(LLaneCrowds$Crowd;I)Z" } : Jvm.MethodName)) ∈ lw_all := lw_g (lw_at lw_m3 159 rfl) rfl
theorem q676 : (Jvm.Cond.privateMethod ({ cls := "LaneCrowds$Quarter", name := "goes", desc := "(LLaneCrowds$Crowd;I)Z" } : Jvm.MethodName)) ∈ lw_tbl := lw_at lw_m3 160 rfl
theorem q677 : (Jvm.Cond.instanceMethod ({ cls := "LaneCrowds$Quarter", name := "goes", desc := "(LLaneCrowds$Crowd;I)Z" } : Jvm.MethodName)) ∈ lw_all := lw_g (lw_at lw_m3 161 rfl) rfl
theorem q678 : (Jvm.Cond.code ({ cls := "LaneCrowds$Quarter", name := "goes", desc := "(LLaneCrowds$Crowd;I)Z" } : Jvm.MethodName) prog_4_method_6_code (4 : Nat) (Option.some Jvm.ClassFile.FieldType.boolean)) ∈ lw_all := lw_g (lw_at lw_m3 162 rfl) rfl
theorem q679 : (Jvm.Cond.methodLink "LaneCrowds$Quarter" (71 : Nat) ({ cls := "LaneCrowds$Quarter", name := "isLane", desc := "(I)Z" } : Jvm.MethodName)) ∈ lw_all := lw_g (lw_at lw_m3 163 rfl) rfl
theorem q680 : (Jvm.Cond.methodLink "LaneCrowds$Quarter" (75 : Nat) ({ cls := "LaneCrowds$Quarter", name := "pushes", desc := "(LLaneCrowds$Crowd;II)Z" } : Jvm.MethodName)) ∈ lw_all := lw_g (lw_at lw_m3 164 rfl) rfl
theorem q681 : (Jvm.Cond.privateMethod ({ cls := "LaneCrowds$Quarter", name := "pushes", desc := "(LLaneCrowds$Crowd;II)Z" } : Jvm.MethodName)) ∈ lw_tbl := lw_at lw_m3 165 rfl
theorem q682 : (Jvm.Cond.instanceMethod ({ cls := "LaneCrowds$Quarter", name := "pushes", desc := "(LLaneCrowds$Crowd;II)Z" } : Jvm.MethodName)) ∈ lw_all := lw_g (lw_at lw_m3 166 rfl) rfl
theorem q683 : (Jvm.Cond.code ({ cls := "LaneCrowds$Quarter", name := "pushes", desc := "(LLaneCrowds$Crowd;II)Z" } : Jvm.MethodName) prog_4_method_7_code (5 : Nat) (Option.some Jvm.ClassFile.FieldType.boolean)) ∈ lw_all := lw_g (lw_at lw_m3 167 rfl) rfl
theorem q684 : (Jvm.Cond.methodLink "LaneCrowds$Quarter" (82 : Nat) ({ cls := "LaneCrowds$Quarter", name := "isTaken", desc := "(I)Z" } : Jvm.MethodName)) ∈ lw_all := lw_g (lw_at lw_m3 168 rfl) rfl
theorem q685 : (Jvm.Cond.methodLink "LaneCrowds$Quarter" (100 : Nat) ({ cls := "LaneCrowds$Quarter", name := "raises", desc := "(LLaneCrowds$Crowd;I)Z" } : Jvm.MethodName)) ∈ lw_all := lw_g (lw_at lw_m3 169 rfl) rfl
theorem q686 : (Jvm.Cond.privateMethod ({ cls := "LaneCrowds$Quarter", name := "raises", desc := "(LLaneCrowds$Crowd;I)Z" } : Jvm.MethodName)) ∈ lw_tbl := lw_at lw_m3 170 rfl
theorem q687 : (Jvm.Cond.instanceMethod ({ cls := "LaneCrowds$Quarter", name := "raises", desc := "(LLaneCrowds$Crowd;I)Z" } : Jvm.MethodName)) ∈ lw_all := lw_g (lw_at lw_m3 171 rfl) rfl
theorem q688 : (Jvm.Cond.code ({ cls := "LaneCrowds$Quarter", name := "raises", desc := "(LLaneCrowds$Crowd;I)Z" } : Jvm.MethodName) prog_4_method_8_code (4 : Nat) (Option.some Jvm.ClassFile.FieldType.boolean)) ∈ lw_all := lw_g (lw_at lw_m3 172 rfl) rfl
theorem q689 : (Jvm.Cond.methodLink "LaneCrowds$Quarter" (103 : Nat) ({ cls := "LaneCrowds$Quarter", name := "pullsDown", desc := "(LLaneCrowds$Crowd;I)Z" } : Jvm.MethodName)) ∈ lw_all := lw_g (lw_at lw_m3 173 rfl) rfl
theorem q690 : (Jvm.Cond.privateMethod ({ cls := "LaneCrowds$Quarter", name := "pullsDown", desc := "(LLaneCrowds$Crowd;I)Z" } : Jvm.MethodName)) ∈ lw_tbl := lw_at lw_m3 174 rfl
theorem q691 : (Jvm.Cond.instanceMethod ({ cls := "LaneCrowds$Quarter", name := "pullsDown", desc := "(LLaneCrowds$Crowd;I)Z" } : Jvm.MethodName)) ∈ lw_all := lw_g (lw_at lw_m3 175 rfl) rfl
theorem q692 : (Jvm.Cond.code ({ cls := "LaneCrowds$Quarter", name := "pullsDown", desc := "(LLaneCrowds$Crowd;I)Z" } : Jvm.MethodName) prog_4_method_9_code (4 : Nat) (Option.some Jvm.ClassFile.FieldType.boolean)) ∈ lw_all := lw_g (lw_at lw_m3 176 rfl) rfl
theorem q693 : (Jvm.Cond.methodLink "LaneCrowds$Quarter" (135 : Nat) ({ cls := "LaneCrowds$Quarter", name := "walk", desc := "(LLaneCrowds$Patrol;)V" } : Jvm.MethodName)) ∈ lw_all := lw_g (lw_at lw_m3 177 rfl) rfl
theorem q694 : (Jvm.Cond.privateMethod ({ cls := "LaneCrowds$Quarter", name := "walk", desc := "(LLaneCrowds$Patrol;)V" } : Jvm.MethodName)) ∈ lw_tbl := lw_at lw_m3 178 rfl
theorem q695 : (Jvm.Cond.instanceMethod ({ cls := "LaneCrowds$Quarter", name := "walk", desc := "(LLaneCrowds$Patrol;)V" } : Jvm.MethodName)) ∈ lw_all := lw_g (lw_at lw_m3 179 rfl) rfl
theorem q696 : (Jvm.Cond.code ({ cls := "LaneCrowds$Quarter", name := "walk", desc := "(LLaneCrowds$Patrol;)V" } : Jvm.MethodName) prog_4_method_14_code (3 : Nat) (Option.none : Option Jvm.ClassFile.FieldType)) ∈ lw_all := lw_g (lw_at lw_m3 180 rfl) rfl
theorem q697 : (Jvm.Cond.methodLink "LaneCrowds$Quarter" (146 : Nat) ({ cls := "LaneCrowds$Patrol", name := "direction", desc := "()I" } : Jvm.MethodName)) ∈ lw_all := lw_g (lw_at lw_m3 181 rfl) rfl
theorem q698 : (Jvm.Cond.methodLink "LaneCrowds$Quarter" (149 : Nat) ({ cls := "LaneCrowds$Patrol", name := "goOn", desc := "()V" } : Jvm.MethodName)) ∈ lw_all := lw_g (lw_at lw_m3 182 rfl) rfl
theorem q702 : (Jvm.Cond.methodLink "LaneCrowds$Quarter" (139 : Nat) ({ cls := "LaneCrowds$Quarter", name := "seenBy", desc := "(LLaneCrowds$Crowd;)I" } : Jvm.MethodName)) ∈ lw_all := lw_g (lw_at lw_m3 186 rfl) rfl
theorem q711 : (Jvm.Cond.instanceMethod ({ cls := "LaneCrowds$Quarter", name := "copy", desc := "()LLaneCrowds$Quarter;" } : Jvm.MethodName)) ∈ lw_all := lw_g (lw_at lw_m3 195 rfl) rfl
theorem q712 : (Jvm.Cond.selects "LaneCrowds$Quarter" ({ cls := "LaneCrowds$Quarter", name := "copy", desc := "()LLaneCrowds$Quarter;" } : Jvm.MethodName) ({ cls := "LaneCrowds$Quarter", name := "copy", desc := "()LLaneCrowds$Quarter;" } : Jvm.MethodName)) ∈ lw_all := lw_g (lw_at lw_m3 196 rfl) rfl
theorem q713 : (Jvm.Cond.code ({ cls := "LaneCrowds$Quarter", name := "copy", desc := "()LLaneCrowds$Quarter;" } : Jvm.MethodName) prog_4_method_2_code (3 : Nat) (Option.some (Jvm.ClassFile.FieldType.object "LaneCrowds$Quarter"))) ∈ lw_all := lw_g (lw_at lw_m3 197 rfl) rfl
theorem q714 : (Jvm.Cond.classLink "LaneCrowds$Quarter" (10 : Nat) "LaneCrowds$Quarter") ∈ lw_all := lw_g (lw_at lw_m3 198 rfl) rfl
theorem q715 : (Jvm.Cond.methodLink "LaneCrowds$Quarter" (25 : Nat) ({ cls := "LaneCrowds$Quarter", name := "<init>", desc := "()V" } : Jvm.MethodName)) ∈ lw_all := lw_g (lw_at lw_m3 199 rfl) rfl
theorem q716 : (Jvm.Cond.methodLink "LaneCrowds$Quarter" (30 : Nat) ({ cls := "java/lang/System", name := "arraycopy", desc := "(Ljava/lang/Object;ILjava/lang/Object;II)V" } : Jvm.MethodName)) ∈ lw_all := lw_g (lw_at lw_m3 200 rfl) rfl
theorem q717 : (Jvm.Cond.methodLink "LaneCrowds$Quarter" (46 : Nat) ({ cls := "LaneCrowds$Crowd", name := "copy", desc := "()LLaneCrowds$Crowd;" } : Jvm.MethodName)) ∈ lw_all := lw_g (lw_at lw_m3 201 rfl) rfl
theorem q727 : (Jvm.Cond.methodLink "LaneCrowds$Quarter" (50 : Nat) ({ cls := "java/util/ArrayList", name := "add", desc := "(Ljava/lang/Object;)Z" } : Jvm.MethodName)) ∈ lw_all := lw_g (lw_at lw_m3 211 rfl) rfl
theorem q728 : (Jvm.Cond.methodLink "LaneCrowds$Quarter" (56 : Nat) ({ cls := "LaneCrowds$Patrol", name := "copy", desc := "()LLaneCrowds$Patrol;" } : Jvm.MethodName)) ∈ lw_all := lw_g (lw_at lw_m3 212 rfl) rfl
theorem q1043 : (Jvm.Cond.castable "LaneCrowds$Quarter" "java/lang/Object") ∈ lw_tbl := lw_at lw_m5 47 rfl
theorem in_X2 : ∀ w ∈ wsX20, w ∈ lw_all := lw_in wsX20 [112, 114, 116, 118] (by decide +kernel) (by decide +kernel)
